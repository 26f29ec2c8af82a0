/-! CopyPrices -/
set_option maxRecDepth 100000
def RX1 : String := "CopyPrices"
def TX1 : u_T := fun k => match k with
  | 0 => ("CopyPrices", "buffer", "[B", true)
  | 1 => ("CopyPrices", "buffered", "I", false)
  | 2 => ("CopyPrices", "errorCode", "I", false)
  | 3 => ("CopyPrices", "errorOffset", "I", false)
  | 4 => ("CopyPrices", "now", "LCopyPrices$World;", false)
  | 5 => ("CopyPrices", "table", "LCopyPrices$Table;", true)
  | 6 => ("CopyPrices", "saved", "LCopyPrices$World;", false)
  | 7 => ("CopyPrices", "past", "Ljava/util/ArrayDeque;", true)
  | _ => ("CopyPrices", "output", "Ljava/lang/String;", false)
def tyX1 : Nat → FieldType := fun k => match k with
  | 0 => .array .byte
  | 1 => .int
  | 2 => .int
  | 3 => .int
  | 4 => .object "CopyPrices$World"
  | 5 => .object "CopyPrices$Table"
  | 6 => .object "CopyPrices$World"
  | 7 => .object "java/util/ArrayDeque"
  | _ => .object "java/lang/String"
abbrev wsX10 : List Cond := u_ws RX1 TX1 9
theorem nmX1 : ∀ a, a < 9 → ∀ b, b < 9 → a ≠ b → (TX1 a).2.1 ≠ (TX1 b).2.1 := by decide +kernel
theorem tyX1_ok : ∀ k, k < 9 → parseFieldDescriptor (TX1 k).2.2.1 = some (tyX1 k) := by decide +kernel
abbrev cX1_init : ByteArray := prog_1_method_9_code
def yX1_init : MethodName := ⟨RX1, "<init>", "()V"⟩
def dkwX1_init_2 : List UInt8 := [181, 0, 52, 42, 18, 56, 181, 0, 58, 177]
abbrev dktX1_init_2 : List UInt8 := dkwX1_init_2 ++ []
def dkwX1_init_1 : List UInt8 := [181, 0, 36, 42, 187, 0, 40, 89, 183, 0, 42, 181, 0, 43, 42, 187, 0, 47, 89, 16, 9, 183, 0, 49]
abbrev dktX1_init_1 : List UInt8 := dkwX1_init_1 ++ dktX1_init_2
def dkwX1_init_0 : List UInt8 := [42, 183, 0, 21, 42, 17, 1, 244, 188, 8, 181, 0, 24, 42, 2, 181, 0, 28, 42, 184, 0, 32]
abbrev dktX1_init_0 : List UInt8 := dkwX1_init_0 ++ dktX1_init_1
theorem dksX1_init_0 : cX1_init.data.toList.drop 0 = dktX1_init_0 := by decide +kernel
theorem dksX1_init_1 : cX1_init.data.toList.drop 22 = dktX1_init_1 := dk_seg dksX1_init_0 22 rfl rfl
theorem dksX1_init_2 : cX1_init.data.toList.drop 46 = dktX1_init_2 := dk_seg dksX1_init_1 24 rfl rfl
theorem dX1_init_0 : decode cX1_init 0 = .ok (.aload_n 0, 1) := dk_42 (dk_at dksX1_init_0 0 rfl rfl)
theorem dX1_init_1 : decode cX1_init 1 = .ok (.invokespecial 21, 3) := dk_183 0 21 (dk_at dksX1_init_0 1 rfl rfl)
theorem dX1_init_4 : decode cX1_init 4 = .ok (.aload_n 0, 1) := dk_42 (dk_at dksX1_init_0 4 rfl rfl)
theorem dX1_init_5 : decode cX1_init 5 = .ok (.sipush 500, 3) := dk_17 1 244 (dk_at dksX1_init_0 5 rfl rfl)
theorem dX1_init_8 : decode cX1_init 8 = .ok (.newarray .byte, 2) := dk_188_8 (dk_at dksX1_init_0 8 rfl rfl)
theorem dX1_init_10 : decode cX1_init 10 = .ok (.putfield 24, 3) := dk_181 0 24 (dk_at dksX1_init_0 10 rfl rfl)
theorem dX1_init_13 : decode cX1_init 13 = .ok (.aload_n 0, 1) := dk_42 (dk_at dksX1_init_0 13 rfl rfl)
theorem dX1_init_14 : decode cX1_init 14 = .ok (.iconst (-1), 1) := dk_2 (dk_at dksX1_init_0 14 rfl rfl)
theorem dX1_init_15 : decode cX1_init 15 = .ok (.putfield 28, 3) := dk_181 0 28 (dk_at dksX1_init_0 15 rfl rfl)
theorem dX1_init_18 : decode cX1_init 18 = .ok (.aload_n 0, 1) := dk_42 (dk_at dksX1_init_0 18 rfl rfl)
theorem dX1_init_19 : decode cX1_init 19 = .ok (.invokestatic 32, 3) := dk_184 0 32 (dk_at dksX1_init_0 19 rfl rfl)
theorem dX1_init_22 : decode cX1_init 22 = .ok (.putfield 36, 3) := dk_181 0 36 (dk_at dksX1_init_1 0 rfl rfl)
theorem dX1_init_25 : decode cX1_init 25 = .ok (.aload_n 0, 1) := dk_42 (dk_at dksX1_init_1 3 rfl rfl)
theorem dX1_init_26 : decode cX1_init 26 = .ok (.new 40, 3) := dk_187 0 40 (dk_at dksX1_init_1 4 rfl rfl)
theorem dX1_init_29 : decode cX1_init 29 = .ok (.dup, 1) := dk_89 (dk_at dksX1_init_1 7 rfl rfl)
theorem dX1_init_30 : decode cX1_init 30 = .ok (.invokespecial 42, 3) := dk_183 0 42 (dk_at dksX1_init_1 8 rfl rfl)
theorem dX1_init_33 : decode cX1_init 33 = .ok (.putfield 43, 3) := dk_181 0 43 (dk_at dksX1_init_1 11 rfl rfl)
theorem dX1_init_36 : decode cX1_init 36 = .ok (.aload_n 0, 1) := dk_42 (dk_at dksX1_init_1 14 rfl rfl)
theorem dX1_init_37 : decode cX1_init 37 = .ok (.new 47, 3) := dk_187 0 47 (dk_at dksX1_init_1 15 rfl rfl)
theorem dX1_init_40 : decode cX1_init 40 = .ok (.dup, 1) := dk_89 (dk_at dksX1_init_1 18 rfl rfl)
theorem dX1_init_41 : decode cX1_init 41 = .ok (.bipush 9, 2) := dk_16 9 (dk_at dksX1_init_1 19 rfl rfl)
theorem dX1_init_43 : decode cX1_init 43 = .ok (.invokespecial 49, 3) := dk_183 0 49 (dk_at dksX1_init_1 21 rfl rfl)
theorem dX1_init_46 : decode cX1_init 46 = .ok (.putfield 52, 3) := dk_181 0 52 (dk_at dksX1_init_2 0 rfl rfl)
theorem dX1_init_49 : decode cX1_init 49 = .ok (.aload_n 0, 1) := dk_42 (dk_at dksX1_init_2 3 rfl rfl)
theorem dX1_init_50 : decode cX1_init 50 = .ok (.ldc 56, 2) := dk_18 56 (dk_at dksX1_init_2 4 rfl rfl)
theorem dX1_init_52 : decode cX1_init 52 = .ok (.putfield 58, 3) := dk_181 0 58 (dk_at dksX1_init_2 6 rfl rfl)
theorem dX1_init_55 : decode cX1_init 55 = .ok (.return_, 1) := dk_177 (dk_at dksX1_init_2 9 rfl rfl)
abbrev cX1_plain : ByteArray := prog_1_method_10_code
def yX1_plain : MethodName := ⟨RX1, "plain", "()LCopyPrices$World;"⟩
def dkwX1_plain_1 : List UInt8 := [167, 0, 6, 27, 6, 112, 182, 0, 65, 132, 1, 1, 167, 255, 230, 42, 176]
abbrev dktX1_plain_1 : List UInt8 := dkwX1_plain_1 ++ []
def dkwX1_plain_0 : List UInt8 := [187, 0, 62, 89, 183, 0, 64, 75, 3, 60, 27, 16, 9, 162, 0, 26, 42, 27, 16, 8, 160, 0, 7, 6]
abbrev dktX1_plain_0 : List UInt8 := dkwX1_plain_0 ++ dktX1_plain_1
theorem dksX1_plain_0 : cX1_plain.data.toList.drop 0 = dktX1_plain_0 := by decide +kernel
theorem dksX1_plain_1 : cX1_plain.data.toList.drop 24 = dktX1_plain_1 := dk_seg dksX1_plain_0 24 rfl rfl
theorem dX1_plain_0 : decode cX1_plain 0 = .ok (.new 62, 3) := dk_187 0 62 (dk_at dksX1_plain_0 0 rfl rfl)
theorem dX1_plain_3 : decode cX1_plain 3 = .ok (.dup, 1) := dk_89 (dk_at dksX1_plain_0 3 rfl rfl)
theorem dX1_plain_4 : decode cX1_plain 4 = .ok (.invokespecial 64, 3) := dk_183 0 64 (dk_at dksX1_plain_0 4 rfl rfl)
theorem dX1_plain_7 : decode cX1_plain 7 = .ok (.astore_n 0, 1) := dk_75 (dk_at dksX1_plain_0 7 rfl rfl)
theorem dX1_plain_8 : decode cX1_plain 8 = .ok (.iconst 0, 1) := dk_3 (dk_at dksX1_plain_0 8 rfl rfl)
theorem dX1_plain_9 : decode cX1_plain 9 = .ok (.istore_n 1, 1) := dk_60 (dk_at dksX1_plain_0 9 rfl rfl)
theorem dX1_plain_10 : decode cX1_plain 10 = .ok (.iload_n 1, 1) := dk_27 (dk_at dksX1_plain_0 10 rfl rfl)
theorem dX1_plain_11 : decode cX1_plain 11 = .ok (.bipush 9, 2) := dk_16 9 (dk_at dksX1_plain_0 11 rfl rfl)
theorem dX1_plain_13 : decode cX1_plain 13 = .ok (.if_icmp .ge 26, 3) := dk_162 0 26 (dk_at dksX1_plain_0 13 rfl rfl)
theorem dX1_plain_16 : decode cX1_plain 16 = .ok (.aload_n 0, 1) := dk_42 (dk_at dksX1_plain_0 16 rfl rfl)
theorem dX1_plain_17 : decode cX1_plain 17 = .ok (.iload_n 1, 1) := dk_27 (dk_at dksX1_plain_0 17 rfl rfl)
theorem dX1_plain_18 : decode cX1_plain 18 = .ok (.bipush 8, 2) := dk_16 8 (dk_at dksX1_plain_0 18 rfl rfl)
theorem dX1_plain_20 : decode cX1_plain 20 = .ok (.if_icmp .ne 7, 3) := dk_160 0 7 (dk_at dksX1_plain_0 20 rfl rfl)
theorem dX1_plain_23 : decode cX1_plain 23 = .ok (.iconst 3, 1) := dk_6 (dk_at dksX1_plain_0 23 rfl rfl)
theorem dX1_plain_24 : decode cX1_plain 24 = .ok (.goto 6, 3) := dk_167 0 6 (dk_at dksX1_plain_1 0 rfl rfl)
theorem dX1_plain_27 : decode cX1_plain 27 = .ok (.iload_n 1, 1) := dk_27 (dk_at dksX1_plain_1 3 rfl rfl)
theorem dX1_plain_28 : decode cX1_plain 28 = .ok (.iconst 3, 1) := dk_6 (dk_at dksX1_plain_1 4 rfl rfl)
theorem dX1_plain_29 : decode cX1_plain 29 = .ok (.irem, 1) := dk_112 (dk_at dksX1_plain_1 5 rfl rfl)
theorem dX1_plain_30 : decode cX1_plain 30 = .ok (.invokevirtual 65, 3) := dk_182 0 65 (dk_at dksX1_plain_1 6 rfl rfl)
theorem dX1_plain_33 : decode cX1_plain 33 = .ok (.iinc 1 1, 3) := dk_132 1 1 (dk_at dksX1_plain_1 9 rfl rfl)
theorem dX1_plain_36 : decode cX1_plain 36 = .ok (.goto (-26), 3) := dk_167 255 230 (dk_at dksX1_plain_1 12 rfl rfl)
theorem dX1_plain_39 : decode cX1_plain 39 = .ok (.aload_n 0, 1) := dk_42 (dk_at dksX1_plain_1 15 rfl rfl)
theorem dX1_plain_40 : decode cX1_plain 40 = .ok (.areturn, 1) := dk_176 (dk_at dksX1_plain_1 16 rfl rfl)
abbrev cX1_appendInput : ByteArray := prog_1_method_12_code
def yX1_appendInput : MethodName := ⟨RX1, "appendInput", "(IIIII)I"⟩
def dkwX1_appendInput_2 : List UInt8 := [172]
abbrev dktX1_appendInput_2 : List UInt8 := dkwX1_appendInput_2 ++ []
def dkwX1_appendInput_1 : List UInt8 := [4, 28, 79, 89, 5, 29, 79, 89, 6, 21, 4, 79, 89, 7, 21, 5, 79, 182, 0, 71, 42, 180, 0, 68]
abbrev dktX1_appendInput_1 : List UInt8 := dkwX1_appendInput_1 ++ dktX1_appendInput_2
def dkwX1_appendInput_0 : List UInt8 := [42, 180, 0, 68, 16, 20, 96, 17, 1, 244, 164, 0, 5, 2, 172, 42, 8, 188, 10, 89, 3, 27, 79, 89]
abbrev dktX1_appendInput_0 : List UInt8 := dkwX1_appendInput_0 ++ dktX1_appendInput_1
theorem dksX1_appendInput_0 : cX1_appendInput.data.toList.drop 0 = dktX1_appendInput_0 := by decide +kernel
theorem dksX1_appendInput_1 : cX1_appendInput.data.toList.drop 24 = dktX1_appendInput_1 := dk_seg dksX1_appendInput_0 24 rfl rfl
theorem dksX1_appendInput_2 : cX1_appendInput.data.toList.drop 48 = dktX1_appendInput_2 := dk_seg dksX1_appendInput_1 24 rfl rfl
theorem dX1_appendInput_0 : decode cX1_appendInput 0 = .ok (.aload_n 0, 1) := dk_42 (dk_at dksX1_appendInput_0 0 rfl rfl)
theorem dX1_appendInput_1 : decode cX1_appendInput 1 = .ok (.getfield 68, 3) := dk_180 0 68 (dk_at dksX1_appendInput_0 1 rfl rfl)
theorem dX1_appendInput_4 : decode cX1_appendInput 4 = .ok (.bipush 20, 2) := dk_16 20 (dk_at dksX1_appendInput_0 4 rfl rfl)
theorem dX1_appendInput_6 : decode cX1_appendInput 6 = .ok (.iadd, 1) := dk_96 (dk_at dksX1_appendInput_0 6 rfl rfl)
theorem dX1_appendInput_7 : decode cX1_appendInput 7 = .ok (.sipush 500, 3) := dk_17 1 244 (dk_at dksX1_appendInput_0 7 rfl rfl)
theorem dX1_appendInput_10 : decode cX1_appendInput 10 = .ok (.if_icmp .le 5, 3) := dk_164 0 5 (dk_at dksX1_appendInput_0 10 rfl rfl)
theorem dX1_appendInput_13 : decode cX1_appendInput 13 = .ok (.iconst (-1), 1) := dk_2 (dk_at dksX1_appendInput_0 13 rfl rfl)
theorem dX1_appendInput_14 : decode cX1_appendInput 14 = .ok (.ireturn, 1) := dk_172 (dk_at dksX1_appendInput_0 14 rfl rfl)
theorem dX1_appendInput_15 : decode cX1_appendInput 15 = .ok (.aload_n 0, 1) := dk_42 (dk_at dksX1_appendInput_0 15 rfl rfl)
theorem dX1_appendInput_16 : decode cX1_appendInput 16 = .ok (.iconst 5, 1) := dk_8 (dk_at dksX1_appendInput_0 16 rfl rfl)
theorem dX1_appendInput_17 : decode cX1_appendInput 17 = .ok (.newarray .int, 2) := dk_188_10 (dk_at dksX1_appendInput_0 17 rfl rfl)
theorem dX1_appendInput_19 : decode cX1_appendInput 19 = .ok (.dup, 1) := dk_89 (dk_at dksX1_appendInput_0 19 rfl rfl)
theorem dX1_appendInput_20 : decode cX1_appendInput 20 = .ok (.iconst 0, 1) := dk_3 (dk_at dksX1_appendInput_0 20 rfl rfl)
theorem dX1_appendInput_21 : decode cX1_appendInput 21 = .ok (.iload_n 1, 1) := dk_27 (dk_at dksX1_appendInput_0 21 rfl rfl)
theorem dX1_appendInput_22 : decode cX1_appendInput 22 = .ok (.iastore, 1) := dk_79 (dk_at dksX1_appendInput_0 22 rfl rfl)
theorem dX1_appendInput_23 : decode cX1_appendInput 23 = .ok (.dup, 1) := dk_89 (dk_at dksX1_appendInput_0 23 rfl rfl)
theorem dX1_appendInput_24 : decode cX1_appendInput 24 = .ok (.iconst 1, 1) := dk_4 (dk_at dksX1_appendInput_1 0 rfl rfl)
theorem dX1_appendInput_25 : decode cX1_appendInput 25 = .ok (.iload_n 2, 1) := dk_28 (dk_at dksX1_appendInput_1 1 rfl rfl)
theorem dX1_appendInput_26 : decode cX1_appendInput 26 = .ok (.iastore, 1) := dk_79 (dk_at dksX1_appendInput_1 2 rfl rfl)
theorem dX1_appendInput_27 : decode cX1_appendInput 27 = .ok (.dup, 1) := dk_89 (dk_at dksX1_appendInput_1 3 rfl rfl)
theorem dX1_appendInput_28 : decode cX1_appendInput 28 = .ok (.iconst 2, 1) := dk_5 (dk_at dksX1_appendInput_1 4 rfl rfl)
theorem dX1_appendInput_29 : decode cX1_appendInput 29 = .ok (.iload_n 3, 1) := dk_29 (dk_at dksX1_appendInput_1 5 rfl rfl)
theorem dX1_appendInput_30 : decode cX1_appendInput 30 = .ok (.iastore, 1) := dk_79 (dk_at dksX1_appendInput_1 6 rfl rfl)
theorem dX1_appendInput_31 : decode cX1_appendInput 31 = .ok (.dup, 1) := dk_89 (dk_at dksX1_appendInput_1 7 rfl rfl)
theorem dX1_appendInput_32 : decode cX1_appendInput 32 = .ok (.iconst 3, 1) := dk_6 (dk_at dksX1_appendInput_1 8 rfl rfl)
theorem dX1_appendInput_33 : decode cX1_appendInput 33 = .ok (.iload 4, 2) := dk_21 4 (dk_at dksX1_appendInput_1 9 rfl rfl)
theorem dX1_appendInput_35 : decode cX1_appendInput 35 = .ok (.iastore, 1) := dk_79 (dk_at dksX1_appendInput_1 11 rfl rfl)
theorem dX1_appendInput_36 : decode cX1_appendInput 36 = .ok (.dup, 1) := dk_89 (dk_at dksX1_appendInput_1 12 rfl rfl)
theorem dX1_appendInput_37 : decode cX1_appendInput 37 = .ok (.iconst 4, 1) := dk_7 (dk_at dksX1_appendInput_1 13 rfl rfl)
theorem dX1_appendInput_38 : decode cX1_appendInput 38 = .ok (.iload 5, 2) := dk_21 5 (dk_at dksX1_appendInput_1 14 rfl rfl)
theorem dX1_appendInput_40 : decode cX1_appendInput 40 = .ok (.iastore, 1) := dk_79 (dk_at dksX1_appendInput_1 16 rfl rfl)
theorem dX1_appendInput_41 : decode cX1_appendInput 41 = .ok (.invokevirtual 71, 3) := dk_182 0 71 (dk_at dksX1_appendInput_1 17 rfl rfl)
theorem dX1_appendInput_44 : decode cX1_appendInput 44 = .ok (.aload_n 0, 1) := dk_42 (dk_at dksX1_appendInput_1 20 rfl rfl)
theorem dX1_appendInput_45 : decode cX1_appendInput 45 = .ok (.getfield 68, 3) := dk_180 0 68 (dk_at dksX1_appendInput_1 21 rfl rfl)
theorem dX1_appendInput_48 : decode cX1_appendInput 48 = .ok (.ireturn, 1) := dk_172 (dk_at dksX1_appendInput_2 0 rfl rfl)
abbrev cX1_puts : ByteArray := prog_1_method_11_code
def yX1_puts : MethodName := ⟨RX1, "puts", "([I)V"⟩
def dkwX1_puts_2 : List UInt8 := [180, 0, 68, 4, 96, 181, 0, 68, 132, 6, 248, 167, 255, 223, 132, 4, 1, 167, 255, 201, 177]
abbrev dktX1_puts_2 : List UInt8 := dkwX1_puts_2 ++ []
def dkwX1_puts_1 : List UInt8 := [21, 6, 155, 0, 34, 42, 180, 0, 24, 42, 180, 0, 68, 21, 5, 21, 6, 122, 145, 84, 42, 89]
abbrev dktX1_puts_1 : List UInt8 := dkwX1_puts_1 ++ dktX1_puts_2
def dkwX1_puts_0 : List UInt8 := [43, 77, 44, 190, 62, 3, 54, 4, 21, 4, 29, 162, 0, 55, 44, 21, 4, 46, 54, 5, 16, 24, 54, 6]
abbrev dktX1_puts_0 : List UInt8 := dkwX1_puts_0 ++ dktX1_puts_1
theorem dksX1_puts_0 : cX1_puts.data.toList.drop 0 = dktX1_puts_0 := by decide +kernel
theorem dksX1_puts_1 : cX1_puts.data.toList.drop 24 = dktX1_puts_1 := dk_seg dksX1_puts_0 24 rfl rfl
theorem dksX1_puts_2 : cX1_puts.data.toList.drop 46 = dktX1_puts_2 := dk_seg dksX1_puts_1 22 rfl rfl
theorem dX1_puts_0 : decode cX1_puts 0 = .ok (.aload_n 1, 1) := dk_43 (dk_at dksX1_puts_0 0 rfl rfl)
theorem dX1_puts_1 : decode cX1_puts 1 = .ok (.astore_n 2, 1) := dk_77 (dk_at dksX1_puts_0 1 rfl rfl)
theorem dX1_puts_2 : decode cX1_puts 2 = .ok (.aload_n 2, 1) := dk_44 (dk_at dksX1_puts_0 2 rfl rfl)
theorem dX1_puts_3 : decode cX1_puts 3 = .ok (.arraylength, 1) := dk_190 (dk_at dksX1_puts_0 3 rfl rfl)
theorem dX1_puts_4 : decode cX1_puts 4 = .ok (.istore_n 3, 1) := dk_62 (dk_at dksX1_puts_0 4 rfl rfl)
theorem dX1_puts_5 : decode cX1_puts 5 = .ok (.iconst 0, 1) := dk_3 (dk_at dksX1_puts_0 5 rfl rfl)
theorem dX1_puts_6 : decode cX1_puts 6 = .ok (.istore 4, 2) := dk_54 4 (dk_at dksX1_puts_0 6 rfl rfl)
theorem dX1_puts_8 : decode cX1_puts 8 = .ok (.iload 4, 2) := dk_21 4 (dk_at dksX1_puts_0 8 rfl rfl)
theorem dX1_puts_10 : decode cX1_puts 10 = .ok (.iload_n 3, 1) := dk_29 (dk_at dksX1_puts_0 10 rfl rfl)
theorem dX1_puts_11 : decode cX1_puts 11 = .ok (.if_icmp .ge 55, 3) := dk_162 0 55 (dk_at dksX1_puts_0 11 rfl rfl)
theorem dX1_puts_14 : decode cX1_puts 14 = .ok (.aload_n 2, 1) := dk_44 (dk_at dksX1_puts_0 14 rfl rfl)
theorem dX1_puts_15 : decode cX1_puts 15 = .ok (.iload 4, 2) := dk_21 4 (dk_at dksX1_puts_0 15 rfl rfl)
theorem dX1_puts_17 : decode cX1_puts 17 = .ok (.iaload, 1) := dk_46 (dk_at dksX1_puts_0 17 rfl rfl)
theorem dX1_puts_18 : decode cX1_puts 18 = .ok (.istore 5, 2) := dk_54 5 (dk_at dksX1_puts_0 18 rfl rfl)
theorem dX1_puts_20 : decode cX1_puts 20 = .ok (.bipush 24, 2) := dk_16 24 (dk_at dksX1_puts_0 20 rfl rfl)
theorem dX1_puts_22 : decode cX1_puts 22 = .ok (.istore 6, 2) := dk_54 6 (dk_at dksX1_puts_0 22 rfl rfl)
theorem dX1_puts_24 : decode cX1_puts 24 = .ok (.iload 6, 2) := dk_21 6 (dk_at dksX1_puts_1 0 rfl rfl)
theorem dX1_puts_26 : decode cX1_puts 26 = .ok (.ifCond .lt 34, 3) := dk_155 0 34 (dk_at dksX1_puts_1 2 rfl rfl)
theorem dX1_puts_29 : decode cX1_puts 29 = .ok (.aload_n 0, 1) := dk_42 (dk_at dksX1_puts_1 5 rfl rfl)
theorem dX1_puts_30 : decode cX1_puts 30 = .ok (.getfield 24, 3) := dk_180 0 24 (dk_at dksX1_puts_1 6 rfl rfl)
theorem dX1_puts_33 : decode cX1_puts 33 = .ok (.aload_n 0, 1) := dk_42 (dk_at dksX1_puts_1 9 rfl rfl)
theorem dX1_puts_34 : decode cX1_puts 34 = .ok (.getfield 68, 3) := dk_180 0 68 (dk_at dksX1_puts_1 10 rfl rfl)
theorem dX1_puts_37 : decode cX1_puts 37 = .ok (.iload 5, 2) := dk_21 5 (dk_at dksX1_puts_1 13 rfl rfl)
theorem dX1_puts_39 : decode cX1_puts 39 = .ok (.iload 6, 2) := dk_21 6 (dk_at dksX1_puts_1 15 rfl rfl)
theorem dX1_puts_41 : decode cX1_puts 41 = .ok (.ishr, 1) := dk_122 (dk_at dksX1_puts_1 17 rfl rfl)
theorem dX1_puts_42 : decode cX1_puts 42 = .ok (.i2b, 1) := dk_145 (dk_at dksX1_puts_1 18 rfl rfl)
theorem dX1_puts_43 : decode cX1_puts 43 = .ok (.bastore, 1) := dk_84 (dk_at dksX1_puts_1 19 rfl rfl)
theorem dX1_puts_44 : decode cX1_puts 44 = .ok (.aload_n 0, 1) := dk_42 (dk_at dksX1_puts_1 20 rfl rfl)
theorem dX1_puts_45 : decode cX1_puts 45 = .ok (.dup, 1) := dk_89 (dk_at dksX1_puts_1 21 rfl rfl)
theorem dX1_puts_46 : decode cX1_puts 46 = .ok (.getfield 68, 3) := dk_180 0 68 (dk_at dksX1_puts_2 0 rfl rfl)
theorem dX1_puts_49 : decode cX1_puts 49 = .ok (.iconst 1, 1) := dk_4 (dk_at dksX1_puts_2 3 rfl rfl)
theorem dX1_puts_50 : decode cX1_puts 50 = .ok (.iadd, 1) := dk_96 (dk_at dksX1_puts_2 4 rfl rfl)
theorem dX1_puts_51 : decode cX1_puts 51 = .ok (.putfield 68, 3) := dk_181 0 68 (dk_at dksX1_puts_2 5 rfl rfl)
theorem dX1_puts_54 : decode cX1_puts 54 = .ok (.iinc 6 (-8), 3) := dk_132 6 248 (dk_at dksX1_puts_2 8 rfl rfl)
theorem dX1_puts_57 : decode cX1_puts 57 = .ok (.goto (-33), 3) := dk_167 255 223 (dk_at dksX1_puts_2 11 rfl rfl)
theorem dX1_puts_60 : decode cX1_puts 60 = .ok (.iinc 4 1, 3) := dk_132 4 1 (dk_at dksX1_puts_2 14 rfl rfl)
theorem dX1_puts_63 : decode cX1_puts 63 = .ok (.goto (-55), 3) := dk_167 255 201 (dk_at dksX1_puts_2 17 rfl rfl)
theorem dX1_puts_66 : decode cX1_puts 66 = .ok (.return_, 1) := dk_177 (dk_at dksX1_puts_2 20 rfl rfl)
abbrev cX1_truncateInput : ByteArray := prog_1_method_13_code
def yX1_truncateInput : MethodName := ⟨RX1, "truncateInput", "(I)Z"⟩
def dkwX1_truncateInput_0 : List UInt8 := [27, 133, 9, 42, 180, 0, 68, 133, 184, 0, 75, 154, 0, 5, 3, 172, 42, 27, 181, 0, 68, 4, 172]
abbrev dktX1_truncateInput_0 : List UInt8 := dkwX1_truncateInput_0 ++ []
theorem dksX1_truncateInput_0 : cX1_truncateInput.data.toList.drop 0 = dktX1_truncateInput_0 := by decide +kernel
theorem dX1_truncateInput_0 : decode cX1_truncateInput 0 = .ok (.iload_n 1, 1) := dk_27 (dk_at dksX1_truncateInput_0 0 rfl rfl)
theorem dX1_truncateInput_1 : decode cX1_truncateInput 1 = .ok (.i2l, 1) := dk_133 (dk_at dksX1_truncateInput_0 1 rfl rfl)
theorem dX1_truncateInput_2 : decode cX1_truncateInput 2 = .ok (.lconst 0, 1) := dk_9 (dk_at dksX1_truncateInput_0 2 rfl rfl)
theorem dX1_truncateInput_3 : decode cX1_truncateInput 3 = .ok (.aload_n 0, 1) := dk_42 (dk_at dksX1_truncateInput_0 3 rfl rfl)
theorem dX1_truncateInput_4 : decode cX1_truncateInput 4 = .ok (.getfield 68, 3) := dk_180 0 68 (dk_at dksX1_truncateInput_0 4 rfl rfl)
theorem dX1_truncateInput_7 : decode cX1_truncateInput 7 = .ok (.i2l, 1) := dk_133 (dk_at dksX1_truncateInput_0 7 rfl rfl)
theorem dX1_truncateInput_8 : decode cX1_truncateInput 8 = .ok (.invokestatic 75, 3) := dk_184 0 75 (dk_at dksX1_truncateInput_0 8 rfl rfl)
theorem dX1_truncateInput_11 : decode cX1_truncateInput 11 = .ok (.ifCond .ne 5, 3) := dk_154 0 5 (dk_at dksX1_truncateInput_0 11 rfl rfl)
theorem dX1_truncateInput_14 : decode cX1_truncateInput 14 = .ok (.iconst 0, 1) := dk_3 (dk_at dksX1_truncateInput_0 14 rfl rfl)
theorem dX1_truncateInput_15 : decode cX1_truncateInput 15 = .ok (.ireturn, 1) := dk_172 (dk_at dksX1_truncateInput_0 15 rfl rfl)
theorem dX1_truncateInput_16 : decode cX1_truncateInput 16 = .ok (.aload_n 0, 1) := dk_42 (dk_at dksX1_truncateInput_0 16 rfl rfl)
theorem dX1_truncateInput_17 : decode cX1_truncateInput 17 = .ok (.iload_n 1, 1) := dk_27 (dk_at dksX1_truncateInput_0 17 rfl rfl)
theorem dX1_truncateInput_18 : decode cX1_truncateInput 18 = .ok (.putfield 68, 3) := dk_181 0 68 (dk_at dksX1_truncateInput_0 18 rfl rfl)
theorem dX1_truncateInput_21 : decode cX1_truncateInput 21 = .ok (.iconst 1, 1) := dk_4 (dk_at dksX1_truncateInput_0 21 rfl rfl)
theorem dX1_truncateInput_22 : decode cX1_truncateInput 22 = .ok (.ireturn, 1) := dk_172 (dk_at dksX1_truncateInput_0 22 rfl rfl)
abbrev cX1_in : ByteArray := prog_1_method_1_code
def yX1_in : MethodName := ⟨RX1, "in", "(JJJ)Z"⟩
def dkwX1_in_0 : List UInt8 := [30, 32, 148, 155, 0, 14, 30, 22, 4, 148, 157, 0, 7, 4, 167, 0, 4, 3, 172]
abbrev dktX1_in_0 : List UInt8 := dkwX1_in_0 ++ []
theorem dksX1_in_0 : cX1_in.data.toList.drop 0 = dktX1_in_0 := by decide +kernel
theorem dX1_in_0 : decode cX1_in 0 = .ok (.lload_n 0, 1) := dk_30 (dk_at dksX1_in_0 0 rfl rfl)
theorem dX1_in_1 : decode cX1_in 1 = .ok (.lload_n 2, 1) := dk_32 (dk_at dksX1_in_0 1 rfl rfl)
theorem dX1_in_2 : decode cX1_in 2 = .ok (.lcmp, 1) := dk_148 (dk_at dksX1_in_0 2 rfl rfl)
theorem dX1_in_3 : decode cX1_in 3 = .ok (.ifCond .lt 14, 3) := dk_155 0 14 (dk_at dksX1_in_0 3 rfl rfl)
theorem dX1_in_6 : decode cX1_in 6 = .ok (.lload_n 0, 1) := dk_30 (dk_at dksX1_in_0 6 rfl rfl)
theorem dX1_in_7 : decode cX1_in 7 = .ok (.lload 4, 2) := dk_22 4 (dk_at dksX1_in_0 7 rfl rfl)
theorem dX1_in_9 : decode cX1_in 9 = .ok (.lcmp, 1) := dk_148 (dk_at dksX1_in_0 9 rfl rfl)
theorem dX1_in_10 : decode cX1_in 10 = .ok (.ifCond .gt 7, 3) := dk_157 0 7 (dk_at dksX1_in_0 10 rfl rfl)
theorem dX1_in_13 : decode cX1_in 13 = .ok (.iconst 1, 1) := dk_4 (dk_at dksX1_in_0 13 rfl rfl)
theorem dX1_in_14 : decode cX1_in 14 = .ok (.goto 4, 3) := dk_167 0 4 (dk_at dksX1_in_0 14 rfl rfl)
theorem dX1_in_17 : decode cX1_in 17 = .ok (.iconst 0, 1) := dk_3 (dk_at dksX1_in_0 17 rfl rfl)
theorem dX1_in_18 : decode cX1_in 18 = .ok (.ireturn, 1) := dk_172 (dk_at dksX1_in_0 18 rfl rfl)
abbrev cX1_loadText : ByteArray := prog_1_method_14_code
def yX1_loadText : MethodName := ⟨RX1, "loadText", "()I"⟩
def dkwX1_loadText_2 : List UInt8 := [172, 42, 180, 0, 52, 182, 0, 98, 42, 1, 181, 0, 101, 42, 180, 0, 36, 180, 0, 104, 172]
abbrev dktX1_loadText_2 : List UInt8 := dkwX1_loadText_2 ++ []
def dkwX1_loadText_1 : List UInt8 := [181, 0, 36, 167, 0, 22, 76, 42, 43, 180, 0, 92, 181, 0, 79, 42, 43, 180, 0, 95, 181, 0, 28, 2]
abbrev dktX1_loadText_1 : List UInt8 := dkwX1_loadText_1 ++ dktX1_loadText_2
def dkwX1_loadText_0 : List UInt8 := [42, 3, 181, 0, 79, 42, 2, 181, 0, 28, 42, 187, 0, 82, 89, 42, 183, 0, 84, 182, 0, 87]
abbrev dktX1_loadText_0 : List UInt8 := dkwX1_loadText_0 ++ dktX1_loadText_1
theorem dksX1_loadText_0 : cX1_loadText.data.toList.drop 0 = dktX1_loadText_0 := by decide +kernel
theorem dksX1_loadText_1 : cX1_loadText.data.toList.drop 22 = dktX1_loadText_1 := dk_seg dksX1_loadText_0 22 rfl rfl
theorem dksX1_loadText_2 : cX1_loadText.data.toList.drop 46 = dktX1_loadText_2 := dk_seg dksX1_loadText_1 24 rfl rfl
theorem dX1_loadText_0 : decode cX1_loadText 0 = .ok (.aload_n 0, 1) := dk_42 (dk_at dksX1_loadText_0 0 rfl rfl)
theorem dX1_loadText_1 : decode cX1_loadText 1 = .ok (.iconst 0, 1) := dk_3 (dk_at dksX1_loadText_0 1 rfl rfl)
theorem dX1_loadText_2 : decode cX1_loadText 2 = .ok (.putfield 79, 3) := dk_181 0 79 (dk_at dksX1_loadText_0 2 rfl rfl)
theorem dX1_loadText_5 : decode cX1_loadText 5 = .ok (.aload_n 0, 1) := dk_42 (dk_at dksX1_loadText_0 5 rfl rfl)
theorem dX1_loadText_6 : decode cX1_loadText 6 = .ok (.iconst (-1), 1) := dk_2 (dk_at dksX1_loadText_0 6 rfl rfl)
theorem dX1_loadText_7 : decode cX1_loadText 7 = .ok (.putfield 28, 3) := dk_181 0 28 (dk_at dksX1_loadText_0 7 rfl rfl)
theorem dX1_loadText_10 : decode cX1_loadText 10 = .ok (.aload_n 0, 1) := dk_42 (dk_at dksX1_loadText_0 10 rfl rfl)
theorem dX1_loadText_11 : decode cX1_loadText 11 = .ok (.new 82, 3) := dk_187 0 82 (dk_at dksX1_loadText_0 11 rfl rfl)
theorem dX1_loadText_14 : decode cX1_loadText 14 = .ok (.dup, 1) := dk_89 (dk_at dksX1_loadText_0 14 rfl rfl)
theorem dX1_loadText_15 : decode cX1_loadText 15 = .ok (.aload_n 0, 1) := dk_42 (dk_at dksX1_loadText_0 15 rfl rfl)
theorem dX1_loadText_16 : decode cX1_loadText 16 = .ok (.invokespecial 84, 3) := dk_183 0 84 (dk_at dksX1_loadText_0 16 rfl rfl)
theorem dX1_loadText_19 : decode cX1_loadText 19 = .ok (.invokevirtual 87, 3) := dk_182 0 87 (dk_at dksX1_loadText_0 19 rfl rfl)
theorem dX1_loadText_22 : decode cX1_loadText 22 = .ok (.putfield 36, 3) := dk_181 0 36 (dk_at dksX1_loadText_1 0 rfl rfl)
theorem dX1_loadText_25 : decode cX1_loadText 25 = .ok (.goto 22, 3) := dk_167 0 22 (dk_at dksX1_loadText_1 3 rfl rfl)
theorem dX1_loadText_28 : decode cX1_loadText 28 = .ok (.astore_n 1, 1) := dk_76 (dk_at dksX1_loadText_1 6 rfl rfl)
theorem dX1_loadText_29 : decode cX1_loadText 29 = .ok (.aload_n 0, 1) := dk_42 (dk_at dksX1_loadText_1 7 rfl rfl)
theorem dX1_loadText_30 : decode cX1_loadText 30 = .ok (.aload_n 1, 1) := dk_43 (dk_at dksX1_loadText_1 8 rfl rfl)
theorem dX1_loadText_31 : decode cX1_loadText 31 = .ok (.getfield 92, 3) := dk_180 0 92 (dk_at dksX1_loadText_1 9 rfl rfl)
theorem dX1_loadText_34 : decode cX1_loadText 34 = .ok (.putfield 79, 3) := dk_181 0 79 (dk_at dksX1_loadText_1 12 rfl rfl)
theorem dX1_loadText_37 : decode cX1_loadText 37 = .ok (.aload_n 0, 1) := dk_42 (dk_at dksX1_loadText_1 15 rfl rfl)
theorem dX1_loadText_38 : decode cX1_loadText 38 = .ok (.aload_n 1, 1) := dk_43 (dk_at dksX1_loadText_1 16 rfl rfl)
theorem dX1_loadText_39 : decode cX1_loadText 39 = .ok (.getfield 95, 3) := dk_180 0 95 (dk_at dksX1_loadText_1 17 rfl rfl)
theorem dX1_loadText_42 : decode cX1_loadText 42 = .ok (.putfield 28, 3) := dk_181 0 28 (dk_at dksX1_loadText_1 20 rfl rfl)
theorem dX1_loadText_45 : decode cX1_loadText 45 = .ok (.iconst (-1), 1) := dk_2 (dk_at dksX1_loadText_1 23 rfl rfl)
theorem dX1_loadText_46 : decode cX1_loadText 46 = .ok (.ireturn, 1) := dk_172 (dk_at dksX1_loadText_2 0 rfl rfl)
theorem dX1_loadText_47 : decode cX1_loadText 47 = .ok (.aload_n 0, 1) := dk_42 (dk_at dksX1_loadText_2 1 rfl rfl)
theorem dX1_loadText_48 : decode cX1_loadText 48 = .ok (.getfield 52, 3) := dk_180 0 52 (dk_at dksX1_loadText_2 2 rfl rfl)
theorem dX1_loadText_51 : decode cX1_loadText 51 = .ok (.invokevirtual 98, 3) := dk_182 0 98 (dk_at dksX1_loadText_2 5 rfl rfl)
theorem dX1_loadText_54 : decode cX1_loadText 54 = .ok (.aload_n 0, 1) := dk_42 (dk_at dksX1_loadText_2 8 rfl rfl)
theorem dX1_loadText_55 : decode cX1_loadText 55 = .ok (.aconst_null, 1) := dk_1 (dk_at dksX1_loadText_2 9 rfl rfl)
theorem dX1_loadText_56 : decode cX1_loadText 56 = .ok (.putfield 101, 3) := dk_181 0 101 (dk_at dksX1_loadText_2 10 rfl rfl)
theorem dX1_loadText_59 : decode cX1_loadText 59 = .ok (.aload_n 0, 1) := dk_42 (dk_at dksX1_loadText_2 13 rfl rfl)
theorem dX1_loadText_60 : decode cX1_loadText 60 = .ok (.getfield 36, 3) := dk_180 0 36 (dk_at dksX1_loadText_2 14 rfl rfl)
theorem dX1_loadText_63 : decode cX1_loadText 63 = .ok (.getfield 104, 3) := dk_180 0 104 (dk_at dksX1_loadText_2 17 rfl rfl)
theorem dX1_loadText_66 : decode cX1_loadText 66 = .ok (.ireturn, 1) := dk_172 (dk_at dksX1_loadText_2 20 rfl rfl)
abbrev cX1_leastOf : ByteArray := prog_1_method_7_code
def yX1_leastOf : MethodName := ⟨RX1, "leastOf", "(I)I"⟩
def dkwX1_leastOf_0 : List UInt8 := [26, 5, 160, 0, 7, 5, 167, 0, 13, 26, 6, 160, 0, 7, 7, 167, 0, 4, 4, 172]
abbrev dktX1_leastOf_0 : List UInt8 := dkwX1_leastOf_0 ++ []
theorem dksX1_leastOf_0 : cX1_leastOf.data.toList.drop 0 = dktX1_leastOf_0 := by decide +kernel
theorem dX1_leastOf_0 : decode cX1_leastOf 0 = .ok (.iload_n 0, 1) := dk_26 (dk_at dksX1_leastOf_0 0 rfl rfl)
theorem dX1_leastOf_1 : decode cX1_leastOf 1 = .ok (.iconst 2, 1) := dk_5 (dk_at dksX1_leastOf_0 1 rfl rfl)
theorem dX1_leastOf_2 : decode cX1_leastOf 2 = .ok (.if_icmp .ne 7, 3) := dk_160 0 7 (dk_at dksX1_leastOf_0 2 rfl rfl)
theorem dX1_leastOf_5 : decode cX1_leastOf 5 = .ok (.iconst 2, 1) := dk_5 (dk_at dksX1_leastOf_0 5 rfl rfl)
theorem dX1_leastOf_6 : decode cX1_leastOf 6 = .ok (.goto 13, 3) := dk_167 0 13 (dk_at dksX1_leastOf_0 6 rfl rfl)
theorem dX1_leastOf_9 : decode cX1_leastOf 9 = .ok (.iload_n 0, 1) := dk_26 (dk_at dksX1_leastOf_0 9 rfl rfl)
theorem dX1_leastOf_10 : decode cX1_leastOf 10 = .ok (.iconst 3, 1) := dk_6 (dk_at dksX1_leastOf_0 10 rfl rfl)
theorem dX1_leastOf_11 : decode cX1_leastOf 11 = .ok (.if_icmp .ne 7, 3) := dk_160 0 7 (dk_at dksX1_leastOf_0 11 rfl rfl)
theorem dX1_leastOf_14 : decode cX1_leastOf 14 = .ok (.iconst 4, 1) := dk_7 (dk_at dksX1_leastOf_0 14 rfl rfl)
theorem dX1_leastOf_15 : decode cX1_leastOf 15 = .ok (.goto 4, 3) := dk_167 0 4 (dk_at dksX1_leastOf_0 15 rfl rfl)
theorem dX1_leastOf_18 : decode cX1_leastOf 18 = .ok (.iconst 1, 1) := dk_4 (dk_at dksX1_leastOf_0 18 rfl rfl)
theorem dX1_leastOf_19 : decode cX1_leastOf 19 = .ok (.ireturn, 1) := dk_172 (dk_at dksX1_leastOf_0 19 rfl rfl)
abbrev cX1_mostOf : ByteArray := prog_1_method_8_code
def yX1_mostOf : MethodName := ⟨RX1, "mostOf", "(I)I"⟩
def dkwX1_mostOf_2 : List UInt8 := [16, 32, 167, 0, 19, 16, 16, 167, 0, 14, 7, 167, 0, 10, 16, 12, 167, 0, 5, 16, 8, 172]
abbrev dktX1_mostOf_2 : List UInt8 := dkwX1_mostOf_2 ++ []
def dkwX1_mostOf_1 : List UInt8 := [170, 0, 0, 0, 0, 0, 50, 0, 0, 0, 0, 0, 0, 0, 3, 0, 0, 0, 31, 0, 0, 0, 36, 0, 0, 0, 41, 0, 0, 0, 45]
abbrev dktX1_mostOf_1 : List UInt8 := dkwX1_mostOf_1 ++ dktX1_mostOf_2
def dkwX1_mostOf_0 : List UInt8 := [26]
abbrev dktX1_mostOf_0 : List UInt8 := dkwX1_mostOf_0 ++ dktX1_mostOf_1
theorem dksX1_mostOf_0 : cX1_mostOf.data.toList.drop 0 = dktX1_mostOf_0 := by decide +kernel
theorem dksX1_mostOf_1 : cX1_mostOf.data.toList.drop 1 = dktX1_mostOf_1 := dk_seg dksX1_mostOf_0 1 rfl rfl
theorem dksX1_mostOf_2 : cX1_mostOf.data.toList.drop 32 = dktX1_mostOf_2 := dk_seg dksX1_mostOf_1 31 rfl rfl
theorem dX1_mostOf_0 : decode cX1_mostOf 0 = .ok (.iload_n 0, 1) := dk_26 (dk_at dksX1_mostOf_0 0 rfl rfl)
theorem dX1_mostOf_1 : decode cX1_mostOf 1 = .ok (.tableswitch 50 0 3 #[31, 36, 41, 45], 31) := by decide +kernel
theorem dX1_mostOf_32 : decode cX1_mostOf 32 = .ok (.bipush 32, 2) := dk_16 32 (dk_at dksX1_mostOf_2 0 rfl rfl)
theorem dX1_mostOf_34 : decode cX1_mostOf 34 = .ok (.goto 19, 3) := dk_167 0 19 (dk_at dksX1_mostOf_2 2 rfl rfl)
theorem dX1_mostOf_37 : decode cX1_mostOf 37 = .ok (.bipush 16, 2) := dk_16 16 (dk_at dksX1_mostOf_2 5 rfl rfl)
theorem dX1_mostOf_39 : decode cX1_mostOf 39 = .ok (.goto 14, 3) := dk_167 0 14 (dk_at dksX1_mostOf_2 7 rfl rfl)
theorem dX1_mostOf_42 : decode cX1_mostOf 42 = .ok (.iconst 4, 1) := dk_7 (dk_at dksX1_mostOf_2 10 rfl rfl)
theorem dX1_mostOf_43 : decode cX1_mostOf 43 = .ok (.goto 10, 3) := dk_167 0 10 (dk_at dksX1_mostOf_2 11 rfl rfl)
theorem dX1_mostOf_46 : decode cX1_mostOf 46 = .ok (.bipush 12, 2) := dk_16 12 (dk_at dksX1_mostOf_2 14 rfl rfl)
theorem dX1_mostOf_48 : decode cX1_mostOf 48 = .ok (.goto 5, 3) := dk_167 0 5 (dk_at dksX1_mostOf_2 16 rfl rfl)
theorem dX1_mostOf_51 : decode cX1_mostOf 51 = .ok (.bipush 8, 2) := dk_16 8 (dk_at dksX1_mostOf_2 19 rfl rfl)
theorem dX1_mostOf_53 : decode cX1_mostOf 53 = .ok (.ireturn, 1) := dk_172 (dk_at dksX1_mostOf_2 21 rfl rfl)
abbrev cX1_errorCode : ByteArray := prog_1_method_16_code
def yX1_errorCode : MethodName := ⟨RX1, "errorCode", "()I"⟩
theorem dX1_errorCode_0 : decode cX1_errorCode 0 = .ok (.aload_n 0, 1) := by decide +kernel
theorem dX1_errorCode_1 : decode cX1_errorCode 1 = .ok (.getfield 79, 3) := by decide +kernel
theorem dX1_errorCode_4 : decode cX1_errorCode 4 = .ok (.ireturn, 1) := by decide +kernel
abbrev cX1_errorOffset : ByteArray := prog_1_method_17_code
def yX1_errorOffset : MethodName := ⟨RX1, "errorOffset", "()I"⟩
theorem dX1_errorOffset_0 : decode cX1_errorOffset 0 = .ok (.aload_n 0, 1) := by decide +kernel
theorem dX1_errorOffset_1 : decode cX1_errorOffset 1 = .ok (.getfield 28, 3) := by decide +kernel
theorem dX1_errorOffset_4 : decode cX1_errorOffset 4 = .ok (.ireturn, 1) := by decide +kernel
abbrev cX1_agree : ByteArray := prog_1_method_44_code
def yX1_agree : MethodName := ⟨RX1, "agree", "()Z"⟩
def dkwX1_agree_5 : List UInt8 := [28, 172]
abbrev dktX1_agree_5 : List UInt8 := dkwX1_agree_5 ++ []
def dkwX1_agree_4 : List UInt8 := [180, 0, 43, 182, 0, 235, 182, 1, 65, 153, 0, 7, 4, 167, 0, 4, 3, 61, 132, 3, 1, 167, 255, 203]
abbrev dktX1_agree_4 : List UInt8 := dkwX1_agree_4 ++ dktX1_agree_5
def dkwX1_agree_3 : List UInt8 := [42, 180, 0, 36, 29, 42, 180, 0, 43, 182, 1, 61, 27, 161, 0, 26, 42, 42, 180, 0, 36, 29, 42]
abbrev dktX1_agree_3 : List UInt8 := dkwX1_agree_3 ++ dktX1_agree_4
def dkwX1_agree_2 : List UInt8 := [182, 0, 246, 27, 160, 0, 7, 4, 167, 0, 4, 3, 61, 3, 62, 29, 7, 162, 0, 54, 28, 153, 0, 42]
abbrev dktX1_agree_2 : List UInt8 := dkwX1_agree_2 ++ dktX1_agree_3
def dkwX1_agree_1 : List UInt8 := [182, 1, 44, 27, 160, 0, 31, 42, 180, 0, 36, 6, 42, 180, 0, 43, 182, 0, 235, 186, 1, 60, 0, 0]
abbrev dktX1_agree_1 : List UInt8 := dkwX1_agree_1 ++ dktX1_agree_2
def dkwX1_agree_0 : List UInt8 := [42, 180, 0, 36, 42, 180, 0, 43, 182, 1, 56, 60, 42, 180, 0, 43, 42, 180, 0, 36, 180, 0, 104]
abbrev dktX1_agree_0 : List UInt8 := dkwX1_agree_0 ++ dktX1_agree_1
theorem dksX1_agree_0 : cX1_agree.data.toList.drop 0 = dktX1_agree_0 := by decide +kernel
theorem dksX1_agree_1 : cX1_agree.data.toList.drop 23 = dktX1_agree_1 := dk_seg dksX1_agree_0 23 rfl rfl
theorem dksX1_agree_2 : cX1_agree.data.toList.drop 47 = dktX1_agree_2 := dk_seg dksX1_agree_1 24 rfl rfl
theorem dksX1_agree_3 : cX1_agree.data.toList.drop 71 = dktX1_agree_3 := dk_seg dksX1_agree_2 24 rfl rfl
theorem dksX1_agree_4 : cX1_agree.data.toList.drop 94 = dktX1_agree_4 := dk_seg dksX1_agree_3 23 rfl rfl
theorem dksX1_agree_5 : cX1_agree.data.toList.drop 118 = dktX1_agree_5 := dk_seg dksX1_agree_4 24 rfl rfl
theorem dX1_agree_0 : decode cX1_agree 0 = .ok (.aload_n 0, 1) := dk_42 (dk_at dksX1_agree_0 0 rfl rfl)
theorem dX1_agree_1 : decode cX1_agree 1 = .ok (.getfield 36, 3) := dk_180 0 36 (dk_at dksX1_agree_0 1 rfl rfl)
theorem dX1_agree_4 : decode cX1_agree 4 = .ok (.aload_n 0, 1) := dk_42 (dk_at dksX1_agree_0 4 rfl rfl)
theorem dX1_agree_5 : decode cX1_agree 5 = .ok (.getfield 43, 3) := dk_180 0 43 (dk_at dksX1_agree_0 5 rfl rfl)
theorem dX1_agree_8 : decode cX1_agree 8 = .ok (.invokevirtual 312, 3) := dk_182 1 56 (dk_at dksX1_agree_0 8 rfl rfl)
theorem dX1_agree_11 : decode cX1_agree 11 = .ok (.istore_n 1, 1) := dk_60 (dk_at dksX1_agree_0 11 rfl rfl)
theorem dX1_agree_12 : decode cX1_agree 12 = .ok (.aload_n 0, 1) := dk_42 (dk_at dksX1_agree_0 12 rfl rfl)
theorem dX1_agree_13 : decode cX1_agree 13 = .ok (.getfield 43, 3) := dk_180 0 43 (dk_at dksX1_agree_0 13 rfl rfl)
theorem dX1_agree_16 : decode cX1_agree 16 = .ok (.aload_n 0, 1) := dk_42 (dk_at dksX1_agree_0 16 rfl rfl)
theorem dX1_agree_17 : decode cX1_agree 17 = .ok (.getfield 36, 3) := dk_180 0 36 (dk_at dksX1_agree_0 17 rfl rfl)
theorem dX1_agree_20 : decode cX1_agree 20 = .ok (.getfield 104, 3) := dk_180 0 104 (dk_at dksX1_agree_0 20 rfl rfl)
theorem dX1_agree_23 : decode cX1_agree 23 = .ok (.invokevirtual 300, 3) := dk_182 1 44 (dk_at dksX1_agree_1 0 rfl rfl)
theorem dX1_agree_26 : decode cX1_agree 26 = .ok (.iload_n 1, 1) := dk_27 (dk_at dksX1_agree_1 3 rfl rfl)
theorem dX1_agree_27 : decode cX1_agree 27 = .ok (.if_icmp .ne 31, 3) := dk_160 0 31 (dk_at dksX1_agree_1 4 rfl rfl)
theorem dX1_agree_30 : decode cX1_agree 30 = .ok (.aload_n 0, 1) := dk_42 (dk_at dksX1_agree_1 7 rfl rfl)
theorem dX1_agree_31 : decode cX1_agree 31 = .ok (.getfield 36, 3) := dk_180 0 36 (dk_at dksX1_agree_1 8 rfl rfl)
theorem dX1_agree_34 : decode cX1_agree 34 = .ok (.iconst 3, 1) := dk_6 (dk_at dksX1_agree_1 11 rfl rfl)
theorem dX1_agree_35 : decode cX1_agree 35 = .ok (.aload_n 0, 1) := dk_42 (dk_at dksX1_agree_1 12 rfl rfl)
theorem dX1_agree_36 : decode cX1_agree 36 = .ok (.getfield 43, 3) := dk_180 0 43 (dk_at dksX1_agree_1 13 rfl rfl)
theorem dX1_agree_39 : decode cX1_agree 39 = .ok (.invokevirtual 235, 3) := dk_182 0 235 (dk_at dksX1_agree_1 16 rfl rfl)
theorem dX1_agree_42 : decode cX1_agree 42 = .ok (.invokedynamic 316, 5) := by decide +kernel
theorem dX1_agree_47 : decode cX1_agree 47 = .ok (.invokevirtual 246, 3) := dk_182 0 246 (dk_at dksX1_agree_2 0 rfl rfl)
theorem dX1_agree_50 : decode cX1_agree 50 = .ok (.iload_n 1, 1) := dk_27 (dk_at dksX1_agree_2 3 rfl rfl)
theorem dX1_agree_51 : decode cX1_agree 51 = .ok (.if_icmp .ne 7, 3) := dk_160 0 7 (dk_at dksX1_agree_2 4 rfl rfl)
theorem dX1_agree_54 : decode cX1_agree 54 = .ok (.iconst 1, 1) := dk_4 (dk_at dksX1_agree_2 7 rfl rfl)
theorem dX1_agree_55 : decode cX1_agree 55 = .ok (.goto 4, 3) := dk_167 0 4 (dk_at dksX1_agree_2 8 rfl rfl)
theorem dX1_agree_58 : decode cX1_agree 58 = .ok (.iconst 0, 1) := dk_3 (dk_at dksX1_agree_2 11 rfl rfl)
theorem dX1_agree_59 : decode cX1_agree 59 = .ok (.istore_n 2, 1) := dk_61 (dk_at dksX1_agree_2 12 rfl rfl)
theorem dX1_agree_60 : decode cX1_agree 60 = .ok (.iconst 0, 1) := dk_3 (dk_at dksX1_agree_2 13 rfl rfl)
theorem dX1_agree_61 : decode cX1_agree 61 = .ok (.istore_n 3, 1) := dk_62 (dk_at dksX1_agree_2 14 rfl rfl)
theorem dX1_agree_62 : decode cX1_agree 62 = .ok (.iload_n 3, 1) := dk_29 (dk_at dksX1_agree_2 15 rfl rfl)
theorem dX1_agree_63 : decode cX1_agree 63 = .ok (.iconst 4, 1) := dk_7 (dk_at dksX1_agree_2 16 rfl rfl)
theorem dX1_agree_64 : decode cX1_agree 64 = .ok (.if_icmp .ge 54, 3) := dk_162 0 54 (dk_at dksX1_agree_2 17 rfl rfl)
theorem dX1_agree_67 : decode cX1_agree 67 = .ok (.iload_n 2, 1) := dk_28 (dk_at dksX1_agree_2 20 rfl rfl)
theorem dX1_agree_68 : decode cX1_agree 68 = .ok (.ifCond .eq 42, 3) := dk_153 0 42 (dk_at dksX1_agree_2 21 rfl rfl)
theorem dX1_agree_71 : decode cX1_agree 71 = .ok (.aload_n 0, 1) := dk_42 (dk_at dksX1_agree_3 0 rfl rfl)
theorem dX1_agree_72 : decode cX1_agree 72 = .ok (.getfield 36, 3) := dk_180 0 36 (dk_at dksX1_agree_3 1 rfl rfl)
theorem dX1_agree_75 : decode cX1_agree 75 = .ok (.iload_n 3, 1) := dk_29 (dk_at dksX1_agree_3 4 rfl rfl)
theorem dX1_agree_76 : decode cX1_agree 76 = .ok (.aload_n 0, 1) := dk_42 (dk_at dksX1_agree_3 5 rfl rfl)
theorem dX1_agree_77 : decode cX1_agree 77 = .ok (.getfield 43, 3) := dk_180 0 43 (dk_at dksX1_agree_3 6 rfl rfl)
theorem dX1_agree_80 : decode cX1_agree 80 = .ok (.invokevirtual 317, 3) := dk_182 1 61 (dk_at dksX1_agree_3 9 rfl rfl)
theorem dX1_agree_83 : decode cX1_agree 83 = .ok (.iload_n 1, 1) := dk_27 (dk_at dksX1_agree_3 12 rfl rfl)
theorem dX1_agree_84 : decode cX1_agree 84 = .ok (.if_icmp .lt 26, 3) := dk_161 0 26 (dk_at dksX1_agree_3 13 rfl rfl)
theorem dX1_agree_87 : decode cX1_agree 87 = .ok (.aload_n 0, 1) := dk_42 (dk_at dksX1_agree_3 16 rfl rfl)
theorem dX1_agree_88 : decode cX1_agree 88 = .ok (.aload_n 0, 1) := dk_42 (dk_at dksX1_agree_3 17 rfl rfl)
theorem dX1_agree_89 : decode cX1_agree 89 = .ok (.getfield 36, 3) := dk_180 0 36 (dk_at dksX1_agree_3 18 rfl rfl)
theorem dX1_agree_92 : decode cX1_agree 92 = .ok (.iload_n 3, 1) := dk_29 (dk_at dksX1_agree_3 21 rfl rfl)
theorem dX1_agree_93 : decode cX1_agree 93 = .ok (.aload_n 0, 1) := dk_42 (dk_at dksX1_agree_3 22 rfl rfl)
theorem dX1_agree_94 : decode cX1_agree 94 = .ok (.getfield 43, 3) := dk_180 0 43 (dk_at dksX1_agree_4 0 rfl rfl)
theorem dX1_agree_97 : decode cX1_agree 97 = .ok (.invokevirtual 235, 3) := dk_182 0 235 (dk_at dksX1_agree_4 3 rfl rfl)
theorem dX1_agree_100 : decode cX1_agree 100 = .ok (.invokevirtual 321, 3) := dk_182 1 65 (dk_at dksX1_agree_4 6 rfl rfl)
theorem dX1_agree_103 : decode cX1_agree 103 = .ok (.ifCond .eq 7, 3) := dk_153 0 7 (dk_at dksX1_agree_4 9 rfl rfl)
theorem dX1_agree_106 : decode cX1_agree 106 = .ok (.iconst 1, 1) := dk_4 (dk_at dksX1_agree_4 12 rfl rfl)
theorem dX1_agree_107 : decode cX1_agree 107 = .ok (.goto 4, 3) := dk_167 0 4 (dk_at dksX1_agree_4 13 rfl rfl)
theorem dX1_agree_110 : decode cX1_agree 110 = .ok (.iconst 0, 1) := dk_3 (dk_at dksX1_agree_4 16 rfl rfl)
theorem dX1_agree_111 : decode cX1_agree 111 = .ok (.istore_n 2, 1) := dk_61 (dk_at dksX1_agree_4 17 rfl rfl)
theorem dX1_agree_112 : decode cX1_agree 112 = .ok (.iinc 3 1, 3) := dk_132 3 1 (dk_at dksX1_agree_4 18 rfl rfl)
theorem dX1_agree_115 : decode cX1_agree 115 = .ok (.goto (-53), 3) := dk_167 255 203 (dk_at dksX1_agree_4 21 rfl rfl)
theorem dX1_agree_118 : decode cX1_agree 118 = .ok (.iload_n 2, 1) := dk_28 (dk_at dksX1_agree_5 0 rfl rfl)
theorem dX1_agree_119 : decode cX1_agree 119 = .ok (.ireturn, 1) := dk_172 (dk_at dksX1_agree_5 1 rfl rfl)
abbrev cX1_one : ByteArray := prog_1_method_2_code
def yX1_one : MethodName := ⟨RX1, "one", "(Z)I"⟩
def dkwX1_one_0 : List UInt8 := [26, 153, 0, 7, 4, 167, 0, 4, 3, 172]
abbrev dktX1_one_0 : List UInt8 := dkwX1_one_0 ++ []
theorem dksX1_one_0 : cX1_one.data.toList.drop 0 = dktX1_one_0 := by decide +kernel
theorem dX1_one_0 : decode cX1_one 0 = .ok (.iload_n 0, 1) := dk_26 (dk_at dksX1_one_0 0 rfl rfl)
theorem dX1_one_1 : decode cX1_one 1 = .ok (.ifCond .eq 7, 3) := dk_153 0 7 (dk_at dksX1_one_0 1 rfl rfl)
theorem dX1_one_4 : decode cX1_one 4 = .ok (.iconst 1, 1) := dk_4 (dk_at dksX1_one_0 4 rfl rfl)
theorem dX1_one_5 : decode cX1_one 5 = .ok (.goto 4, 3) := dk_167 0 4 (dk_at dksX1_one_0 5 rfl rfl)
theorem dX1_one_8 : decode cX1_one 8 = .ok (.iconst 0, 1) := dk_3 (dk_at dksX1_one_0 8 rfl rfl)
theorem dX1_one_9 : decode cX1_one 9 = .ok (.ireturn, 1) := dk_172 (dk_at dksX1_one_0 9 rfl rfl)
abbrev cX1_bits : ByteArray := prog_1_method_3_code
def yX1_bits : MethodName := ⟨RX1, "bits", "(I)I"⟩
def dkwX1_bits_0 : List UInt8 := [16, 32, 26, 184, 0, 1, 100, 172]
abbrev dktX1_bits_0 : List UInt8 := dkwX1_bits_0 ++ []
theorem dksX1_bits_0 : cX1_bits.data.toList.drop 0 = dktX1_bits_0 := by decide +kernel
theorem dX1_bits_0 : decode cX1_bits 0 = .ok (.bipush 32, 2) := dk_16 32 (dk_at dksX1_bits_0 0 rfl rfl)
theorem dX1_bits_2 : decode cX1_bits 2 = .ok (.iload_n 0, 1) := dk_26 (dk_at dksX1_bits_0 2 rfl rfl)
theorem dX1_bits_3 : decode cX1_bits 3 = .ok (.invokestatic 1, 3) := dk_184 0 1 (dk_at dksX1_bits_0 3 rfl rfl)
theorem dX1_bits_6 : decode cX1_bits 6 = .ok (.isub, 1) := dk_100 (dk_at dksX1_bits_0 6 rfl rfl)
theorem dX1_bits_7 : decode cX1_bits 7 = .ok (.ireturn, 1) := dk_172 (dk_at dksX1_bits_0 7 rfl rfl)
abbrev cX1_lambda_agree_10 : ByteArray := prog_1_method_67_code
def yX1_lambda_agree_10 : MethodName := ⟨RX1, "lambda$agree$10", "(LCopyPrices$Step;)I"⟩
theorem dX1_lambda_agree_10_0 : decode cX1_lambda_agree_10 0 = .ok (.aload_n 0, 1) := by decide +kernel
theorem dX1_lambda_agree_10_1 : decode cX1_lambda_agree_10 1 = .ok (.getfield 263, 3) := by decide +kernel
theorem dX1_lambda_agree_10_4 : decode cX1_lambda_agree_10 4 = .ok (.ireturn, 1) := by decide +kernel
abbrev cX1_gives : ByteArray := prog_1_method_43_code
def yX1_gives : MethodName := ⟨RX1, "gives", "(LCopyPrices$Step;)Z"⟩
def dkwX1_gives_4 : List UInt8 := [42, 180, 0, 36, 180, 0, 140, 3, 29, 184, 1, 50, 153, 0, 7, 4, 167, 0, 4, 3, 172]
abbrev dktX1_gives_4 : List UInt8 := dkwX1_gives_4 ++ []
def dkwX1_gives_3 : List UInt8 := [25, 4, 180, 1, 16, 58, 4, 167, 255, 190, 29, 42, 180, 0, 36, 180, 0, 104, 160, 0, 25, 44, 3, 29]
abbrev dktX1_gives_3 : List UInt8 := dkwX1_gives_3 ++ dktX1_gives_4
def dkwX1_gives_2 : List UInt8 := [51, 167, 0, 12, 44, 29, 25, 4, 182, 1, 4, 100, 51, 84, 132, 3, 1, 132, 5, 1, 167, 255, 208]
abbrev dktX1_gives_2 : List UInt8 := dkwX1_gives_2 ++ dktX1_gives_3
def dkwX1_gives_1 : List UInt8 := [182, 1, 1, 162, 0, 44, 44, 29, 25, 4, 182, 1, 4, 154, 0, 15, 42, 180, 0, 36, 180, 0, 140, 29]
abbrev dktX1_gives_1 : List UInt8 := dkwX1_gives_1 ++ dktX1_gives_2
def dkwX1_gives_0 : List UInt8 := [16, 64, 188, 8, 77, 3, 62, 43, 58, 4, 25, 4, 198, 0, 67, 3, 54, 5, 21, 5, 25, 4]
abbrev dktX1_gives_0 : List UInt8 := dkwX1_gives_0 ++ dktX1_gives_1
theorem dksX1_gives_0 : cX1_gives.data.toList.drop 0 = dktX1_gives_0 := by decide +kernel
theorem dksX1_gives_1 : cX1_gives.data.toList.drop 22 = dktX1_gives_1 := dk_seg dksX1_gives_0 22 rfl rfl
theorem dksX1_gives_2 : cX1_gives.data.toList.drop 46 = dktX1_gives_2 := dk_seg dksX1_gives_1 24 rfl rfl
theorem dksX1_gives_3 : cX1_gives.data.toList.drop 69 = dktX1_gives_3 := dk_seg dksX1_gives_2 23 rfl rfl
theorem dksX1_gives_4 : cX1_gives.data.toList.drop 93 = dktX1_gives_4 := dk_seg dksX1_gives_3 24 rfl rfl
theorem dX1_gives_0 : decode cX1_gives 0 = .ok (.bipush 64, 2) := dk_16 64 (dk_at dksX1_gives_0 0 rfl rfl)
theorem dX1_gives_2 : decode cX1_gives 2 = .ok (.newarray .byte, 2) := dk_188_8 (dk_at dksX1_gives_0 2 rfl rfl)
theorem dX1_gives_4 : decode cX1_gives 4 = .ok (.astore_n 2, 1) := dk_77 (dk_at dksX1_gives_0 4 rfl rfl)
theorem dX1_gives_5 : decode cX1_gives 5 = .ok (.iconst 0, 1) := dk_3 (dk_at dksX1_gives_0 5 rfl rfl)
theorem dX1_gives_6 : decode cX1_gives 6 = .ok (.istore_n 3, 1) := dk_62 (dk_at dksX1_gives_0 6 rfl rfl)
theorem dX1_gives_7 : decode cX1_gives 7 = .ok (.aload_n 1, 1) := dk_43 (dk_at dksX1_gives_0 7 rfl rfl)
theorem dX1_gives_8 : decode cX1_gives 8 = .ok (.astore 4, 2) := dk_58 4 (dk_at dksX1_gives_0 8 rfl rfl)
theorem dX1_gives_10 : decode cX1_gives 10 = .ok (.aload 4, 2) := dk_25 4 (dk_at dksX1_gives_0 10 rfl rfl)
theorem dX1_gives_12 : decode cX1_gives 12 = .ok (.ifnull 67, 3) := dk_198 0 67 (dk_at dksX1_gives_0 12 rfl rfl)
theorem dX1_gives_15 : decode cX1_gives 15 = .ok (.iconst 0, 1) := dk_3 (dk_at dksX1_gives_0 15 rfl rfl)
theorem dX1_gives_16 : decode cX1_gives 16 = .ok (.istore 5, 2) := dk_54 5 (dk_at dksX1_gives_0 16 rfl rfl)
theorem dX1_gives_18 : decode cX1_gives 18 = .ok (.iload 5, 2) := dk_21 5 (dk_at dksX1_gives_0 18 rfl rfl)
theorem dX1_gives_20 : decode cX1_gives 20 = .ok (.aload 4, 2) := dk_25 4 (dk_at dksX1_gives_0 20 rfl rfl)
theorem dX1_gives_22 : decode cX1_gives 22 = .ok (.invokevirtual 257, 3) := dk_182 1 1 (dk_at dksX1_gives_1 0 rfl rfl)
theorem dX1_gives_25 : decode cX1_gives 25 = .ok (.if_icmp .ge 44, 3) := dk_162 0 44 (dk_at dksX1_gives_1 3 rfl rfl)
theorem dX1_gives_28 : decode cX1_gives 28 = .ok (.aload_n 2, 1) := dk_44 (dk_at dksX1_gives_1 6 rfl rfl)
theorem dX1_gives_29 : decode cX1_gives 29 = .ok (.iload_n 3, 1) := dk_29 (dk_at dksX1_gives_1 7 rfl rfl)
theorem dX1_gives_30 : decode cX1_gives 30 = .ok (.aload 4, 2) := dk_25 4 (dk_at dksX1_gives_1 8 rfl rfl)
theorem dX1_gives_32 : decode cX1_gives 32 = .ok (.invokevirtual 260, 3) := dk_182 1 4 (dk_at dksX1_gives_1 10 rfl rfl)
theorem dX1_gives_35 : decode cX1_gives 35 = .ok (.ifCond .ne 15, 3) := dk_154 0 15 (dk_at dksX1_gives_1 13 rfl rfl)
theorem dX1_gives_38 : decode cX1_gives 38 = .ok (.aload_n 0, 1) := dk_42 (dk_at dksX1_gives_1 16 rfl rfl)
theorem dX1_gives_39 : decode cX1_gives 39 = .ok (.getfield 36, 3) := dk_180 0 36 (dk_at dksX1_gives_1 17 rfl rfl)
theorem dX1_gives_42 : decode cX1_gives 42 = .ok (.getfield 140, 3) := dk_180 0 140 (dk_at dksX1_gives_1 20 rfl rfl)
theorem dX1_gives_45 : decode cX1_gives 45 = .ok (.iload_n 3, 1) := dk_29 (dk_at dksX1_gives_1 23 rfl rfl)
theorem dX1_gives_46 : decode cX1_gives 46 = .ok (.baload, 1) := dk_51 (dk_at dksX1_gives_2 0 rfl rfl)
theorem dX1_gives_47 : decode cX1_gives 47 = .ok (.goto 12, 3) := dk_167 0 12 (dk_at dksX1_gives_2 1 rfl rfl)
theorem dX1_gives_50 : decode cX1_gives 50 = .ok (.aload_n 2, 1) := dk_44 (dk_at dksX1_gives_2 4 rfl rfl)
theorem dX1_gives_51 : decode cX1_gives 51 = .ok (.iload_n 3, 1) := dk_29 (dk_at dksX1_gives_2 5 rfl rfl)
theorem dX1_gives_52 : decode cX1_gives 52 = .ok (.aload 4, 2) := dk_25 4 (dk_at dksX1_gives_2 6 rfl rfl)
theorem dX1_gives_54 : decode cX1_gives 54 = .ok (.invokevirtual 260, 3) := dk_182 1 4 (dk_at dksX1_gives_2 8 rfl rfl)
theorem dX1_gives_57 : decode cX1_gives 57 = .ok (.isub, 1) := dk_100 (dk_at dksX1_gives_2 11 rfl rfl)
theorem dX1_gives_58 : decode cX1_gives 58 = .ok (.baload, 1) := dk_51 (dk_at dksX1_gives_2 12 rfl rfl)
theorem dX1_gives_59 : decode cX1_gives 59 = .ok (.bastore, 1) := dk_84 (dk_at dksX1_gives_2 13 rfl rfl)
theorem dX1_gives_60 : decode cX1_gives 60 = .ok (.iinc 3 1, 3) := dk_132 3 1 (dk_at dksX1_gives_2 14 rfl rfl)
theorem dX1_gives_63 : decode cX1_gives 63 = .ok (.iinc 5 1, 3) := dk_132 5 1 (dk_at dksX1_gives_2 17 rfl rfl)
theorem dX1_gives_66 : decode cX1_gives 66 = .ok (.goto (-48), 3) := dk_167 255 208 (dk_at dksX1_gives_2 20 rfl rfl)
theorem dX1_gives_69 : decode cX1_gives 69 = .ok (.aload 4, 2) := dk_25 4 (dk_at dksX1_gives_3 0 rfl rfl)
theorem dX1_gives_71 : decode cX1_gives 71 = .ok (.getfield 272, 3) := dk_180 1 16 (dk_at dksX1_gives_3 2 rfl rfl)
theorem dX1_gives_74 : decode cX1_gives 74 = .ok (.astore 4, 2) := dk_58 4 (dk_at dksX1_gives_3 5 rfl rfl)
theorem dX1_gives_76 : decode cX1_gives 76 = .ok (.goto (-66), 3) := dk_167 255 190 (dk_at dksX1_gives_3 7 rfl rfl)
theorem dX1_gives_79 : decode cX1_gives 79 = .ok (.iload_n 3, 1) := dk_29 (dk_at dksX1_gives_3 10 rfl rfl)
theorem dX1_gives_80 : decode cX1_gives 80 = .ok (.aload_n 0, 1) := dk_42 (dk_at dksX1_gives_3 11 rfl rfl)
theorem dX1_gives_81 : decode cX1_gives 81 = .ok (.getfield 36, 3) := dk_180 0 36 (dk_at dksX1_gives_3 12 rfl rfl)
theorem dX1_gives_84 : decode cX1_gives 84 = .ok (.getfield 104, 3) := dk_180 0 104 (dk_at dksX1_gives_3 15 rfl rfl)
theorem dX1_gives_87 : decode cX1_gives 87 = .ok (.if_icmp .ne 25, 3) := dk_160 0 25 (dk_at dksX1_gives_3 18 rfl rfl)
theorem dX1_gives_90 : decode cX1_gives 90 = .ok (.aload_n 2, 1) := dk_44 (dk_at dksX1_gives_3 21 rfl rfl)
theorem dX1_gives_91 : decode cX1_gives 91 = .ok (.iconst 0, 1) := dk_3 (dk_at dksX1_gives_3 22 rfl rfl)
theorem dX1_gives_92 : decode cX1_gives 92 = .ok (.iload_n 3, 1) := dk_29 (dk_at dksX1_gives_3 23 rfl rfl)
theorem dX1_gives_93 : decode cX1_gives 93 = .ok (.aload_n 0, 1) := dk_42 (dk_at dksX1_gives_4 0 rfl rfl)
theorem dX1_gives_94 : decode cX1_gives 94 = .ok (.getfield 36, 3) := dk_180 0 36 (dk_at dksX1_gives_4 1 rfl rfl)
theorem dX1_gives_97 : decode cX1_gives 97 = .ok (.getfield 140, 3) := dk_180 0 140 (dk_at dksX1_gives_4 4 rfl rfl)
theorem dX1_gives_100 : decode cX1_gives 100 = .ok (.iconst 0, 1) := dk_3 (dk_at dksX1_gives_4 7 rfl rfl)
theorem dX1_gives_101 : decode cX1_gives 101 = .ok (.iload_n 3, 1) := dk_29 (dk_at dksX1_gives_4 8 rfl rfl)
theorem dX1_gives_102 : decode cX1_gives 102 = .ok (.invokestatic 306, 3) := dk_184 1 50 (dk_at dksX1_gives_4 9 rfl rfl)
theorem dX1_gives_105 : decode cX1_gives 105 = .ok (.ifCond .eq 7, 3) := dk_153 0 7 (dk_at dksX1_gives_4 12 rfl rfl)
theorem dX1_gives_108 : decode cX1_gives 108 = .ok (.iconst 1, 1) := dk_4 (dk_at dksX1_gives_4 15 rfl rfl)
theorem dX1_gives_109 : decode cX1_gives 109 = .ok (.goto 4, 3) := dk_167 0 4 (dk_at dksX1_gives_4 16 rfl rfl)
theorem dX1_gives_112 : decode cX1_gives 112 = .ok (.iconst 0, 1) := dk_3 (dk_at dksX1_gives_4 19 rfl rfl)
theorem dX1_gives_113 : decode cX1_gives 113 = .ok (.ireturn, 1) := dk_172 (dk_at dksX1_gives_4 20 rfl rfl)
abbrev cX1_costliestPin : ByteArray := prog_1_method_47_code
def yX1_costliestPin : MethodName := ⟨RX1, "costliestPin", "()I"⟩
def dkwX1_costliestPin_2 : List UInt8 := [132, 3, 1, 167, 255, 214, 27, 172]
abbrev dktX1_costliestPin_2 : List UInt8 := dkwX1_costliestPin_2 ++ []
def dkwX1_costliestPin_1 : List UInt8 := [180, 0, 43, 182, 1, 71, 54, 4, 21, 4, 28, 163, 0, 6, 167, 0, 8, 29, 60, 21, 4, 61]
abbrev dktX1_costliestPin_1 : List UInt8 := dkwX1_costliestPin_1 ++ dktX1_costliestPin_2
def dkwX1_costliestPin_0 : List UInt8 := [2, 60, 2, 61, 3, 62, 29, 42, 180, 0, 36, 180, 0, 104, 162, 0, 37, 42, 180, 0, 36, 29, 42]
abbrev dktX1_costliestPin_0 : List UInt8 := dkwX1_costliestPin_0 ++ dktX1_costliestPin_1
theorem dksX1_costliestPin_0 : cX1_costliestPin.data.toList.drop 0 = dktX1_costliestPin_0 := by decide +kernel
theorem dksX1_costliestPin_1 : cX1_costliestPin.data.toList.drop 23 = dktX1_costliestPin_1 := dk_seg dksX1_costliestPin_0 23 rfl rfl
theorem dksX1_costliestPin_2 : cX1_costliestPin.data.toList.drop 45 = dktX1_costliestPin_2 := dk_seg dksX1_costliestPin_1 22 rfl rfl
theorem dX1_costliestPin_0 : decode cX1_costliestPin 0 = .ok (.iconst (-1), 1) := dk_2 (dk_at dksX1_costliestPin_0 0 rfl rfl)
theorem dX1_costliestPin_1 : decode cX1_costliestPin 1 = .ok (.istore_n 1, 1) := dk_60 (dk_at dksX1_costliestPin_0 1 rfl rfl)
theorem dX1_costliestPin_2 : decode cX1_costliestPin 2 = .ok (.iconst (-1), 1) := dk_2 (dk_at dksX1_costliestPin_0 2 rfl rfl)
theorem dX1_costliestPin_3 : decode cX1_costliestPin 3 = .ok (.istore_n 2, 1) := dk_61 (dk_at dksX1_costliestPin_0 3 rfl rfl)
theorem dX1_costliestPin_4 : decode cX1_costliestPin 4 = .ok (.iconst 0, 1) := dk_3 (dk_at dksX1_costliestPin_0 4 rfl rfl)
theorem dX1_costliestPin_5 : decode cX1_costliestPin 5 = .ok (.istore_n 3, 1) := dk_62 (dk_at dksX1_costliestPin_0 5 rfl rfl)
theorem dX1_costliestPin_6 : decode cX1_costliestPin 6 = .ok (.iload_n 3, 1) := dk_29 (dk_at dksX1_costliestPin_0 6 rfl rfl)
theorem dX1_costliestPin_7 : decode cX1_costliestPin 7 = .ok (.aload_n 0, 1) := dk_42 (dk_at dksX1_costliestPin_0 7 rfl rfl)
theorem dX1_costliestPin_8 : decode cX1_costliestPin 8 = .ok (.getfield 36, 3) := dk_180 0 36 (dk_at dksX1_costliestPin_0 8 rfl rfl)
theorem dX1_costliestPin_11 : decode cX1_costliestPin 11 = .ok (.getfield 104, 3) := dk_180 0 104 (dk_at dksX1_costliestPin_0 11 rfl rfl)
theorem dX1_costliestPin_14 : decode cX1_costliestPin 14 = .ok (.if_icmp .ge 37, 3) := dk_162 0 37 (dk_at dksX1_costliestPin_0 14 rfl rfl)
theorem dX1_costliestPin_17 : decode cX1_costliestPin 17 = .ok (.aload_n 0, 1) := dk_42 (dk_at dksX1_costliestPin_0 17 rfl rfl)
theorem dX1_costliestPin_18 : decode cX1_costliestPin 18 = .ok (.getfield 36, 3) := dk_180 0 36 (dk_at dksX1_costliestPin_0 18 rfl rfl)
theorem dX1_costliestPin_21 : decode cX1_costliestPin 21 = .ok (.iload_n 3, 1) := dk_29 (dk_at dksX1_costliestPin_0 21 rfl rfl)
theorem dX1_costliestPin_22 : decode cX1_costliestPin 22 = .ok (.aload_n 0, 1) := dk_42 (dk_at dksX1_costliestPin_0 22 rfl rfl)
theorem dX1_costliestPin_23 : decode cX1_costliestPin 23 = .ok (.getfield 43, 3) := dk_180 0 43 (dk_at dksX1_costliestPin_1 0 rfl rfl)
theorem dX1_costliestPin_26 : decode cX1_costliestPin 26 = .ok (.invokevirtual 327, 3) := dk_182 1 71 (dk_at dksX1_costliestPin_1 3 rfl rfl)
theorem dX1_costliestPin_29 : decode cX1_costliestPin 29 = .ok (.istore 4, 2) := dk_54 4 (dk_at dksX1_costliestPin_1 6 rfl rfl)
theorem dX1_costliestPin_31 : decode cX1_costliestPin 31 = .ok (.iload 4, 2) := dk_21 4 (dk_at dksX1_costliestPin_1 8 rfl rfl)
theorem dX1_costliestPin_33 : decode cX1_costliestPin 33 = .ok (.iload_n 2, 1) := dk_28 (dk_at dksX1_costliestPin_1 10 rfl rfl)
theorem dX1_costliestPin_34 : decode cX1_costliestPin 34 = .ok (.if_icmp .gt 6, 3) := dk_163 0 6 (dk_at dksX1_costliestPin_1 11 rfl rfl)
theorem dX1_costliestPin_37 : decode cX1_costliestPin 37 = .ok (.goto 8, 3) := dk_167 0 8 (dk_at dksX1_costliestPin_1 14 rfl rfl)
theorem dX1_costliestPin_40 : decode cX1_costliestPin 40 = .ok (.iload_n 3, 1) := dk_29 (dk_at dksX1_costliestPin_1 17 rfl rfl)
theorem dX1_costliestPin_41 : decode cX1_costliestPin 41 = .ok (.istore_n 1, 1) := dk_60 (dk_at dksX1_costliestPin_1 18 rfl rfl)
theorem dX1_costliestPin_42 : decode cX1_costliestPin 42 = .ok (.iload 4, 2) := dk_21 4 (dk_at dksX1_costliestPin_1 19 rfl rfl)
theorem dX1_costliestPin_44 : decode cX1_costliestPin 44 = .ok (.istore_n 2, 1) := dk_61 (dk_at dksX1_costliestPin_1 21 rfl rfl)
theorem dX1_costliestPin_45 : decode cX1_costliestPin 45 = .ok (.iinc 3 1, 3) := dk_132 3 1 (dk_at dksX1_costliestPin_2 0 rfl rfl)
theorem dX1_costliestPin_48 : decode cX1_costliestPin 48 = .ok (.goto (-42), 3) := dk_167 255 214 (dk_at dksX1_costliestPin_2 3 rfl rfl)
theorem dX1_costliestPin_51 : decode cX1_costliestPin 51 = .ok (.iload_n 1, 1) := dk_27 (dk_at dksX1_costliestPin_2 6 rfl rfl)
theorem dX1_costliestPin_52 : decode cX1_costliestPin 52 = .ok (.ireturn, 1) := dk_172 (dk_at dksX1_costliestPin_2 7 rfl rfl)
abbrev cX1_bestWait : ByteArray := prog_1_method_49_code
def yX1_bestWait : MethodName := ⟨RX1, "bestWait", "()I"⟩
def dkwX1_bestWait_2 : List UInt8 := [29, 60, 21, 4, 61, 132, 3, 1, 167, 255, 218, 27, 172]
abbrev dktX1_bestWait_2 : List UInt8 := dkwX1_bestWait_2 ++ []
def dkwX1_bestWait_1 : List UInt8 := [42, 180, 0, 36, 7, 29, 42, 180, 0, 43, 182, 1, 80, 54, 4, 21, 4, 28, 161, 0, 6, 167, 0, 8]
abbrev dktX1_bestWait_1 : List UInt8 := dkwX1_bestWait_1 ++ dktX1_bestWait_2
def dkwX1_bestWait_0 : List UInt8 := [4, 60, 42, 180, 0, 36, 7, 4, 42, 180, 0, 43, 182, 1, 80, 61, 5, 62, 29, 16, 8, 163, 0, 38]
abbrev dktX1_bestWait_0 : List UInt8 := dkwX1_bestWait_0 ++ dktX1_bestWait_1
theorem dksX1_bestWait_0 : cX1_bestWait.data.toList.drop 0 = dktX1_bestWait_0 := by decide +kernel
theorem dksX1_bestWait_1 : cX1_bestWait.data.toList.drop 24 = dktX1_bestWait_1 := dk_seg dksX1_bestWait_0 24 rfl rfl
theorem dksX1_bestWait_2 : cX1_bestWait.data.toList.drop 48 = dktX1_bestWait_2 := dk_seg dksX1_bestWait_1 24 rfl rfl
theorem dX1_bestWait_0 : decode cX1_bestWait 0 = .ok (.iconst 1, 1) := dk_4 (dk_at dksX1_bestWait_0 0 rfl rfl)
theorem dX1_bestWait_1 : decode cX1_bestWait 1 = .ok (.istore_n 1, 1) := dk_60 (dk_at dksX1_bestWait_0 1 rfl rfl)
theorem dX1_bestWait_2 : decode cX1_bestWait 2 = .ok (.aload_n 0, 1) := dk_42 (dk_at dksX1_bestWait_0 2 rfl rfl)
theorem dX1_bestWait_3 : decode cX1_bestWait 3 = .ok (.getfield 36, 3) := dk_180 0 36 (dk_at dksX1_bestWait_0 3 rfl rfl)
theorem dX1_bestWait_6 : decode cX1_bestWait 6 = .ok (.iconst 4, 1) := dk_7 (dk_at dksX1_bestWait_0 6 rfl rfl)
theorem dX1_bestWait_7 : decode cX1_bestWait 7 = .ok (.iconst 1, 1) := dk_4 (dk_at dksX1_bestWait_0 7 rfl rfl)
theorem dX1_bestWait_8 : decode cX1_bestWait 8 = .ok (.aload_n 0, 1) := dk_42 (dk_at dksX1_bestWait_0 8 rfl rfl)
theorem dX1_bestWait_9 : decode cX1_bestWait 9 = .ok (.getfield 43, 3) := dk_180 0 43 (dk_at dksX1_bestWait_0 9 rfl rfl)
theorem dX1_bestWait_12 : decode cX1_bestWait 12 = .ok (.invokevirtual 336, 3) := dk_182 1 80 (dk_at dksX1_bestWait_0 12 rfl rfl)
theorem dX1_bestWait_15 : decode cX1_bestWait 15 = .ok (.istore_n 2, 1) := dk_61 (dk_at dksX1_bestWait_0 15 rfl rfl)
theorem dX1_bestWait_16 : decode cX1_bestWait 16 = .ok (.iconst 2, 1) := dk_5 (dk_at dksX1_bestWait_0 16 rfl rfl)
theorem dX1_bestWait_17 : decode cX1_bestWait 17 = .ok (.istore_n 3, 1) := dk_62 (dk_at dksX1_bestWait_0 17 rfl rfl)
theorem dX1_bestWait_18 : decode cX1_bestWait 18 = .ok (.iload_n 3, 1) := dk_29 (dk_at dksX1_bestWait_0 18 rfl rfl)
theorem dX1_bestWait_19 : decode cX1_bestWait 19 = .ok (.bipush 8, 2) := dk_16 8 (dk_at dksX1_bestWait_0 19 rfl rfl)
theorem dX1_bestWait_21 : decode cX1_bestWait 21 = .ok (.if_icmp .gt 38, 3) := dk_163 0 38 (dk_at dksX1_bestWait_0 21 rfl rfl)
theorem dX1_bestWait_24 : decode cX1_bestWait 24 = .ok (.aload_n 0, 1) := dk_42 (dk_at dksX1_bestWait_1 0 rfl rfl)
theorem dX1_bestWait_25 : decode cX1_bestWait 25 = .ok (.getfield 36, 3) := dk_180 0 36 (dk_at dksX1_bestWait_1 1 rfl rfl)
theorem dX1_bestWait_28 : decode cX1_bestWait 28 = .ok (.iconst 4, 1) := dk_7 (dk_at dksX1_bestWait_1 4 rfl rfl)
theorem dX1_bestWait_29 : decode cX1_bestWait 29 = .ok (.iload_n 3, 1) := dk_29 (dk_at dksX1_bestWait_1 5 rfl rfl)
theorem dX1_bestWait_30 : decode cX1_bestWait 30 = .ok (.aload_n 0, 1) := dk_42 (dk_at dksX1_bestWait_1 6 rfl rfl)
theorem dX1_bestWait_31 : decode cX1_bestWait 31 = .ok (.getfield 43, 3) := dk_180 0 43 (dk_at dksX1_bestWait_1 7 rfl rfl)
theorem dX1_bestWait_34 : decode cX1_bestWait 34 = .ok (.invokevirtual 336, 3) := dk_182 1 80 (dk_at dksX1_bestWait_1 10 rfl rfl)
theorem dX1_bestWait_37 : decode cX1_bestWait 37 = .ok (.istore 4, 2) := dk_54 4 (dk_at dksX1_bestWait_1 13 rfl rfl)
theorem dX1_bestWait_39 : decode cX1_bestWait 39 = .ok (.iload 4, 2) := dk_21 4 (dk_at dksX1_bestWait_1 15 rfl rfl)
theorem dX1_bestWait_41 : decode cX1_bestWait 41 = .ok (.iload_n 2, 1) := dk_28 (dk_at dksX1_bestWait_1 17 rfl rfl)
theorem dX1_bestWait_42 : decode cX1_bestWait 42 = .ok (.if_icmp .lt 6, 3) := dk_161 0 6 (dk_at dksX1_bestWait_1 18 rfl rfl)
theorem dX1_bestWait_45 : decode cX1_bestWait 45 = .ok (.goto 8, 3) := dk_167 0 8 (dk_at dksX1_bestWait_1 21 rfl rfl)
theorem dX1_bestWait_48 : decode cX1_bestWait 48 = .ok (.iload_n 3, 1) := dk_29 (dk_at dksX1_bestWait_2 0 rfl rfl)
theorem dX1_bestWait_49 : decode cX1_bestWait 49 = .ok (.istore_n 1, 1) := dk_60 (dk_at dksX1_bestWait_2 1 rfl rfl)
theorem dX1_bestWait_50 : decode cX1_bestWait 50 = .ok (.iload 4, 2) := dk_21 4 (dk_at dksX1_bestWait_2 2 rfl rfl)
theorem dX1_bestWait_52 : decode cX1_bestWait 52 = .ok (.istore_n 2, 1) := dk_61 (dk_at dksX1_bestWait_2 4 rfl rfl)
theorem dX1_bestWait_53 : decode cX1_bestWait 53 = .ok (.iinc 3 1, 3) := dk_132 3 1 (dk_at dksX1_bestWait_2 5 rfl rfl)
theorem dX1_bestWait_56 : decode cX1_bestWait 56 = .ok (.goto (-38), 3) := dk_167 255 218 (dk_at dksX1_bestWait_2 8 rfl rfl)
theorem dX1_bestWait_59 : decode cX1_bestWait 59 = .ok (.iload_n 1, 1) := dk_27 (dk_at dksX1_bestWait_2 11 rfl rfl)
theorem dX1_bestWait_60 : decode cX1_bestWait 60 = .ok (.ireturn, 1) := dk_172 (dk_at dksX1_bestWait_2 12 rfl rfl)
abbrev cX1_bestShare : ByteArray := prog_1_method_50_code
def yX1_bestShare : MethodName := ⟨RX1, "bestShare", "()F"⟩
def dkwX1_bestShare_1 : List UInt8 := [180, 0, 36, 42, 180, 0, 43, 182, 1, 56, 134, 27, 134, 110, 174]
abbrev dktX1_bestShare_1 : List UInt8 := dkwX1_bestShare_1 ++ []
def dkwX1_bestShare_0 : List UInt8 := [42, 180, 0, 36, 3, 42, 180, 0, 43, 182, 1, 61, 60, 27, 154, 0, 7, 12, 167, 0, 18, 42]
abbrev dktX1_bestShare_0 : List UInt8 := dkwX1_bestShare_0 ++ dktX1_bestShare_1
theorem dksX1_bestShare_0 : cX1_bestShare.data.toList.drop 0 = dktX1_bestShare_0 := by decide +kernel
theorem dksX1_bestShare_1 : cX1_bestShare.data.toList.drop 22 = dktX1_bestShare_1 := dk_seg dksX1_bestShare_0 22 rfl rfl
theorem dX1_bestShare_0 : decode cX1_bestShare 0 = .ok (.aload_n 0, 1) := dk_42 (dk_at dksX1_bestShare_0 0 rfl rfl)
theorem dX1_bestShare_1 : decode cX1_bestShare 1 = .ok (.getfield 36, 3) := dk_180 0 36 (dk_at dksX1_bestShare_0 1 rfl rfl)
theorem dX1_bestShare_4 : decode cX1_bestShare 4 = .ok (.iconst 0, 1) := dk_3 (dk_at dksX1_bestShare_0 4 rfl rfl)
theorem dX1_bestShare_5 : decode cX1_bestShare 5 = .ok (.aload_n 0, 1) := dk_42 (dk_at dksX1_bestShare_0 5 rfl rfl)
theorem dX1_bestShare_6 : decode cX1_bestShare 6 = .ok (.getfield 43, 3) := dk_180 0 43 (dk_at dksX1_bestShare_0 6 rfl rfl)
theorem dX1_bestShare_9 : decode cX1_bestShare 9 = .ok (.invokevirtual 317, 3) := dk_182 1 61 (dk_at dksX1_bestShare_0 9 rfl rfl)
theorem dX1_bestShare_12 : decode cX1_bestShare 12 = .ok (.istore_n 1, 1) := dk_60 (dk_at dksX1_bestShare_0 12 rfl rfl)
theorem dX1_bestShare_13 : decode cX1_bestShare 13 = .ok (.iload_n 1, 1) := dk_27 (dk_at dksX1_bestShare_0 13 rfl rfl)
theorem dX1_bestShare_14 : decode cX1_bestShare 14 = .ok (.ifCond .ne 7, 3) := dk_154 0 7 (dk_at dksX1_bestShare_0 14 rfl rfl)
theorem dX1_bestShare_17 : decode cX1_bestShare 17 = .ok (.fconst 1, 1) := dk_12 (dk_at dksX1_bestShare_0 17 rfl rfl)
theorem dX1_bestShare_18 : decode cX1_bestShare 18 = .ok (.goto 18, 3) := dk_167 0 18 (dk_at dksX1_bestShare_0 18 rfl rfl)
theorem dX1_bestShare_21 : decode cX1_bestShare 21 = .ok (.aload_n 0, 1) := dk_42 (dk_at dksX1_bestShare_0 21 rfl rfl)
theorem dX1_bestShare_22 : decode cX1_bestShare 22 = .ok (.getfield 36, 3) := dk_180 0 36 (dk_at dksX1_bestShare_1 0 rfl rfl)
theorem dX1_bestShare_25 : decode cX1_bestShare 25 = .ok (.aload_n 0, 1) := dk_42 (dk_at dksX1_bestShare_1 3 rfl rfl)
theorem dX1_bestShare_26 : decode cX1_bestShare 26 = .ok (.getfield 43, 3) := dk_180 0 43 (dk_at dksX1_bestShare_1 4 rfl rfl)
theorem dX1_bestShare_29 : decode cX1_bestShare 29 = .ok (.invokevirtual 312, 3) := dk_182 1 56 (dk_at dksX1_bestShare_1 7 rfl rfl)
theorem dX1_bestShare_32 : decode cX1_bestShare 32 = .ok (.i2f, 1) := dk_134 (dk_at dksX1_bestShare_1 10 rfl rfl)
theorem dX1_bestShare_33 : decode cX1_bestShare 33 = .ok (.iload_n 1, 1) := dk_27 (dk_at dksX1_bestShare_1 11 rfl rfl)
theorem dX1_bestShare_34 : decode cX1_bestShare 34 = .ok (.i2f, 1) := dk_134 (dk_at dksX1_bestShare_1 12 rfl rfl)
theorem dX1_bestShare_35 : decode cX1_bestShare 35 = .ok (.fdiv, 1) := dk_110 (dk_at dksX1_bestShare_1 13 rfl rfl)
theorem dX1_bestShare_36 : decode cX1_bestShare 36 = .ok (.freturn, 1) := dk_174 (dk_at dksX1_bestShare_1 14 rfl rfl)
abbrev cX1_printText : ByteArray := prog_1_method_61_code
def yX1_printText : MethodName := ⟨RX1, "printText", "()I"⟩
def dkwX1_printText_2 : List UInt8 := [153, 0, 10, 43, 16, 33, 182, 1, 125, 87, 132, 2, 1, 167, 255, 206, 42, 43, 182, 1, 121, 172]
abbrev dktX1_printText_2 : List UInt8 := dkwX1_printText_2 ++ []
def dkwX1_printText_1 : List UInt8 := [42, 180, 0, 36, 180, 0, 140, 28, 51, 96, 146, 182, 1, 125, 87, 42, 180, 0, 36, 28, 182, 0, 195]
abbrev dktX1_printText_1 : List UInt8 := dkwX1_printText_1 ++ dktX1_printText_2
def dkwX1_printText_0 : List UInt8 := [187, 1, 108, 89, 183, 1, 116, 76, 3, 61, 28, 42, 180, 0, 36, 180, 0, 104, 162, 0, 45, 43, 16, 97]
abbrev dktX1_printText_0 : List UInt8 := dkwX1_printText_0 ++ dktX1_printText_1
theorem dksX1_printText_0 : cX1_printText.data.toList.drop 0 = dktX1_printText_0 := by decide +kernel
theorem dksX1_printText_1 : cX1_printText.data.toList.drop 24 = dktX1_printText_1 := dk_seg dksX1_printText_0 24 rfl rfl
theorem dksX1_printText_2 : cX1_printText.data.toList.drop 47 = dktX1_printText_2 := dk_seg dksX1_printText_1 23 rfl rfl
theorem dX1_printText_0 : decode cX1_printText 0 = .ok (.new 364, 3) := dk_187 1 108 (dk_at dksX1_printText_0 0 rfl rfl)
theorem dX1_printText_3 : decode cX1_printText 3 = .ok (.dup, 1) := dk_89 (dk_at dksX1_printText_0 3 rfl rfl)
theorem dX1_printText_4 : decode cX1_printText 4 = .ok (.invokespecial 372, 3) := dk_183 1 116 (dk_at dksX1_printText_0 4 rfl rfl)
theorem dX1_printText_7 : decode cX1_printText 7 = .ok (.astore_n 1, 1) := dk_76 (dk_at dksX1_printText_0 7 rfl rfl)
theorem dX1_printText_8 : decode cX1_printText 8 = .ok (.iconst 0, 1) := dk_3 (dk_at dksX1_printText_0 8 rfl rfl)
theorem dX1_printText_9 : decode cX1_printText 9 = .ok (.istore_n 2, 1) := dk_61 (dk_at dksX1_printText_0 9 rfl rfl)
theorem dX1_printText_10 : decode cX1_printText 10 = .ok (.iload_n 2, 1) := dk_28 (dk_at dksX1_printText_0 10 rfl rfl)
theorem dX1_printText_11 : decode cX1_printText 11 = .ok (.aload_n 0, 1) := dk_42 (dk_at dksX1_printText_0 11 rfl rfl)
theorem dX1_printText_12 : decode cX1_printText 12 = .ok (.getfield 36, 3) := dk_180 0 36 (dk_at dksX1_printText_0 12 rfl rfl)
theorem dX1_printText_15 : decode cX1_printText 15 = .ok (.getfield 104, 3) := dk_180 0 104 (dk_at dksX1_printText_0 15 rfl rfl)
theorem dX1_printText_18 : decode cX1_printText 18 = .ok (.if_icmp .ge 45, 3) := dk_162 0 45 (dk_at dksX1_printText_0 18 rfl rfl)
theorem dX1_printText_21 : decode cX1_printText 21 = .ok (.aload_n 1, 1) := dk_43 (dk_at dksX1_printText_0 21 rfl rfl)
theorem dX1_printText_22 : decode cX1_printText 22 = .ok (.bipush 97, 2) := dk_16 97 (dk_at dksX1_printText_0 22 rfl rfl)
theorem dX1_printText_24 : decode cX1_printText 24 = .ok (.aload_n 0, 1) := dk_42 (dk_at dksX1_printText_1 0 rfl rfl)
theorem dX1_printText_25 : decode cX1_printText 25 = .ok (.getfield 36, 3) := dk_180 0 36 (dk_at dksX1_printText_1 1 rfl rfl)
theorem dX1_printText_28 : decode cX1_printText 28 = .ok (.getfield 140, 3) := dk_180 0 140 (dk_at dksX1_printText_1 4 rfl rfl)
theorem dX1_printText_31 : decode cX1_printText 31 = .ok (.iload_n 2, 1) := dk_28 (dk_at dksX1_printText_1 7 rfl rfl)
theorem dX1_printText_32 : decode cX1_printText 32 = .ok (.baload, 1) := dk_51 (dk_at dksX1_printText_1 8 rfl rfl)
theorem dX1_printText_33 : decode cX1_printText 33 = .ok (.iadd, 1) := dk_96 (dk_at dksX1_printText_1 9 rfl rfl)
theorem dX1_printText_34 : decode cX1_printText 34 = .ok (.i2c, 1) := dk_146 (dk_at dksX1_printText_1 10 rfl rfl)
theorem dX1_printText_35 : decode cX1_printText 35 = .ok (.invokevirtual 381, 3) := dk_182 1 125 (dk_at dksX1_printText_1 11 rfl rfl)
theorem dX1_printText_38 : decode cX1_printText 38 = .ok (.pop, 1) := dk_87 (dk_at dksX1_printText_1 14 rfl rfl)
theorem dX1_printText_39 : decode cX1_printText 39 = .ok (.aload_n 0, 1) := dk_42 (dk_at dksX1_printText_1 15 rfl rfl)
theorem dX1_printText_40 : decode cX1_printText 40 = .ok (.getfield 36, 3) := dk_180 0 36 (dk_at dksX1_printText_1 16 rfl rfl)
theorem dX1_printText_43 : decode cX1_printText 43 = .ok (.iload_n 2, 1) := dk_28 (dk_at dksX1_printText_1 19 rfl rfl)
theorem dX1_printText_44 : decode cX1_printText 44 = .ok (.invokevirtual 195, 3) := dk_182 0 195 (dk_at dksX1_printText_1 20 rfl rfl)
theorem dX1_printText_47 : decode cX1_printText 47 = .ok (.ifCond .eq 10, 3) := dk_153 0 10 (dk_at dksX1_printText_2 0 rfl rfl)
theorem dX1_printText_50 : decode cX1_printText 50 = .ok (.aload_n 1, 1) := dk_43 (dk_at dksX1_printText_2 3 rfl rfl)
theorem dX1_printText_51 : decode cX1_printText 51 = .ok (.bipush 33, 2) := dk_16 33 (dk_at dksX1_printText_2 4 rfl rfl)
theorem dX1_printText_53 : decode cX1_printText 53 = .ok (.invokevirtual 381, 3) := dk_182 1 125 (dk_at dksX1_printText_2 6 rfl rfl)
theorem dX1_printText_56 : decode cX1_printText 56 = .ok (.pop, 1) := dk_87 (dk_at dksX1_printText_2 9 rfl rfl)
theorem dX1_printText_57 : decode cX1_printText 57 = .ok (.iinc 2 1, 3) := dk_132 2 1 (dk_at dksX1_printText_2 10 rfl rfl)
theorem dX1_printText_60 : decode cX1_printText 60 = .ok (.goto (-50), 3) := dk_167 255 206 (dk_at dksX1_printText_2 13 rfl rfl)
theorem dX1_printText_63 : decode cX1_printText 63 = .ok (.aload_n 0, 1) := dk_42 (dk_at dksX1_printText_2 16 rfl rfl)
theorem dX1_printText_64 : decode cX1_printText 64 = .ok (.aload_n 1, 1) := dk_43 (dk_at dksX1_printText_2 17 rfl rfl)
theorem dX1_printText_65 : decode cX1_printText 65 = .ok (.invokevirtual 377, 3) := dk_182 1 121 (dk_at dksX1_printText_2 18 rfl rfl)
theorem dX1_printText_68 : decode cX1_printText 68 = .ok (.ireturn, 1) := dk_172 (dk_at dksX1_printText_2 21 rfl rfl)
abbrev cX1_says : ByteArray := prog_1_method_59_code
def yX1_says : MethodName := ⟨RX1, "says", "(Ljava/lang/StringBuilder;)I"⟩
def dkwX1_says_0 : List UInt8 := [42, 43, 182, 1, 107, 181, 0, 58, 42, 180, 0, 58, 182, 1, 113, 172]
abbrev dktX1_says_0 : List UInt8 := dkwX1_says_0 ++ []
theorem dksX1_says_0 : cX1_says.data.toList.drop 0 = dktX1_says_0 := by decide +kernel
theorem dX1_says_0 : decode cX1_says 0 = .ok (.aload_n 0, 1) := dk_42 (dk_at dksX1_says_0 0 rfl rfl)
theorem dX1_says_1 : decode cX1_says 1 = .ok (.aload_n 1, 1) := dk_43 (dk_at dksX1_says_0 1 rfl rfl)
theorem dX1_says_2 : decode cX1_says 2 = .ok (.invokevirtual 363, 3) := dk_182 1 107 (dk_at dksX1_says_0 2 rfl rfl)
theorem dX1_says_5 : decode cX1_says 5 = .ok (.putfield 58, 3) := dk_181 0 58 (dk_at dksX1_says_0 5 rfl rfl)
theorem dX1_says_8 : decode cX1_says 8 = .ok (.aload_n 0, 1) := dk_42 (dk_at dksX1_says_0 8 rfl rfl)
theorem dX1_says_9 : decode cX1_says 9 = .ok (.getfield 58, 3) := dk_180 0 58 (dk_at dksX1_says_0 9 rfl rfl)
theorem dX1_says_12 : decode cX1_says 12 = .ok (.invokevirtual 369, 3) := dk_182 1 113 (dk_at dksX1_says_0 12 rfl rfl)
theorem dX1_says_15 : decode cX1_says 15 = .ok (.ireturn, 1) := dk_172 (dk_at dksX1_says_0 15 rfl rfl)
abbrev cX1_outputByte : ByteArray := prog_1_method_62_code
def yX1_outputByte : MethodName := ⟨RX1, "outputByte", "(I)I"⟩
def dkwX1_outputByte_1 : List UInt8 := [182, 1, 129, 167, 0, 4, 2, 172]
abbrev dktX1_outputByte_1 : List UInt8 := dkwX1_outputByte_1 ++ []
def dkwX1_outputByte_0 : List UInt8 := [27, 133, 9, 42, 180, 0, 58, 182, 1, 113, 4, 100, 133, 184, 0, 75, 153, 0, 14, 42, 180, 0, 58, 27]
abbrev dktX1_outputByte_0 : List UInt8 := dkwX1_outputByte_0 ++ dktX1_outputByte_1
theorem dksX1_outputByte_0 : cX1_outputByte.data.toList.drop 0 = dktX1_outputByte_0 := by decide +kernel
theorem dksX1_outputByte_1 : cX1_outputByte.data.toList.drop 24 = dktX1_outputByte_1 := dk_seg dksX1_outputByte_0 24 rfl rfl
theorem dX1_outputByte_0 : decode cX1_outputByte 0 = .ok (.iload_n 1, 1) := dk_27 (dk_at dksX1_outputByte_0 0 rfl rfl)
theorem dX1_outputByte_1 : decode cX1_outputByte 1 = .ok (.i2l, 1) := dk_133 (dk_at dksX1_outputByte_0 1 rfl rfl)
theorem dX1_outputByte_2 : decode cX1_outputByte 2 = .ok (.lconst 0, 1) := dk_9 (dk_at dksX1_outputByte_0 2 rfl rfl)
theorem dX1_outputByte_3 : decode cX1_outputByte 3 = .ok (.aload_n 0, 1) := dk_42 (dk_at dksX1_outputByte_0 3 rfl rfl)
theorem dX1_outputByte_4 : decode cX1_outputByte 4 = .ok (.getfield 58, 3) := dk_180 0 58 (dk_at dksX1_outputByte_0 4 rfl rfl)
theorem dX1_outputByte_7 : decode cX1_outputByte 7 = .ok (.invokevirtual 369, 3) := dk_182 1 113 (dk_at dksX1_outputByte_0 7 rfl rfl)
theorem dX1_outputByte_10 : decode cX1_outputByte 10 = .ok (.iconst 1, 1) := dk_4 (dk_at dksX1_outputByte_0 10 rfl rfl)
theorem dX1_outputByte_11 : decode cX1_outputByte 11 = .ok (.isub, 1) := dk_100 (dk_at dksX1_outputByte_0 11 rfl rfl)
theorem dX1_outputByte_12 : decode cX1_outputByte 12 = .ok (.i2l, 1) := dk_133 (dk_at dksX1_outputByte_0 12 rfl rfl)
theorem dX1_outputByte_13 : decode cX1_outputByte 13 = .ok (.invokestatic 75, 3) := dk_184 0 75 (dk_at dksX1_outputByte_0 13 rfl rfl)
theorem dX1_outputByte_16 : decode cX1_outputByte 16 = .ok (.ifCond .eq 14, 3) := dk_153 0 14 (dk_at dksX1_outputByte_0 16 rfl rfl)
theorem dX1_outputByte_19 : decode cX1_outputByte 19 = .ok (.aload_n 0, 1) := dk_42 (dk_at dksX1_outputByte_0 19 rfl rfl)
theorem dX1_outputByte_20 : decode cX1_outputByte 20 = .ok (.getfield 58, 3) := dk_180 0 58 (dk_at dksX1_outputByte_0 20 rfl rfl)
theorem dX1_outputByte_23 : decode cX1_outputByte 23 = .ok (.iload_n 1, 1) := dk_27 (dk_at dksX1_outputByte_0 23 rfl rfl)
theorem dX1_outputByte_24 : decode cX1_outputByte 24 = .ok (.invokevirtual 385, 3) := dk_182 1 129 (dk_at dksX1_outputByte_1 0 rfl rfl)
theorem dX1_outputByte_27 : decode cX1_outputByte 27 = .ok (.goto 4, 3) := dk_167 0 4 (dk_at dksX1_outputByte_1 3 rfl rfl)
theorem dX1_outputByte_30 : decode cX1_outputByte 30 = .ok (.iconst (-1), 1) := dk_2 (dk_at dksX1_outputByte_1 6 rfl rfl)
theorem dX1_outputByte_31 : decode cX1_outputByte 31 = .ok (.ireturn, 1) := dk_172 (dk_at dksX1_outputByte_1 7 rfl rfl)
abbrev cX1_saveState : ByteArray := prog_1_method_63_code
def yX1_saveState : MethodName := ⟨RX1, "saveState", "()I"⟩
def dkwX1_saveState_0 : List UInt8 := [42, 42, 180, 0, 36, 182, 0, 119, 181, 0, 101, 42, 180, 0, 36, 180, 0, 104, 172]
abbrev dktX1_saveState_0 : List UInt8 := dkwX1_saveState_0 ++ []
theorem dksX1_saveState_0 : cX1_saveState.data.toList.drop 0 = dktX1_saveState_0 := by decide +kernel
theorem dX1_saveState_0 : decode cX1_saveState 0 = .ok (.aload_n 0, 1) := dk_42 (dk_at dksX1_saveState_0 0 rfl rfl)
theorem dX1_saveState_1 : decode cX1_saveState 1 = .ok (.aload_n 0, 1) := dk_42 (dk_at dksX1_saveState_0 1 rfl rfl)
theorem dX1_saveState_2 : decode cX1_saveState 2 = .ok (.getfield 36, 3) := dk_180 0 36 (dk_at dksX1_saveState_0 2 rfl rfl)
theorem dX1_saveState_5 : decode cX1_saveState 5 = .ok (.invokevirtual 119, 3) := dk_182 0 119 (dk_at dksX1_saveState_0 5 rfl rfl)
theorem dX1_saveState_8 : decode cX1_saveState 8 = .ok (.putfield 101, 3) := dk_181 0 101 (dk_at dksX1_saveState_0 8 rfl rfl)
theorem dX1_saveState_11 : decode cX1_saveState 11 = .ok (.aload_n 0, 1) := dk_42 (dk_at dksX1_saveState_0 11 rfl rfl)
theorem dX1_saveState_12 : decode cX1_saveState 12 = .ok (.getfield 36, 3) := dk_180 0 36 (dk_at dksX1_saveState_0 12 rfl rfl)
theorem dX1_saveState_15 : decode cX1_saveState 15 = .ok (.getfield 104, 3) := dk_180 0 104 (dk_at dksX1_saveState_0 15 rfl rfl)
theorem dX1_saveState_18 : decode cX1_saveState 18 = .ok (.ireturn, 1) := dk_172 (dk_at dksX1_saveState_0 18 rfl rfl)
abbrev cX1_count : ByteArray := prog_1_method_21_code
def yX1_count : MethodName := ⟨RX1, "count", "(I)I"⟩
def dkwX1_count_6 : List UInt8 := [172]
abbrev dktX1_count_6 : List UInt8 := dkwX1_count_6 ++ []
def dkwX1_count_5 : List UInt8 := [182, 0, 167, 167, 0, 21, 42, 180, 0, 52, 182, 0, 107, 167, 0, 11, 187, 0, 7, 89, 183, 0, 9, 191]
abbrev dktX1_count_5 : List UInt8 := dkwX1_count_5 ++ dktX1_count_6
def dkwX1_count_4 : List UInt8 := [167, 0, 48, 42, 42, 186, 0, 163, 0, 0, 182, 0, 158, 167, 0, 35, 42, 182, 0, 164, 167, 0, 28, 42]
abbrev dktX1_count_4 : List UInt8 := dkwX1_count_4 ++ dktX1_count_5
def dkwX1_count_3 : List UInt8 := [42, 186, 0, 155, 0, 0, 182, 0, 158, 167, 0, 61, 42, 42, 186, 0, 162, 0, 0, 182, 0, 158]
abbrev dktX1_count_3 : List UInt8 := dkwX1_count_3 ++ dktX1_count_4
def dkwX1_count_2 : List UInt8 := [42, 180, 0, 36, 180, 0, 104, 167, 0, 87, 42, 180, 0, 36, 180, 0, 146, 184, 0, 150, 167, 0, 74, 42]
abbrev dktX1_count_2 : List UInt8 := dkwX1_count_2 ++ dktX1_count_3
def dkwX1_count_1 : List UInt8 := [170, 0, 0, 0, 0, 0, 133, 0, 0, 0, 0, 0, 0, 0, 7, 0, 0, 0, 47, 0, 0, 0, 57, 0, 0, 0, 70, 0, 0, 0, 83, 0, 0, 0, 96, 0, 0, 0, 109, 0, 0, 0, 116, 0, 0, 0, 123]
abbrev dktX1_count_1 : List UInt8 := dkwX1_count_1 ++ dktX1_count_2
def dkwX1_count_0 : List UInt8 := [27]
abbrev dktX1_count_0 : List UInt8 := dkwX1_count_0 ++ dktX1_count_1
theorem dksX1_count_0 : cX1_count.data.toList.drop 0 = dktX1_count_0 := by decide +kernel
theorem dksX1_count_1 : cX1_count.data.toList.drop 1 = dktX1_count_1 := dk_seg dksX1_count_0 1 rfl rfl
theorem dksX1_count_2 : cX1_count.data.toList.drop 48 = dktX1_count_2 := dk_seg dksX1_count_1 47 rfl rfl
theorem dksX1_count_3 : cX1_count.data.toList.drop 72 = dktX1_count_3 := dk_seg dksX1_count_2 24 rfl rfl
theorem dksX1_count_4 : cX1_count.data.toList.drop 94 = dktX1_count_4 := dk_seg dksX1_count_3 22 rfl rfl
theorem dksX1_count_5 : cX1_count.data.toList.drop 118 = dktX1_count_5 := dk_seg dksX1_count_4 24 rfl rfl
theorem dksX1_count_6 : cX1_count.data.toList.drop 142 = dktX1_count_6 := dk_seg dksX1_count_5 24 rfl rfl
theorem dX1_count_0 : decode cX1_count 0 = .ok (.iload_n 1, 1) := dk_27 (dk_at dksX1_count_0 0 rfl rfl)
theorem dX1_count_1 : decode cX1_count 1 = .ok (.tableswitch 133 0 7 #[47, 57, 70, 83, 96, 109, 116, 123], 47) := by decide +kernel
theorem dX1_count_48 : decode cX1_count 48 = .ok (.aload_n 0, 1) := dk_42 (dk_at dksX1_count_2 0 rfl rfl)
theorem dX1_count_49 : decode cX1_count 49 = .ok (.getfield 36, 3) := dk_180 0 36 (dk_at dksX1_count_2 1 rfl rfl)
theorem dX1_count_52 : decode cX1_count 52 = .ok (.getfield 104, 3) := dk_180 0 104 (dk_at dksX1_count_2 4 rfl rfl)
theorem dX1_count_55 : decode cX1_count 55 = .ok (.goto 87, 3) := dk_167 0 87 (dk_at dksX1_count_2 7 rfl rfl)
theorem dX1_count_58 : decode cX1_count 58 = .ok (.aload_n 0, 1) := dk_42 (dk_at dksX1_count_2 10 rfl rfl)
theorem dX1_count_59 : decode cX1_count 59 = .ok (.getfield 36, 3) := dk_180 0 36 (dk_at dksX1_count_2 11 rfl rfl)
theorem dX1_count_62 : decode cX1_count 62 = .ok (.getfield 146, 3) := dk_180 0 146 (dk_at dksX1_count_2 14 rfl rfl)
theorem dX1_count_65 : decode cX1_count 65 = .ok (.invokestatic 150, 3) := dk_184 0 150 (dk_at dksX1_count_2 17 rfl rfl)
theorem dX1_count_68 : decode cX1_count 68 = .ok (.goto 74, 3) := dk_167 0 74 (dk_at dksX1_count_2 20 rfl rfl)
theorem dX1_count_71 : decode cX1_count 71 = .ok (.aload_n 0, 1) := dk_42 (dk_at dksX1_count_2 23 rfl rfl)
theorem dX1_count_72 : decode cX1_count 72 = .ok (.aload_n 0, 1) := dk_42 (dk_at dksX1_count_3 0 rfl rfl)
theorem dX1_count_73 : decode cX1_count 73 = .ok (.invokedynamic 155, 5) := by decide +kernel
theorem dX1_count_78 : decode cX1_count 78 = .ok (.invokevirtual 158, 3) := dk_182 0 158 (dk_at dksX1_count_3 6 rfl rfl)
theorem dX1_count_81 : decode cX1_count 81 = .ok (.goto 61, 3) := dk_167 0 61 (dk_at dksX1_count_3 9 rfl rfl)
theorem dX1_count_84 : decode cX1_count 84 = .ok (.aload_n 0, 1) := dk_42 (dk_at dksX1_count_3 12 rfl rfl)
theorem dX1_count_85 : decode cX1_count 85 = .ok (.aload_n 0, 1) := dk_42 (dk_at dksX1_count_3 13 rfl rfl)
theorem dX1_count_86 : decode cX1_count 86 = .ok (.invokedynamic 162, 5) := by decide +kernel
theorem dX1_count_91 : decode cX1_count 91 = .ok (.invokevirtual 158, 3) := dk_182 0 158 (dk_at dksX1_count_3 19 rfl rfl)
theorem dX1_count_94 : decode cX1_count 94 = .ok (.goto 48, 3) := dk_167 0 48 (dk_at dksX1_count_4 0 rfl rfl)
theorem dX1_count_97 : decode cX1_count 97 = .ok (.aload_n 0, 1) := dk_42 (dk_at dksX1_count_4 3 rfl rfl)
theorem dX1_count_98 : decode cX1_count 98 = .ok (.aload_n 0, 1) := dk_42 (dk_at dksX1_count_4 4 rfl rfl)
theorem dX1_count_99 : decode cX1_count 99 = .ok (.invokedynamic 163, 5) := by decide +kernel
theorem dX1_count_104 : decode cX1_count 104 = .ok (.invokevirtual 158, 3) := dk_182 0 158 (dk_at dksX1_count_4 10 rfl rfl)
theorem dX1_count_107 : decode cX1_count 107 = .ok (.goto 35, 3) := dk_167 0 35 (dk_at dksX1_count_4 13 rfl rfl)
theorem dX1_count_110 : decode cX1_count 110 = .ok (.aload_n 0, 1) := dk_42 (dk_at dksX1_count_4 16 rfl rfl)
theorem dX1_count_111 : decode cX1_count 111 = .ok (.invokevirtual 164, 3) := dk_182 0 164 (dk_at dksX1_count_4 17 rfl rfl)
theorem dX1_count_114 : decode cX1_count 114 = .ok (.goto 28, 3) := dk_167 0 28 (dk_at dksX1_count_4 20 rfl rfl)
theorem dX1_count_117 : decode cX1_count 117 = .ok (.aload_n 0, 1) := dk_42 (dk_at dksX1_count_4 23 rfl rfl)
theorem dX1_count_118 : decode cX1_count 118 = .ok (.invokevirtual 167, 3) := dk_182 0 167 (dk_at dksX1_count_5 0 rfl rfl)
theorem dX1_count_121 : decode cX1_count 121 = .ok (.goto 21, 3) := dk_167 0 21 (dk_at dksX1_count_5 3 rfl rfl)
theorem dX1_count_124 : decode cX1_count 124 = .ok (.aload_n 0, 1) := dk_42 (dk_at dksX1_count_5 6 rfl rfl)
theorem dX1_count_125 : decode cX1_count 125 = .ok (.getfield 52, 3) := dk_180 0 52 (dk_at dksX1_count_5 7 rfl rfl)
theorem dX1_count_128 : decode cX1_count 128 = .ok (.invokevirtual 107, 3) := dk_182 0 107 (dk_at dksX1_count_5 10 rfl rfl)
theorem dX1_count_131 : decode cX1_count 131 = .ok (.goto 11, 3) := dk_167 0 11 (dk_at dksX1_count_5 13 rfl rfl)
theorem dX1_count_134 : decode cX1_count 134 = .ok (.new 7, 3) := dk_187 0 7 (dk_at dksX1_count_5 16 rfl rfl)
theorem dX1_count_137 : decode cX1_count 137 = .ok (.dup, 1) := dk_89 (dk_at dksX1_count_5 19 rfl rfl)
theorem dX1_count_138 : decode cX1_count 138 = .ok (.invokespecial 9, 3) := dk_183 0 9 (dk_at dksX1_count_5 20 rfl rfl)
theorem dX1_count_141 : decode cX1_count 141 = .ok (.athrow, 1) := dk_191 (dk_at dksX1_count_5 23 rfl rfl)
theorem dX1_count_142 : decode cX1_count 142 = .ok (.ireturn, 1) := dk_172 (dk_at dksX1_count_6 0 rfl rfl)
abbrev cX1_lambda_count_0 : ByteArray := prog_1_method_77_code
def yX1_lambda_count_0 : MethodName := ⟨RX1, "lambda$count$0", "(I)I"⟩
def dkwX1_lambda_count_0_0 : List UInt8 := [42, 180, 0, 36, 27, 182, 0, 206, 158, 0, 7, 4, 167, 0, 4, 3, 184, 0, 199, 172]
abbrev dktX1_lambda_count_0_0 : List UInt8 := dkwX1_lambda_count_0_0 ++ []
theorem dksX1_lambda_count_0_0 : cX1_lambda_count_0.data.toList.drop 0 = dktX1_lambda_count_0_0 := by decide +kernel
theorem dX1_lambda_count_0_0 : decode cX1_lambda_count_0 0 = .ok (.aload_n 0, 1) := dk_42 (dk_at dksX1_lambda_count_0_0 0 rfl rfl)
theorem dX1_lambda_count_0_1 : decode cX1_lambda_count_0 1 = .ok (.getfield 36, 3) := dk_180 0 36 (dk_at dksX1_lambda_count_0_0 1 rfl rfl)
theorem dX1_lambda_count_0_4 : decode cX1_lambda_count_0 4 = .ok (.iload_n 1, 1) := dk_27 (dk_at dksX1_lambda_count_0_0 4 rfl rfl)
theorem dX1_lambda_count_0_5 : decode cX1_lambda_count_0 5 = .ok (.invokevirtual 206, 3) := dk_182 0 206 (dk_at dksX1_lambda_count_0_0 5 rfl rfl)
theorem dX1_lambda_count_0_8 : decode cX1_lambda_count_0 8 = .ok (.ifCond .le 7, 3) := dk_158 0 7 (dk_at dksX1_lambda_count_0_0 8 rfl rfl)
theorem dX1_lambda_count_0_11 : decode cX1_lambda_count_0 11 = .ok (.iconst 1, 1) := dk_4 (dk_at dksX1_lambda_count_0_0 11 rfl rfl)
theorem dX1_lambda_count_0_12 : decode cX1_lambda_count_0 12 = .ok (.goto 4, 3) := dk_167 0 4 (dk_at dksX1_lambda_count_0_0 12 rfl rfl)
theorem dX1_lambda_count_0_15 : decode cX1_lambda_count_0 15 = .ok (.iconst 0, 1) := dk_3 (dk_at dksX1_lambda_count_0_0 15 rfl rfl)
theorem dX1_lambda_count_0_16 : decode cX1_lambda_count_0 16 = .ok (.invokestatic 199, 3) := dk_184 0 199 (dk_at dksX1_lambda_count_0_0 16 rfl rfl)
theorem dX1_lambda_count_0_19 : decode cX1_lambda_count_0 19 = .ok (.ireturn, 1) := dk_172 (dk_at dksX1_lambda_count_0_0 19 rfl rfl)
abbrev cX1_sum : ByteArray := prog_1_method_18_code
def yX1_sum : MethodName := ⟨RX1, "sum", "(LCopyPrices$Sight;)I"⟩
def dkwX1_sum_1 : List UInt8 := [61, 132, 3, 1, 167, 255, 232, 28, 172]
abbrev dktX1_sum_1 : List UInt8 := dkwX1_sum_1 ++ []
def dkwX1_sum_0 : List UInt8 := [3, 61, 3, 62, 29, 42, 180, 0, 36, 180, 0, 104, 162, 0, 19, 28, 43, 29, 185, 0, 126, 2, 0, 96]
abbrev dktX1_sum_0 : List UInt8 := dkwX1_sum_0 ++ dktX1_sum_1
theorem dksX1_sum_0 : cX1_sum.data.toList.drop 0 = dktX1_sum_0 := by decide +kernel
theorem dksX1_sum_1 : cX1_sum.data.toList.drop 24 = dktX1_sum_1 := dk_seg dksX1_sum_0 24 rfl rfl
theorem dX1_sum_0 : decode cX1_sum 0 = .ok (.iconst 0, 1) := dk_3 (dk_at dksX1_sum_0 0 rfl rfl)
theorem dX1_sum_1 : decode cX1_sum 1 = .ok (.istore_n 2, 1) := dk_61 (dk_at dksX1_sum_0 1 rfl rfl)
theorem dX1_sum_2 : decode cX1_sum 2 = .ok (.iconst 0, 1) := dk_3 (dk_at dksX1_sum_0 2 rfl rfl)
theorem dX1_sum_3 : decode cX1_sum 3 = .ok (.istore_n 3, 1) := dk_62 (dk_at dksX1_sum_0 3 rfl rfl)
theorem dX1_sum_4 : decode cX1_sum 4 = .ok (.iload_n 3, 1) := dk_29 (dk_at dksX1_sum_0 4 rfl rfl)
theorem dX1_sum_5 : decode cX1_sum 5 = .ok (.aload_n 0, 1) := dk_42 (dk_at dksX1_sum_0 5 rfl rfl)
theorem dX1_sum_6 : decode cX1_sum 6 = .ok (.getfield 36, 3) := dk_180 0 36 (dk_at dksX1_sum_0 6 rfl rfl)
theorem dX1_sum_9 : decode cX1_sum 9 = .ok (.getfield 104, 3) := dk_180 0 104 (dk_at dksX1_sum_0 9 rfl rfl)
theorem dX1_sum_12 : decode cX1_sum 12 = .ok (.if_icmp .ge 19, 3) := dk_162 0 19 (dk_at dksX1_sum_0 12 rfl rfl)
theorem dX1_sum_15 : decode cX1_sum 15 = .ok (.iload_n 2, 1) := dk_28 (dk_at dksX1_sum_0 15 rfl rfl)
theorem dX1_sum_16 : decode cX1_sum 16 = .ok (.aload_n 1, 1) := dk_43 (dk_at dksX1_sum_0 16 rfl rfl)
theorem dX1_sum_17 : decode cX1_sum 17 = .ok (.iload_n 3, 1) := dk_29 (dk_at dksX1_sum_0 17 rfl rfl)
theorem dX1_sum_18 : decode cX1_sum 18 = .ok (.invokeinterface 126 2, 5) := by decide +kernel
theorem dX1_sum_23 : decode cX1_sum 23 = .ok (.iadd, 1) := dk_96 (dk_at dksX1_sum_0 23 rfl rfl)
theorem dX1_sum_24 : decode cX1_sum 24 = .ok (.istore_n 2, 1) := dk_61 (dk_at dksX1_sum_1 0 rfl rfl)
theorem dX1_sum_25 : decode cX1_sum 25 = .ok (.iinc 3 1, 3) := dk_132 3 1 (dk_at dksX1_sum_1 1 rfl rfl)
theorem dX1_sum_28 : decode cX1_sum 28 = .ok (.goto (-24), 3) := dk_167 255 232 (dk_at dksX1_sum_1 4 rfl rfl)
theorem dX1_sum_31 : decode cX1_sum 31 = .ok (.iload_n 2, 1) := dk_28 (dk_at dksX1_sum_1 7 rfl rfl)
theorem dX1_sum_32 : decode cX1_sum 32 = .ok (.ireturn, 1) := dk_172 (dk_at dksX1_sum_1 8 rfl rfl)
abbrev cX1_lambda_count_1 : ByteArray := prog_1_method_76_code
def yX1_lambda_count_1 : MethodName := ⟨RX1, "lambda$count$1", "(I)I"⟩
def dkwX1_lambda_count_1_0 : List UInt8 := [42, 180, 0, 36, 27, 182, 0, 212, 158, 0, 7, 4, 167, 0, 4, 3, 184, 0, 199, 172]
abbrev dktX1_lambda_count_1_0 : List UInt8 := dkwX1_lambda_count_1_0 ++ []
theorem dksX1_lambda_count_1_0 : cX1_lambda_count_1.data.toList.drop 0 = dktX1_lambda_count_1_0 := by decide +kernel
theorem dX1_lambda_count_1_0 : decode cX1_lambda_count_1 0 = .ok (.aload_n 0, 1) := dk_42 (dk_at dksX1_lambda_count_1_0 0 rfl rfl)
theorem dX1_lambda_count_1_1 : decode cX1_lambda_count_1 1 = .ok (.getfield 36, 3) := dk_180 0 36 (dk_at dksX1_lambda_count_1_0 1 rfl rfl)
theorem dX1_lambda_count_1_4 : decode cX1_lambda_count_1 4 = .ok (.iload_n 1, 1) := dk_27 (dk_at dksX1_lambda_count_1_0 4 rfl rfl)
theorem dX1_lambda_count_1_5 : decode cX1_lambda_count_1 5 = .ok (.invokevirtual 212, 3) := dk_182 0 212 (dk_at dksX1_lambda_count_1_0 5 rfl rfl)
theorem dX1_lambda_count_1_8 : decode cX1_lambda_count_1 8 = .ok (.ifCond .le 7, 3) := dk_158 0 7 (dk_at dksX1_lambda_count_1_0 8 rfl rfl)
theorem dX1_lambda_count_1_11 : decode cX1_lambda_count_1 11 = .ok (.iconst 1, 1) := dk_4 (dk_at dksX1_lambda_count_1_0 11 rfl rfl)
theorem dX1_lambda_count_1_12 : decode cX1_lambda_count_1 12 = .ok (.goto 4, 3) := dk_167 0 4 (dk_at dksX1_lambda_count_1_0 12 rfl rfl)
theorem dX1_lambda_count_1_15 : decode cX1_lambda_count_1 15 = .ok (.iconst 0, 1) := dk_3 (dk_at dksX1_lambda_count_1_0 15 rfl rfl)
theorem dX1_lambda_count_1_16 : decode cX1_lambda_count_1 16 = .ok (.invokestatic 199, 3) := dk_184 0 199 (dk_at dksX1_lambda_count_1_0 16 rfl rfl)
theorem dX1_lambda_count_1_19 : decode cX1_lambda_count_1 19 = .ok (.ireturn, 1) := dk_172 (dk_at dksX1_lambda_count_1_0 19 rfl rfl)
abbrev cX1_lambda_count_2 : ByteArray := prog_1_method_75_code
def yX1_lambda_count_2 : MethodName := ⟨RX1, "lambda$count$2", "(I)I"⟩
def dkwX1_lambda_count_2_0 : List UInt8 := [42, 180, 0, 36, 27, 182, 0, 212, 172]
abbrev dktX1_lambda_count_2_0 : List UInt8 := dkwX1_lambda_count_2_0 ++ []
theorem dksX1_lambda_count_2_0 : cX1_lambda_count_2.data.toList.drop 0 = dktX1_lambda_count_2_0 := by decide +kernel
theorem dX1_lambda_count_2_0 : decode cX1_lambda_count_2 0 = .ok (.aload_n 0, 1) := dk_42 (dk_at dksX1_lambda_count_2_0 0 rfl rfl)
theorem dX1_lambda_count_2_1 : decode cX1_lambda_count_2 1 = .ok (.getfield 36, 3) := dk_180 0 36 (dk_at dksX1_lambda_count_2_0 1 rfl rfl)
theorem dX1_lambda_count_2_4 : decode cX1_lambda_count_2 4 = .ok (.iload_n 1, 1) := dk_27 (dk_at dksX1_lambda_count_2_0 4 rfl rfl)
theorem dX1_lambda_count_2_5 : decode cX1_lambda_count_2 5 = .ok (.invokevirtual 212, 3) := dk_182 0 212 (dk_at dksX1_lambda_count_2_0 5 rfl rfl)
theorem dX1_lambda_count_2_8 : decode cX1_lambda_count_2 8 = .ok (.ireturn, 1) := dk_172 (dk_at dksX1_lambda_count_2_0 8 rfl rfl)
abbrev cX1_longestCopy : ByteArray := prog_1_method_19_code
def yX1_longestCopy : MethodName := ⟨RX1, "longestCopy", "()I"⟩
def dkwX1_longestCopy_1 : List UInt8 := [184, 0, 134, 60, 132, 2, 1, 167, 255, 229, 27, 172]
abbrev dktX1_longestCopy_1 : List UInt8 := dkwX1_longestCopy_1 ++ []
def dkwX1_longestCopy_0 : List UInt8 := [3, 60, 3, 61, 28, 42, 180, 0, 36, 180, 0, 104, 162, 0, 22, 27, 42, 180, 0, 36, 28, 182, 0, 131]
abbrev dktX1_longestCopy_0 : List UInt8 := dkwX1_longestCopy_0 ++ dktX1_longestCopy_1
theorem dksX1_longestCopy_0 : cX1_longestCopy.data.toList.drop 0 = dktX1_longestCopy_0 := by decide +kernel
theorem dksX1_longestCopy_1 : cX1_longestCopy.data.toList.drop 24 = dktX1_longestCopy_1 := dk_seg dksX1_longestCopy_0 24 rfl rfl
theorem dX1_longestCopy_0 : decode cX1_longestCopy 0 = .ok (.iconst 0, 1) := dk_3 (dk_at dksX1_longestCopy_0 0 rfl rfl)
theorem dX1_longestCopy_1 : decode cX1_longestCopy 1 = .ok (.istore_n 1, 1) := dk_60 (dk_at dksX1_longestCopy_0 1 rfl rfl)
theorem dX1_longestCopy_2 : decode cX1_longestCopy 2 = .ok (.iconst 0, 1) := dk_3 (dk_at dksX1_longestCopy_0 2 rfl rfl)
theorem dX1_longestCopy_3 : decode cX1_longestCopy 3 = .ok (.istore_n 2, 1) := dk_61 (dk_at dksX1_longestCopy_0 3 rfl rfl)
theorem dX1_longestCopy_4 : decode cX1_longestCopy 4 = .ok (.iload_n 2, 1) := dk_28 (dk_at dksX1_longestCopy_0 4 rfl rfl)
theorem dX1_longestCopy_5 : decode cX1_longestCopy 5 = .ok (.aload_n 0, 1) := dk_42 (dk_at dksX1_longestCopy_0 5 rfl rfl)
theorem dX1_longestCopy_6 : decode cX1_longestCopy 6 = .ok (.getfield 36, 3) := dk_180 0 36 (dk_at dksX1_longestCopy_0 6 rfl rfl)
theorem dX1_longestCopy_9 : decode cX1_longestCopy 9 = .ok (.getfield 104, 3) := dk_180 0 104 (dk_at dksX1_longestCopy_0 9 rfl rfl)
theorem dX1_longestCopy_12 : decode cX1_longestCopy 12 = .ok (.if_icmp .ge 22, 3) := dk_162 0 22 (dk_at dksX1_longestCopy_0 12 rfl rfl)
theorem dX1_longestCopy_15 : decode cX1_longestCopy 15 = .ok (.iload_n 1, 1) := dk_27 (dk_at dksX1_longestCopy_0 15 rfl rfl)
theorem dX1_longestCopy_16 : decode cX1_longestCopy 16 = .ok (.aload_n 0, 1) := dk_42 (dk_at dksX1_longestCopy_0 16 rfl rfl)
theorem dX1_longestCopy_17 : decode cX1_longestCopy 17 = .ok (.getfield 36, 3) := dk_180 0 36 (dk_at dksX1_longestCopy_0 17 rfl rfl)
theorem dX1_longestCopy_20 : decode cX1_longestCopy 20 = .ok (.iload_n 2, 1) := dk_28 (dk_at dksX1_longestCopy_0 20 rfl rfl)
theorem dX1_longestCopy_21 : decode cX1_longestCopy 21 = .ok (.invokevirtual 131, 3) := dk_182 0 131 (dk_at dksX1_longestCopy_0 21 rfl rfl)
theorem dX1_longestCopy_24 : decode cX1_longestCopy 24 = .ok (.invokestatic 134, 3) := dk_184 0 134 (dk_at dksX1_longestCopy_1 0 rfl rfl)
theorem dX1_longestCopy_27 : decode cX1_longestCopy 27 = .ok (.istore_n 1, 1) := dk_60 (dk_at dksX1_longestCopy_1 3 rfl rfl)
theorem dX1_longestCopy_28 : decode cX1_longestCopy 28 = .ok (.iinc 2 1, 3) := dk_132 2 1 (dk_at dksX1_longestCopy_1 4 rfl rfl)
theorem dX1_longestCopy_31 : decode cX1_longestCopy 31 = .ok (.goto (-27), 3) := dk_167 255 229 (dk_at dksX1_longestCopy_1 7 rfl rfl)
theorem dX1_longestCopy_34 : decode cX1_longestCopy 34 = .ok (.iload_n 1, 1) := dk_27 (dk_at dksX1_longestCopy_1 10 rfl rfl)
theorem dX1_longestCopy_35 : decode cX1_longestCopy 35 = .ok (.ireturn, 1) := dk_172 (dk_at dksX1_longestCopy_1 11 rfl rfl)
abbrev cX1_differentLetters : ByteArray := prog_1_method_20_code
def yX1_differentLetters : MethodName := ⟨RX1, "differentLetters", "()I"⟩
def dkwX1_differentLetters_1 : List UInt8 := [28, 51, 120, 128, 60, 132, 2, 1, 167, 255, 228, 27, 184, 0, 143, 172]
abbrev dktX1_differentLetters_1 : List UInt8 := dkwX1_differentLetters_1 ++ []
def dkwX1_differentLetters_0 : List UInt8 := [3, 60, 3, 61, 28, 42, 180, 0, 36, 180, 0, 104, 162, 0, 23, 27, 4, 42, 180, 0, 36, 180, 0, 140]
abbrev dktX1_differentLetters_0 : List UInt8 := dkwX1_differentLetters_0 ++ dktX1_differentLetters_1
theorem dksX1_differentLetters_0 : cX1_differentLetters.data.toList.drop 0 = dktX1_differentLetters_0 := by decide +kernel
theorem dksX1_differentLetters_1 : cX1_differentLetters.data.toList.drop 24 = dktX1_differentLetters_1 := dk_seg dksX1_differentLetters_0 24 rfl rfl
theorem dX1_differentLetters_0 : decode cX1_differentLetters 0 = .ok (.iconst 0, 1) := dk_3 (dk_at dksX1_differentLetters_0 0 rfl rfl)
theorem dX1_differentLetters_1 : decode cX1_differentLetters 1 = .ok (.istore_n 1, 1) := dk_60 (dk_at dksX1_differentLetters_0 1 rfl rfl)
theorem dX1_differentLetters_2 : decode cX1_differentLetters 2 = .ok (.iconst 0, 1) := dk_3 (dk_at dksX1_differentLetters_0 2 rfl rfl)
theorem dX1_differentLetters_3 : decode cX1_differentLetters 3 = .ok (.istore_n 2, 1) := dk_61 (dk_at dksX1_differentLetters_0 3 rfl rfl)
theorem dX1_differentLetters_4 : decode cX1_differentLetters 4 = .ok (.iload_n 2, 1) := dk_28 (dk_at dksX1_differentLetters_0 4 rfl rfl)
theorem dX1_differentLetters_5 : decode cX1_differentLetters 5 = .ok (.aload_n 0, 1) := dk_42 (dk_at dksX1_differentLetters_0 5 rfl rfl)
theorem dX1_differentLetters_6 : decode cX1_differentLetters 6 = .ok (.getfield 36, 3) := dk_180 0 36 (dk_at dksX1_differentLetters_0 6 rfl rfl)
theorem dX1_differentLetters_9 : decode cX1_differentLetters 9 = .ok (.getfield 104, 3) := dk_180 0 104 (dk_at dksX1_differentLetters_0 9 rfl rfl)
theorem dX1_differentLetters_12 : decode cX1_differentLetters 12 = .ok (.if_icmp .ge 23, 3) := dk_162 0 23 (dk_at dksX1_differentLetters_0 12 rfl rfl)
theorem dX1_differentLetters_15 : decode cX1_differentLetters 15 = .ok (.iload_n 1, 1) := dk_27 (dk_at dksX1_differentLetters_0 15 rfl rfl)
theorem dX1_differentLetters_16 : decode cX1_differentLetters 16 = .ok (.iconst 1, 1) := dk_4 (dk_at dksX1_differentLetters_0 16 rfl rfl)
theorem dX1_differentLetters_17 : decode cX1_differentLetters 17 = .ok (.aload_n 0, 1) := dk_42 (dk_at dksX1_differentLetters_0 17 rfl rfl)
theorem dX1_differentLetters_18 : decode cX1_differentLetters 18 = .ok (.getfield 36, 3) := dk_180 0 36 (dk_at dksX1_differentLetters_0 18 rfl rfl)
theorem dX1_differentLetters_21 : decode cX1_differentLetters 21 = .ok (.getfield 140, 3) := dk_180 0 140 (dk_at dksX1_differentLetters_0 21 rfl rfl)
theorem dX1_differentLetters_24 : decode cX1_differentLetters 24 = .ok (.iload_n 2, 1) := dk_28 (dk_at dksX1_differentLetters_1 0 rfl rfl)
theorem dX1_differentLetters_25 : decode cX1_differentLetters 25 = .ok (.baload, 1) := dk_51 (dk_at dksX1_differentLetters_1 1 rfl rfl)
theorem dX1_differentLetters_26 : decode cX1_differentLetters 26 = .ok (.ishl, 1) := dk_120 (dk_at dksX1_differentLetters_1 2 rfl rfl)
theorem dX1_differentLetters_27 : decode cX1_differentLetters 27 = .ok (.ior, 1) := dk_128 (dk_at dksX1_differentLetters_1 3 rfl rfl)
theorem dX1_differentLetters_28 : decode cX1_differentLetters 28 = .ok (.istore_n 1, 1) := dk_60 (dk_at dksX1_differentLetters_1 4 rfl rfl)
theorem dX1_differentLetters_29 : decode cX1_differentLetters 29 = .ok (.iinc 2 1, 3) := dk_132 2 1 (dk_at dksX1_differentLetters_1 5 rfl rfl)
theorem dX1_differentLetters_32 : decode cX1_differentLetters 32 = .ok (.goto (-28), 3) := dk_167 255 228 (dk_at dksX1_differentLetters_1 8 rfl rfl)
theorem dX1_differentLetters_35 : decode cX1_differentLetters 35 = .ok (.iload_n 1, 1) := dk_27 (dk_at dksX1_differentLetters_1 11 rfl rfl)
theorem dX1_differentLetters_36 : decode cX1_differentLetters 36 = .ok (.invokestatic 143, 3) := dk_184 0 143 (dk_at dksX1_differentLetters_1 12 rfl rfl)
theorem dX1_differentLetters_39 : decode cX1_differentLetters 39 = .ok (.ireturn, 1) := dk_172 (dk_at dksX1_differentLetters_1 15 rfl rfl)
abbrev cX1_account : ByteArray := prog_1_method_22_code
def yX1_account : MethodName := ⟨RX1, "account", "(I)I"⟩
def dkwX1_account_0 : List UInt8 := [27, 133, 9, 20, 0, 170, 184, 0, 75, 184, 0, 172, 42, 180, 0, 36, 180, 0, 122, 27, 46, 172]
abbrev dktX1_account_0 : List UInt8 := dkwX1_account_0 ++ []
theorem dksX1_account_0 : cX1_account.data.toList.drop 0 = dktX1_account_0 := by decide +kernel
theorem dX1_account_0 : decode cX1_account 0 = .ok (.iload_n 1, 1) := dk_27 (dk_at dksX1_account_0 0 rfl rfl)
theorem dX1_account_1 : decode cX1_account 1 = .ok (.i2l, 1) := dk_133 (dk_at dksX1_account_0 1 rfl rfl)
theorem dX1_account_2 : decode cX1_account 2 = .ok (.lconst 0, 1) := dk_9 (dk_at dksX1_account_0 2 rfl rfl)
theorem dX1_account_3 : decode cX1_account 3 = .ok (.ldc2_w 170, 3) := dk_20 0 170 (dk_at dksX1_account_0 3 rfl rfl)
theorem dX1_account_6 : decode cX1_account 6 = .ok (.invokestatic 75, 3) := dk_184 0 75 (dk_at dksX1_account_0 6 rfl rfl)
theorem dX1_account_9 : decode cX1_account 9 = .ok (.invokestatic 172, 3) := dk_184 0 172 (dk_at dksX1_account_0 9 rfl rfl)
theorem dX1_account_12 : decode cX1_account 12 = .ok (.aload_n 0, 1) := dk_42 (dk_at dksX1_account_0 12 rfl rfl)
theorem dX1_account_13 : decode cX1_account 13 = .ok (.getfield 36, 3) := dk_180 0 36 (dk_at dksX1_account_0 13 rfl rfl)
theorem dX1_account_16 : decode cX1_account 16 = .ok (.getfield 122, 3) := dk_180 0 122 (dk_at dksX1_account_0 16 rfl rfl)
theorem dX1_account_19 : decode cX1_account 19 = .ok (.iload_n 1, 1) := dk_27 (dk_at dksX1_account_0 19 rfl rfl)
theorem dX1_account_20 : decode cX1_account 20 = .ok (.iaload, 1) := dk_46 (dk_at dksX1_account_0 20 rfl rfl)
theorem dX1_account_21 : decode cX1_account 21 = .ok (.ireturn, 1) := dk_172 (dk_at dksX1_account_0 21 rfl rfl)
abbrev cX1_needRange : ByteArray := prog_1_method_4_code
def yX1_needRange : MethodName := ⟨RX1, "needRange", "(Z)V"⟩
def dkwX1_needRange_0 : List UInt8 := [26, 154, 0, 11, 187, 0, 7, 89, 183, 0, 9, 191, 177]
abbrev dktX1_needRange_0 : List UInt8 := dkwX1_needRange_0 ++ []
theorem dksX1_needRange_0 : cX1_needRange.data.toList.drop 0 = dktX1_needRange_0 := by decide +kernel
theorem dX1_needRange_0 : decode cX1_needRange 0 = .ok (.iload_n 0, 1) := dk_26 (dk_at dksX1_needRange_0 0 rfl rfl)
theorem dX1_needRange_1 : decode cX1_needRange 1 = .ok (.ifCond .ne 11, 3) := dk_154 0 11 (dk_at dksX1_needRange_0 1 rfl rfl)
theorem dX1_needRange_4 : decode cX1_needRange 4 = .ok (.new 7, 3) := dk_187 0 7 (dk_at dksX1_needRange_0 4 rfl rfl)
theorem dX1_needRange_7 : decode cX1_needRange 7 = .ok (.dup, 1) := dk_89 (dk_at dksX1_needRange_0 7 rfl rfl)
theorem dX1_needRange_8 : decode cX1_needRange 8 = .ok (.invokespecial 9, 3) := dk_183 0 9 (dk_at dksX1_needRange_0 8 rfl rfl)
theorem dX1_needRange_11 : decode cX1_needRange 11 = .ok (.athrow, 1) := dk_191 (dk_at dksX1_needRange_0 11 rfl rfl)
theorem dX1_needRange_12 : decode cX1_needRange 12 = .ok (.return_, 1) := dk_177 (dk_at dksX1_needRange_0 12 rfl rfl)
abbrev cX1_setting : ByteArray := prog_1_method_23_code
def yX1_setting : MethodName := ⟨RX1, "setting", "(I)I"⟩
def dkwX1_setting_0 : List UInt8 := [27, 133, 9, 20, 0, 176, 184, 0, 75, 184, 0, 172, 42, 180, 0, 36, 180, 0, 178, 27, 46, 172]
abbrev dktX1_setting_0 : List UInt8 := dkwX1_setting_0 ++ []
theorem dksX1_setting_0 : cX1_setting.data.toList.drop 0 = dktX1_setting_0 := by decide +kernel
theorem dX1_setting_0 : decode cX1_setting 0 = .ok (.iload_n 1, 1) := dk_27 (dk_at dksX1_setting_0 0 rfl rfl)
theorem dX1_setting_1 : decode cX1_setting 1 = .ok (.i2l, 1) := dk_133 (dk_at dksX1_setting_0 1 rfl rfl)
theorem dX1_setting_2 : decode cX1_setting 2 = .ok (.lconst 0, 1) := dk_9 (dk_at dksX1_setting_0 2 rfl rfl)
theorem dX1_setting_3 : decode cX1_setting 3 = .ok (.ldc2_w 176, 3) := dk_20 0 176 (dk_at dksX1_setting_0 3 rfl rfl)
theorem dX1_setting_6 : decode cX1_setting 6 = .ok (.invokestatic 75, 3) := dk_184 0 75 (dk_at dksX1_setting_0 6 rfl rfl)
theorem dX1_setting_9 : decode cX1_setting 9 = .ok (.invokestatic 172, 3) := dk_184 0 172 (dk_at dksX1_setting_0 9 rfl rfl)
theorem dX1_setting_12 : decode cX1_setting 12 = .ok (.aload_n 0, 1) := dk_42 (dk_at dksX1_setting_0 12 rfl rfl)
theorem dX1_setting_13 : decode cX1_setting 13 = .ok (.getfield 36, 3) := dk_180 0 36 (dk_at dksX1_setting_0 13 rfl rfl)
theorem dX1_setting_16 : decode cX1_setting 16 = .ok (.getfield 178, 3) := dk_180 0 178 (dk_at dksX1_setting_0 16 rfl rfl)
theorem dX1_setting_19 : decode cX1_setting 19 = .ok (.iload_n 1, 1) := dk_27 (dk_at dksX1_setting_0 19 rfl rfl)
theorem dX1_setting_20 : decode cX1_setting 20 = .ok (.iaload, 1) := dk_46 (dk_at dksX1_setting_0 20 rfl rfl)
theorem dX1_setting_21 : decode cX1_setting 21 = .ok (.ireturn, 1) := dk_172 (dk_at dksX1_setting_0 21 rfl rfl)
abbrev cX1_price : ByteArray := prog_1_method_24_code
def yX1_price : MethodName := ⟨RX1, "price", "(I)I"⟩
def dkwX1_price_0 : List UInt8 := [27, 133, 9, 20, 0, 181, 184, 0, 75, 184, 0, 172, 42, 180, 0, 36, 180, 0, 183, 27, 46, 172]
abbrev dktX1_price_0 : List UInt8 := dkwX1_price_0 ++ []
theorem dksX1_price_0 : cX1_price.data.toList.drop 0 = dktX1_price_0 := by decide +kernel
theorem dX1_price_0 : decode cX1_price 0 = .ok (.iload_n 1, 1) := dk_27 (dk_at dksX1_price_0 0 rfl rfl)
theorem dX1_price_1 : decode cX1_price 1 = .ok (.i2l, 1) := dk_133 (dk_at dksX1_price_0 1 rfl rfl)
theorem dX1_price_2 : decode cX1_price 2 = .ok (.lconst 0, 1) := dk_9 (dk_at dksX1_price_0 2 rfl rfl)
theorem dX1_price_3 : decode cX1_price 3 = .ok (.ldc2_w 181, 3) := dk_20 0 181 (dk_at dksX1_price_0 3 rfl rfl)
theorem dX1_price_6 : decode cX1_price 6 = .ok (.invokestatic 75, 3) := dk_184 0 75 (dk_at dksX1_price_0 6 rfl rfl)
theorem dX1_price_9 : decode cX1_price 9 = .ok (.invokestatic 172, 3) := dk_184 0 172 (dk_at dksX1_price_0 9 rfl rfl)
theorem dX1_price_12 : decode cX1_price 12 = .ok (.aload_n 0, 1) := dk_42 (dk_at dksX1_price_0 12 rfl rfl)
theorem dX1_price_13 : decode cX1_price 13 = .ok (.getfield 36, 3) := dk_180 0 36 (dk_at dksX1_price_0 13 rfl rfl)
theorem dX1_price_16 : decode cX1_price 16 = .ok (.getfield 183, 3) := dk_180 0 183 (dk_at dksX1_price_0 16 rfl rfl)
theorem dX1_price_19 : decode cX1_price 19 = .ok (.iload_n 1, 1) := dk_27 (dk_at dksX1_price_0 19 rfl rfl)
theorem dX1_price_20 : decode cX1_price 20 = .ok (.iaload, 1) := dk_46 (dk_at dksX1_price_0 20 rfl rfl)
theorem dX1_price_21 : decode cX1_price 21 = .ok (.ireturn, 1) := dk_172 (dk_at dksX1_price_0 21 rfl rfl)
abbrev cX1_place : ByteArray := prog_1_method_27_code
def yX1_place : MethodName := ⟨RX1, "place", "(II)I"⟩
def dkwX1_place_5 : List UInt8 := [180, 0, 36, 27, 182, 0, 212, 167, 0, 11, 187, 0, 7, 89, 183, 0, 9, 191, 172]
abbrev dktX1_place_5 : List UInt8 := dkwX1_place_5 ++ []
def dkwX1_place_4 : List UInt8 := [167, 0, 41, 42, 180, 0, 36, 27, 182, 0, 131, 167, 0, 30, 42, 27, 182, 0, 209, 167, 0, 22, 42]
abbrev dktX1_place_4 : List UInt8 := dkwX1_place_4 ++ dktX1_place_5
def dkwX1_place_3 : List UInt8 := [167, 0, 63, 42, 180, 0, 36, 27, 182, 0, 203, 167, 0, 52, 42, 180, 0, 36, 27, 182, 0, 206]
abbrev dktX1_place_3 : List UInt8 := dkwX1_place_3 ++ dktX1_place_4
def dkwX1_place_2 : List UInt8 := [42, 180, 0, 36, 180, 0, 140, 27, 51, 167, 0, 77, 42, 180, 0, 36, 27, 182, 0, 195, 184, 0, 199]
abbrev dktX1_place_2 : List UInt8 := dkwX1_place_2 ++ dktX1_place_3
def dkwX1_place_1 : List UInt8 := [170, 0, 0, 0, 0, 120, 0, 0, 0, 0, 0, 0, 0, 6, 0, 0, 0, 42, 0, 0, 0, 54, 0, 0, 0, 68, 0, 0, 0, 79, 0, 0, 0, 90, 0, 0, 0, 101, 0, 0, 0, 109]
abbrev dktX1_place_1 : List UInt8 := dkwX1_place_1 ++ dktX1_place_2
def dkwX1_place_0 : List UInt8 := [42, 27, 182, 0, 192, 28]
abbrev dktX1_place_0 : List UInt8 := dkwX1_place_0 ++ dktX1_place_1
theorem dksX1_place_0 : cX1_place.data.toList.drop 0 = dktX1_place_0 := by decide +kernel
theorem dksX1_place_1 : cX1_place.data.toList.drop 6 = dktX1_place_1 := dk_seg dksX1_place_0 6 rfl rfl
theorem dksX1_place_2 : cX1_place.data.toList.drop 48 = dktX1_place_2 := dk_seg dksX1_place_1 42 rfl rfl
theorem dksX1_place_3 : cX1_place.data.toList.drop 71 = dktX1_place_3 := dk_seg dksX1_place_2 23 rfl rfl
theorem dksX1_place_4 : cX1_place.data.toList.drop 93 = dktX1_place_4 := dk_seg dksX1_place_3 22 rfl rfl
theorem dksX1_place_5 : cX1_place.data.toList.drop 116 = dktX1_place_5 := dk_seg dksX1_place_4 23 rfl rfl
theorem dX1_place_0 : decode cX1_place 0 = .ok (.aload_n 0, 1) := dk_42 (dk_at dksX1_place_0 0 rfl rfl)
theorem dX1_place_1 : decode cX1_place 1 = .ok (.iload_n 1, 1) := dk_27 (dk_at dksX1_place_0 1 rfl rfl)
theorem dX1_place_2 : decode cX1_place 2 = .ok (.invokevirtual 192, 3) := dk_182 0 192 (dk_at dksX1_place_0 2 rfl rfl)
theorem dX1_place_5 : decode cX1_place 5 = .ok (.iload_n 2, 1) := dk_28 (dk_at dksX1_place_0 5 rfl rfl)
theorem dX1_place_6 : decode cX1_place 6 = .ok (.tableswitch 120 0 6 #[42, 54, 68, 79, 90, 101, 109], 42) := by decide +kernel
theorem dX1_place_48 : decode cX1_place 48 = .ok (.aload_n 0, 1) := dk_42 (dk_at dksX1_place_2 0 rfl rfl)
theorem dX1_place_49 : decode cX1_place 49 = .ok (.getfield 36, 3) := dk_180 0 36 (dk_at dksX1_place_2 1 rfl rfl)
theorem dX1_place_52 : decode cX1_place 52 = .ok (.getfield 140, 3) := dk_180 0 140 (dk_at dksX1_place_2 4 rfl rfl)
theorem dX1_place_55 : decode cX1_place 55 = .ok (.iload_n 1, 1) := dk_27 (dk_at dksX1_place_2 7 rfl rfl)
theorem dX1_place_56 : decode cX1_place 56 = .ok (.baload, 1) := dk_51 (dk_at dksX1_place_2 8 rfl rfl)
theorem dX1_place_57 : decode cX1_place 57 = .ok (.goto 77, 3) := dk_167 0 77 (dk_at dksX1_place_2 9 rfl rfl)
theorem dX1_place_60 : decode cX1_place 60 = .ok (.aload_n 0, 1) := dk_42 (dk_at dksX1_place_2 12 rfl rfl)
theorem dX1_place_61 : decode cX1_place 61 = .ok (.getfield 36, 3) := dk_180 0 36 (dk_at dksX1_place_2 13 rfl rfl)
theorem dX1_place_64 : decode cX1_place 64 = .ok (.iload_n 1, 1) := dk_27 (dk_at dksX1_place_2 16 rfl rfl)
theorem dX1_place_65 : decode cX1_place 65 = .ok (.invokevirtual 195, 3) := dk_182 0 195 (dk_at dksX1_place_2 17 rfl rfl)
theorem dX1_place_68 : decode cX1_place 68 = .ok (.invokestatic 199, 3) := dk_184 0 199 (dk_at dksX1_place_2 20 rfl rfl)
theorem dX1_place_71 : decode cX1_place 71 = .ok (.goto 63, 3) := dk_167 0 63 (dk_at dksX1_place_3 0 rfl rfl)
theorem dX1_place_74 : decode cX1_place 74 = .ok (.aload_n 0, 1) := dk_42 (dk_at dksX1_place_3 3 rfl rfl)
theorem dX1_place_75 : decode cX1_place 75 = .ok (.getfield 36, 3) := dk_180 0 36 (dk_at dksX1_place_3 4 rfl rfl)
theorem dX1_place_78 : decode cX1_place 78 = .ok (.iload_n 1, 1) := dk_27 (dk_at dksX1_place_3 7 rfl rfl)
theorem dX1_place_79 : decode cX1_place 79 = .ok (.invokevirtual 203, 3) := dk_182 0 203 (dk_at dksX1_place_3 8 rfl rfl)
theorem dX1_place_82 : decode cX1_place 82 = .ok (.goto 52, 3) := dk_167 0 52 (dk_at dksX1_place_3 11 rfl rfl)
theorem dX1_place_85 : decode cX1_place 85 = .ok (.aload_n 0, 1) := dk_42 (dk_at dksX1_place_3 14 rfl rfl)
theorem dX1_place_86 : decode cX1_place 86 = .ok (.getfield 36, 3) := dk_180 0 36 (dk_at dksX1_place_3 15 rfl rfl)
theorem dX1_place_89 : decode cX1_place 89 = .ok (.iload_n 1, 1) := dk_27 (dk_at dksX1_place_3 18 rfl rfl)
theorem dX1_place_90 : decode cX1_place 90 = .ok (.invokevirtual 206, 3) := dk_182 0 206 (dk_at dksX1_place_3 19 rfl rfl)
theorem dX1_place_93 : decode cX1_place 93 = .ok (.goto 41, 3) := dk_167 0 41 (dk_at dksX1_place_4 0 rfl rfl)
theorem dX1_place_96 : decode cX1_place 96 = .ok (.aload_n 0, 1) := dk_42 (dk_at dksX1_place_4 3 rfl rfl)
theorem dX1_place_97 : decode cX1_place 97 = .ok (.getfield 36, 3) := dk_180 0 36 (dk_at dksX1_place_4 4 rfl rfl)
theorem dX1_place_100 : decode cX1_place 100 = .ok (.iload_n 1, 1) := dk_27 (dk_at dksX1_place_4 7 rfl rfl)
theorem dX1_place_101 : decode cX1_place 101 = .ok (.invokevirtual 131, 3) := dk_182 0 131 (dk_at dksX1_place_4 8 rfl rfl)
theorem dX1_place_104 : decode cX1_place 104 = .ok (.goto 30, 3) := dk_167 0 30 (dk_at dksX1_place_4 11 rfl rfl)
theorem dX1_place_107 : decode cX1_place 107 = .ok (.aload_n 0, 1) := dk_42 (dk_at dksX1_place_4 14 rfl rfl)
theorem dX1_place_108 : decode cX1_place 108 = .ok (.iload_n 1, 1) := dk_27 (dk_at dksX1_place_4 15 rfl rfl)
theorem dX1_place_109 : decode cX1_place 109 = .ok (.invokevirtual 209, 3) := dk_182 0 209 (dk_at dksX1_place_4 16 rfl rfl)
theorem dX1_place_112 : decode cX1_place 112 = .ok (.goto 22, 3) := dk_167 0 22 (dk_at dksX1_place_4 19 rfl rfl)
theorem dX1_place_115 : decode cX1_place 115 = .ok (.aload_n 0, 1) := dk_42 (dk_at dksX1_place_4 22 rfl rfl)
theorem dX1_place_116 : decode cX1_place 116 = .ok (.getfield 36, 3) := dk_180 0 36 (dk_at dksX1_place_5 0 rfl rfl)
theorem dX1_place_119 : decode cX1_place 119 = .ok (.iload_n 1, 1) := dk_27 (dk_at dksX1_place_5 3 rfl rfl)
theorem dX1_place_120 : decode cX1_place 120 = .ok (.invokevirtual 212, 3) := dk_182 0 212 (dk_at dksX1_place_5 4 rfl rfl)
theorem dX1_place_123 : decode cX1_place 123 = .ok (.goto 11, 3) := dk_167 0 11 (dk_at dksX1_place_5 7 rfl rfl)
theorem dX1_place_126 : decode cX1_place 126 = .ok (.new 7, 3) := dk_187 0 7 (dk_at dksX1_place_5 10 rfl rfl)
theorem dX1_place_129 : decode cX1_place 129 = .ok (.dup, 1) := dk_89 (dk_at dksX1_place_5 13 rfl rfl)
theorem dX1_place_130 : decode cX1_place 130 = .ok (.invokespecial 9, 3) := dk_183 0 9 (dk_at dksX1_place_5 14 rfl rfl)
theorem dX1_place_133 : decode cX1_place 133 = .ok (.athrow, 1) := dk_191 (dk_at dksX1_place_5 17 rfl rfl)
theorem dX1_place_134 : decode cX1_place 134 = .ok (.ireturn, 1) := dk_172 (dk_at dksX1_place_5 18 rfl rfl)
abbrev cX1_needPlace : ByteArray := prog_1_method_25_code
def yX1_needPlace : MethodName := ⟨RX1, "needPlace", "(I)V"⟩
def dkwX1_needPlace_0 : List UInt8 := [27, 133, 9, 42, 180, 0, 36, 180, 0, 104, 4, 100, 133, 184, 0, 75, 184, 0, 186, 177]
abbrev dktX1_needPlace_0 : List UInt8 := dkwX1_needPlace_0 ++ []
theorem dksX1_needPlace_0 : cX1_needPlace.data.toList.drop 0 = dktX1_needPlace_0 := by decide +kernel
theorem dX1_needPlace_0 : decode cX1_needPlace 0 = .ok (.iload_n 1, 1) := dk_27 (dk_at dksX1_needPlace_0 0 rfl rfl)
theorem dX1_needPlace_1 : decode cX1_needPlace 1 = .ok (.i2l, 1) := dk_133 (dk_at dksX1_needPlace_0 1 rfl rfl)
theorem dX1_needPlace_2 : decode cX1_needPlace 2 = .ok (.lconst 0, 1) := dk_9 (dk_at dksX1_needPlace_0 2 rfl rfl)
theorem dX1_needPlace_3 : decode cX1_needPlace 3 = .ok (.aload_n 0, 1) := dk_42 (dk_at dksX1_needPlace_0 3 rfl rfl)
theorem dX1_needPlace_4 : decode cX1_needPlace 4 = .ok (.getfield 36, 3) := dk_180 0 36 (dk_at dksX1_needPlace_0 4 rfl rfl)
theorem dX1_needPlace_7 : decode cX1_needPlace 7 = .ok (.getfield 104, 3) := dk_180 0 104 (dk_at dksX1_needPlace_0 7 rfl rfl)
theorem dX1_needPlace_10 : decode cX1_needPlace 10 = .ok (.iconst 1, 1) := dk_4 (dk_at dksX1_needPlace_0 10 rfl rfl)
theorem dX1_needPlace_11 : decode cX1_needPlace 11 = .ok (.isub, 1) := dk_100 (dk_at dksX1_needPlace_0 11 rfl rfl)
theorem dX1_needPlace_12 : decode cX1_needPlace 12 = .ok (.i2l, 1) := dk_133 (dk_at dksX1_needPlace_0 12 rfl rfl)
theorem dX1_needPlace_13 : decode cX1_needPlace 13 = .ok (.invokestatic 75, 3) := dk_184 0 75 (dk_at dksX1_needPlace_0 13 rfl rfl)
theorem dX1_needPlace_16 : decode cX1_needPlace 16 = .ok (.invokestatic 186, 3) := dk_184 0 186 (dk_at dksX1_needPlace_0 16 rfl rfl)
theorem dX1_needPlace_19 : decode cX1_needPlace 19 = .ok (.return_, 1) := dk_177 (dk_at dksX1_needPlace_0 19 rfl rfl)
abbrev cX1_needIndex : ByteArray := prog_1_method_5_code
def yX1_needIndex : MethodName := ⟨RX1, "needIndex", "(Z)V"⟩
def dkwX1_needIndex_0 : List UInt8 := [26, 154, 0, 11, 187, 0, 13, 89, 183, 0, 15, 191, 177]
abbrev dktX1_needIndex_0 : List UInt8 := dkwX1_needIndex_0 ++ []
theorem dksX1_needIndex_0 : cX1_needIndex.data.toList.drop 0 = dktX1_needIndex_0 := by decide +kernel
theorem dX1_needIndex_0 : decode cX1_needIndex 0 = .ok (.iload_n 0, 1) := dk_26 (dk_at dksX1_needIndex_0 0 rfl rfl)
theorem dX1_needIndex_1 : decode cX1_needIndex 1 = .ok (.ifCond .ne 11, 3) := dk_154 0 11 (dk_at dksX1_needIndex_0 1 rfl rfl)
theorem dX1_needIndex_4 : decode cX1_needIndex 4 = .ok (.new 13, 3) := dk_187 0 13 (dk_at dksX1_needIndex_0 4 rfl rfl)
theorem dX1_needIndex_7 : decode cX1_needIndex 7 = .ok (.dup, 1) := dk_89 (dk_at dksX1_needIndex_0 7 rfl rfl)
theorem dX1_needIndex_8 : decode cX1_needIndex 8 = .ok (.invokespecial 15, 3) := dk_183 0 15 (dk_at dksX1_needIndex_0 8 rfl rfl)
theorem dX1_needIndex_11 : decode cX1_needIndex 11 = .ok (.athrow, 1) := dk_191 (dk_at dksX1_needIndex_0 11 rfl rfl)
theorem dX1_needIndex_12 : decode cX1_needIndex 12 = .ok (.return_, 1) := dk_177 (dk_at dksX1_needIndex_0 12 rfl rfl)
abbrev cX1_nearestLongest : ByteArray := prog_1_method_26_code
def yX1_nearestLongest : MethodName := ⟨RX1, "nearestLongest", "(I)I"⟩
def dkwX1_nearestLongest_0 : List UInt8 := [42, 180, 0, 36, 27, 182, 0, 189, 61, 28, 2, 160, 0, 7, 3, 167, 0, 6, 27, 28, 100, 172]
abbrev dktX1_nearestLongest_0 : List UInt8 := dkwX1_nearestLongest_0 ++ []
theorem dksX1_nearestLongest_0 : cX1_nearestLongest.data.toList.drop 0 = dktX1_nearestLongest_0 := by decide +kernel
theorem dX1_nearestLongest_0 : decode cX1_nearestLongest 0 = .ok (.aload_n 0, 1) := dk_42 (dk_at dksX1_nearestLongest_0 0 rfl rfl)
theorem dX1_nearestLongest_1 : decode cX1_nearestLongest 1 = .ok (.getfield 36, 3) := dk_180 0 36 (dk_at dksX1_nearestLongest_0 1 rfl rfl)
theorem dX1_nearestLongest_4 : decode cX1_nearestLongest 4 = .ok (.iload_n 1, 1) := dk_27 (dk_at dksX1_nearestLongest_0 4 rfl rfl)
theorem dX1_nearestLongest_5 : decode cX1_nearestLongest 5 = .ok (.invokevirtual 189, 3) := dk_182 0 189 (dk_at dksX1_nearestLongest_0 5 rfl rfl)
theorem dX1_nearestLongest_8 : decode cX1_nearestLongest 8 = .ok (.istore_n 2, 1) := dk_61 (dk_at dksX1_nearestLongest_0 8 rfl rfl)
theorem dX1_nearestLongest_9 : decode cX1_nearestLongest 9 = .ok (.iload_n 2, 1) := dk_28 (dk_at dksX1_nearestLongest_0 9 rfl rfl)
theorem dX1_nearestLongest_10 : decode cX1_nearestLongest 10 = .ok (.iconst (-1), 1) := dk_2 (dk_at dksX1_nearestLongest_0 10 rfl rfl)
theorem dX1_nearestLongest_11 : decode cX1_nearestLongest 11 = .ok (.if_icmp .ne 7, 3) := dk_160 0 7 (dk_at dksX1_nearestLongest_0 11 rfl rfl)
theorem dX1_nearestLongest_14 : decode cX1_nearestLongest 14 = .ok (.iconst 0, 1) := dk_3 (dk_at dksX1_nearestLongest_0 14 rfl rfl)
theorem dX1_nearestLongest_15 : decode cX1_nearestLongest 15 = .ok (.goto 6, 3) := dk_167 0 6 (dk_at dksX1_nearestLongest_0 15 rfl rfl)
theorem dX1_nearestLongest_18 : decode cX1_nearestLongest 18 = .ok (.iload_n 1, 1) := dk_27 (dk_at dksX1_nearestLongest_0 18 rfl rfl)
theorem dX1_nearestLongest_19 : decode cX1_nearestLongest 19 = .ok (.iload_n 2, 1) := dk_28 (dk_at dksX1_nearestLongest_0 19 rfl rfl)
theorem dX1_nearestLongest_20 : decode cX1_nearestLongest 20 = .ok (.isub, 1) := dk_100 (dk_at dksX1_nearestLongest_0 20 rfl rfl)
theorem dX1_nearestLongest_21 : decode cX1_nearestLongest 21 = .ok (.ireturn, 1) := dk_172 (dk_at dksX1_nearestLongest_0 21 rfl rfl)
abbrev cX1_candidate : ByteArray := prog_1_method_28_code
def yX1_candidate : MethodName := ⟨RX1, "candidate", "(II)I"⟩
def dkwX1_candidate_1 : List UInt8 := [184, 0, 186, 42, 180, 0, 36, 27, 28, 182, 0, 215, 172]
abbrev dktX1_candidate_1 : List UInt8 := dkwX1_candidate_1 ++ []
def dkwX1_candidate_0 : List UInt8 := [42, 27, 182, 0, 192, 28, 133, 9, 42, 180, 0, 36, 27, 182, 0, 206, 4, 100, 133, 184, 0, 75]
abbrev dktX1_candidate_0 : List UInt8 := dkwX1_candidate_0 ++ dktX1_candidate_1
theorem dksX1_candidate_0 : cX1_candidate.data.toList.drop 0 = dktX1_candidate_0 := by decide +kernel
theorem dksX1_candidate_1 : cX1_candidate.data.toList.drop 22 = dktX1_candidate_1 := dk_seg dksX1_candidate_0 22 rfl rfl
theorem dX1_candidate_0 : decode cX1_candidate 0 = .ok (.aload_n 0, 1) := dk_42 (dk_at dksX1_candidate_0 0 rfl rfl)
theorem dX1_candidate_1 : decode cX1_candidate 1 = .ok (.iload_n 1, 1) := dk_27 (dk_at dksX1_candidate_0 1 rfl rfl)
theorem dX1_candidate_2 : decode cX1_candidate 2 = .ok (.invokevirtual 192, 3) := dk_182 0 192 (dk_at dksX1_candidate_0 2 rfl rfl)
theorem dX1_candidate_5 : decode cX1_candidate 5 = .ok (.iload_n 2, 1) := dk_28 (dk_at dksX1_candidate_0 5 rfl rfl)
theorem dX1_candidate_6 : decode cX1_candidate 6 = .ok (.i2l, 1) := dk_133 (dk_at dksX1_candidate_0 6 rfl rfl)
theorem dX1_candidate_7 : decode cX1_candidate 7 = .ok (.lconst 0, 1) := dk_9 (dk_at dksX1_candidate_0 7 rfl rfl)
theorem dX1_candidate_8 : decode cX1_candidate 8 = .ok (.aload_n 0, 1) := dk_42 (dk_at dksX1_candidate_0 8 rfl rfl)
theorem dX1_candidate_9 : decode cX1_candidate 9 = .ok (.getfield 36, 3) := dk_180 0 36 (dk_at dksX1_candidate_0 9 rfl rfl)
theorem dX1_candidate_12 : decode cX1_candidate 12 = .ok (.iload_n 1, 1) := dk_27 (dk_at dksX1_candidate_0 12 rfl rfl)
theorem dX1_candidate_13 : decode cX1_candidate 13 = .ok (.invokevirtual 206, 3) := dk_182 0 206 (dk_at dksX1_candidate_0 13 rfl rfl)
theorem dX1_candidate_16 : decode cX1_candidate 16 = .ok (.iconst 1, 1) := dk_4 (dk_at dksX1_candidate_0 16 rfl rfl)
theorem dX1_candidate_17 : decode cX1_candidate 17 = .ok (.isub, 1) := dk_100 (dk_at dksX1_candidate_0 17 rfl rfl)
theorem dX1_candidate_18 : decode cX1_candidate 18 = .ok (.i2l, 1) := dk_133 (dk_at dksX1_candidate_0 18 rfl rfl)
theorem dX1_candidate_19 : decode cX1_candidate 19 = .ok (.invokestatic 75, 3) := dk_184 0 75 (dk_at dksX1_candidate_0 19 rfl rfl)
theorem dX1_candidate_22 : decode cX1_candidate 22 = .ok (.invokestatic 186, 3) := dk_184 0 186 (dk_at dksX1_candidate_1 0 rfl rfl)
theorem dX1_candidate_25 : decode cX1_candidate 25 = .ok (.aload_n 0, 1) := dk_42 (dk_at dksX1_candidate_1 3 rfl rfl)
theorem dX1_candidate_26 : decode cX1_candidate 26 = .ok (.getfield 36, 3) := dk_180 0 36 (dk_at dksX1_candidate_1 4 rfl rfl)
theorem dX1_candidate_29 : decode cX1_candidate 29 = .ok (.iload_n 1, 1) := dk_27 (dk_at dksX1_candidate_1 7 rfl rfl)
theorem dX1_candidate_30 : decode cX1_candidate 30 = .ok (.iload_n 2, 1) := dk_28 (dk_at dksX1_candidate_1 8 rfl rfl)
theorem dX1_candidate_31 : decode cX1_candidate 31 = .ok (.invokevirtual 215, 3) := dk_182 0 215 (dk_at dksX1_candidate_1 9 rfl rfl)
theorem dX1_candidate_34 : decode cX1_candidate 34 = .ok (.ireturn, 1) := dk_172 (dk_at dksX1_candidate_1 12 rfl rfl)
abbrev cX1_why : ByteArray := prog_1_method_30_code
def yX1_why : MethodName := ⟨RX1, "why", "(III)I"⟩
def dkwX1_why_1 : List UInt8 := [184, 0, 172, 42, 180, 0, 36, 27, 28, 29, 182, 0, 223, 172]
abbrev dktX1_why_1 : List UInt8 := dkwX1_why_1 ++ []
def dkwX1_why_0 : List UInt8 := [42, 27, 182, 0, 192, 28, 184, 0, 220, 153, 0, 14, 29, 184, 0, 220, 153, 0, 7, 4, 167, 0, 4, 3]
abbrev dktX1_why_0 : List UInt8 := dkwX1_why_0 ++ dktX1_why_1
theorem dksX1_why_0 : cX1_why.data.toList.drop 0 = dktX1_why_0 := by decide +kernel
theorem dksX1_why_1 : cX1_why.data.toList.drop 24 = dktX1_why_1 := dk_seg dksX1_why_0 24 rfl rfl
theorem dX1_why_0 : decode cX1_why 0 = .ok (.aload_n 0, 1) := dk_42 (dk_at dksX1_why_0 0 rfl rfl)
theorem dX1_why_1 : decode cX1_why 1 = .ok (.iload_n 1, 1) := dk_27 (dk_at dksX1_why_0 1 rfl rfl)
theorem dX1_why_2 : decode cX1_why 2 = .ok (.invokevirtual 192, 3) := dk_182 0 192 (dk_at dksX1_why_0 2 rfl rfl)
theorem dX1_why_5 : decode cX1_why 5 = .ok (.iload_n 2, 1) := dk_28 (dk_at dksX1_why_0 5 rfl rfl)
theorem dX1_why_6 : decode cX1_why 6 = .ok (.invokestatic 220, 3) := dk_184 0 220 (dk_at dksX1_why_0 6 rfl rfl)
theorem dX1_why_9 : decode cX1_why 9 = .ok (.ifCond .eq 14, 3) := dk_153 0 14 (dk_at dksX1_why_0 9 rfl rfl)
theorem dX1_why_12 : decode cX1_why 12 = .ok (.iload_n 3, 1) := dk_29 (dk_at dksX1_why_0 12 rfl rfl)
theorem dX1_why_13 : decode cX1_why 13 = .ok (.invokestatic 220, 3) := dk_184 0 220 (dk_at dksX1_why_0 13 rfl rfl)
theorem dX1_why_16 : decode cX1_why 16 = .ok (.ifCond .eq 7, 3) := dk_153 0 7 (dk_at dksX1_why_0 16 rfl rfl)
theorem dX1_why_19 : decode cX1_why 19 = .ok (.iconst 1, 1) := dk_4 (dk_at dksX1_why_0 19 rfl rfl)
theorem dX1_why_20 : decode cX1_why 20 = .ok (.goto 4, 3) := dk_167 0 4 (dk_at dksX1_why_0 20 rfl rfl)
theorem dX1_why_23 : decode cX1_why 23 = .ok (.iconst 0, 1) := dk_3 (dk_at dksX1_why_0 23 rfl rfl)
theorem dX1_why_24 : decode cX1_why 24 = .ok (.invokestatic 172, 3) := dk_184 0 172 (dk_at dksX1_why_1 0 rfl rfl)
theorem dX1_why_27 : decode cX1_why 27 = .ok (.aload_n 0, 1) := dk_42 (dk_at dksX1_why_1 3 rfl rfl)
theorem dX1_why_28 : decode cX1_why 28 = .ok (.getfield 36, 3) := dk_180 0 36 (dk_at dksX1_why_1 4 rfl rfl)
theorem dX1_why_31 : decode cX1_why 31 = .ok (.iload_n 1, 1) := dk_27 (dk_at dksX1_why_1 7 rfl rfl)
theorem dX1_why_32 : decode cX1_why 32 = .ok (.iload_n 2, 1) := dk_28 (dk_at dksX1_why_1 8 rfl rfl)
theorem dX1_why_33 : decode cX1_why 33 = .ok (.iload_n 3, 1) := dk_29 (dk_at dksX1_why_1 9 rfl rfl)
theorem dX1_why_34 : decode cX1_why 34 = .ok (.invokevirtual 223, 3) := dk_182 0 223 (dk_at dksX1_why_1 10 rfl rfl)
theorem dX1_why_37 : decode cX1_why 37 = .ok (.ireturn, 1) := dk_172 (dk_at dksX1_why_1 13 rfl rfl)
abbrev cX1_isSpan : ByteArray := prog_1_method_29_code
def yX1_isSpan : MethodName := ⟨RX1, "isSpan", "(I)Z"⟩
def dkwX1_isSpan_0 : List UInt8 := [26, 133, 10, 20, 0, 218, 184, 0, 75, 172]
abbrev dktX1_isSpan_0 : List UInt8 := dkwX1_isSpan_0 ++ []
theorem dksX1_isSpan_0 : cX1_isSpan.data.toList.drop 0 = dktX1_isSpan_0 := by decide +kernel
theorem dX1_isSpan_0 : decode cX1_isSpan 0 = .ok (.iload_n 0, 1) := dk_26 (dk_at dksX1_isSpan_0 0 rfl rfl)
theorem dX1_isSpan_1 : decode cX1_isSpan 1 = .ok (.i2l, 1) := dk_133 (dk_at dksX1_isSpan_0 1 rfl rfl)
theorem dX1_isSpan_2 : decode cX1_isSpan 2 = .ok (.lconst 1, 1) := dk_10 (dk_at dksX1_isSpan_0 2 rfl rfl)
theorem dX1_isSpan_3 : decode cX1_isSpan 3 = .ok (.ldc2_w 218, 3) := dk_20 0 218 (dk_at dksX1_isSpan_0 3 rfl rfl)
theorem dX1_isSpan_6 : decode cX1_isSpan 6 = .ok (.invokestatic 75, 3) := dk_184 0 75 (dk_at dksX1_isSpan_0 6 rfl rfl)
theorem dX1_isSpan_9 : decode cX1_isSpan 9 = .ok (.ireturn, 1) := dk_172 (dk_at dksX1_isSpan_0 9 rfl rfl)
abbrev cX1_same : ByteArray := prog_1_method_31_code
def yX1_same : MethodName := ⟨RX1, "same", "(II)I"⟩
def dkwX1_same_1 : List UInt8 := [180, 0, 36, 27, 28, 182, 0, 227, 172]
abbrev dktX1_same_1 : List UInt8 := dkwX1_same_1 ++ []
def dkwX1_same_0 : List UInt8 := [42, 27, 182, 0, 192, 28, 184, 0, 220, 184, 0, 172, 28, 27, 164, 0, 7, 2, 167, 0, 12, 42]
abbrev dktX1_same_0 : List UInt8 := dkwX1_same_0 ++ dktX1_same_1
theorem dksX1_same_0 : cX1_same.data.toList.drop 0 = dktX1_same_0 := by decide +kernel
theorem dksX1_same_1 : cX1_same.data.toList.drop 22 = dktX1_same_1 := dk_seg dksX1_same_0 22 rfl rfl
theorem dX1_same_0 : decode cX1_same 0 = .ok (.aload_n 0, 1) := dk_42 (dk_at dksX1_same_0 0 rfl rfl)
theorem dX1_same_1 : decode cX1_same 1 = .ok (.iload_n 1, 1) := dk_27 (dk_at dksX1_same_0 1 rfl rfl)
theorem dX1_same_2 : decode cX1_same 2 = .ok (.invokevirtual 192, 3) := dk_182 0 192 (dk_at dksX1_same_0 2 rfl rfl)
theorem dX1_same_5 : decode cX1_same 5 = .ok (.iload_n 2, 1) := dk_28 (dk_at dksX1_same_0 5 rfl rfl)
theorem dX1_same_6 : decode cX1_same 6 = .ok (.invokestatic 220, 3) := dk_184 0 220 (dk_at dksX1_same_0 6 rfl rfl)
theorem dX1_same_9 : decode cX1_same 9 = .ok (.invokestatic 172, 3) := dk_184 0 172 (dk_at dksX1_same_0 9 rfl rfl)
theorem dX1_same_12 : decode cX1_same 12 = .ok (.iload_n 2, 1) := dk_28 (dk_at dksX1_same_0 12 rfl rfl)
theorem dX1_same_13 : decode cX1_same 13 = .ok (.iload_n 1, 1) := dk_27 (dk_at dksX1_same_0 13 rfl rfl)
theorem dX1_same_14 : decode cX1_same 14 = .ok (.if_icmp .le 7, 3) := dk_164 0 7 (dk_at dksX1_same_0 14 rfl rfl)
theorem dX1_same_17 : decode cX1_same 17 = .ok (.iconst (-1), 1) := dk_2 (dk_at dksX1_same_0 17 rfl rfl)
theorem dX1_same_18 : decode cX1_same 18 = .ok (.goto 12, 3) := dk_167 0 12 (dk_at dksX1_same_0 18 rfl rfl)
theorem dX1_same_21 : decode cX1_same 21 = .ok (.aload_n 0, 1) := dk_42 (dk_at dksX1_same_0 21 rfl rfl)
theorem dX1_same_22 : decode cX1_same 22 = .ok (.getfield 36, 3) := dk_180 0 36 (dk_at dksX1_same_1 0 rfl rfl)
theorem dX1_same_25 : decode cX1_same 25 = .ok (.iload_n 1, 1) := dk_27 (dk_at dksX1_same_1 3 rfl rfl)
theorem dX1_same_26 : decode cX1_same 26 = .ok (.iload_n 2, 1) := dk_28 (dk_at dksX1_same_1 4 rfl rfl)
theorem dX1_same_27 : decode cX1_same 27 = .ok (.invokevirtual 227, 3) := dk_182 0 227 (dk_at dksX1_same_1 5 rfl rfl)
theorem dX1_same_30 : decode cX1_same 30 = .ok (.ireturn, 1) := dk_172 (dk_at dksX1_same_1 8 rfl rfl)
abbrev cX1_copyPrice : ByteArray := prog_1_method_32_code
def yX1_copyPrice : MethodName := ⟨RX1, "copyPrice", "(III)I"⟩
def dkwX1_copyPrice_1 : List UInt8 := [153, 0, 7, 4, 167, 0, 4, 3, 184, 0, 172, 42, 180, 0, 36, 27, 28, 29, 182, 0, 230, 172]
abbrev dktX1_copyPrice_1 : List UInt8 := dkwX1_copyPrice_1 ++ []
def dkwX1_copyPrice_0 : List UInt8 := [27, 184, 0, 220, 153, 0, 26, 28, 184, 0, 220, 153, 0, 19, 29, 133, 9, 20, 0, 218, 184, 0, 75]
abbrev dktX1_copyPrice_0 : List UInt8 := dkwX1_copyPrice_0 ++ dktX1_copyPrice_1
theorem dksX1_copyPrice_0 : cX1_copyPrice.data.toList.drop 0 = dktX1_copyPrice_0 := by decide +kernel
theorem dksX1_copyPrice_1 : cX1_copyPrice.data.toList.drop 23 = dktX1_copyPrice_1 := dk_seg dksX1_copyPrice_0 23 rfl rfl
theorem dX1_copyPrice_0 : decode cX1_copyPrice 0 = .ok (.iload_n 1, 1) := dk_27 (dk_at dksX1_copyPrice_0 0 rfl rfl)
theorem dX1_copyPrice_1 : decode cX1_copyPrice 1 = .ok (.invokestatic 220, 3) := dk_184 0 220 (dk_at dksX1_copyPrice_0 1 rfl rfl)
theorem dX1_copyPrice_4 : decode cX1_copyPrice 4 = .ok (.ifCond .eq 26, 3) := dk_153 0 26 (dk_at dksX1_copyPrice_0 4 rfl rfl)
theorem dX1_copyPrice_7 : decode cX1_copyPrice 7 = .ok (.iload_n 2, 1) := dk_28 (dk_at dksX1_copyPrice_0 7 rfl rfl)
theorem dX1_copyPrice_8 : decode cX1_copyPrice 8 = .ok (.invokestatic 220, 3) := dk_184 0 220 (dk_at dksX1_copyPrice_0 8 rfl rfl)
theorem dX1_copyPrice_11 : decode cX1_copyPrice 11 = .ok (.ifCond .eq 19, 3) := dk_153 0 19 (dk_at dksX1_copyPrice_0 11 rfl rfl)
theorem dX1_copyPrice_14 : decode cX1_copyPrice 14 = .ok (.iload_n 3, 1) := dk_29 (dk_at dksX1_copyPrice_0 14 rfl rfl)
theorem dX1_copyPrice_15 : decode cX1_copyPrice 15 = .ok (.i2l, 1) := dk_133 (dk_at dksX1_copyPrice_0 15 rfl rfl)
theorem dX1_copyPrice_16 : decode cX1_copyPrice 16 = .ok (.lconst 0, 1) := dk_9 (dk_at dksX1_copyPrice_0 16 rfl rfl)
theorem dX1_copyPrice_17 : decode cX1_copyPrice 17 = .ok (.ldc2_w 218, 3) := dk_20 0 218 (dk_at dksX1_copyPrice_0 17 rfl rfl)
theorem dX1_copyPrice_20 : decode cX1_copyPrice 20 = .ok (.invokestatic 75, 3) := dk_184 0 75 (dk_at dksX1_copyPrice_0 20 rfl rfl)
theorem dX1_copyPrice_23 : decode cX1_copyPrice 23 = .ok (.ifCond .eq 7, 3) := dk_153 0 7 (dk_at dksX1_copyPrice_1 0 rfl rfl)
theorem dX1_copyPrice_26 : decode cX1_copyPrice 26 = .ok (.iconst 1, 1) := dk_4 (dk_at dksX1_copyPrice_1 3 rfl rfl)
theorem dX1_copyPrice_27 : decode cX1_copyPrice 27 = .ok (.goto 4, 3) := dk_167 0 4 (dk_at dksX1_copyPrice_1 4 rfl rfl)
theorem dX1_copyPrice_30 : decode cX1_copyPrice 30 = .ok (.iconst 0, 1) := dk_3 (dk_at dksX1_copyPrice_1 7 rfl rfl)
theorem dX1_copyPrice_31 : decode cX1_copyPrice 31 = .ok (.invokestatic 172, 3) := dk_184 0 172 (dk_at dksX1_copyPrice_1 8 rfl rfl)
theorem dX1_copyPrice_34 : decode cX1_copyPrice 34 = .ok (.aload_n 0, 1) := dk_42 (dk_at dksX1_copyPrice_1 11 rfl rfl)
theorem dX1_copyPrice_35 : decode cX1_copyPrice 35 = .ok (.getfield 36, 3) := dk_180 0 36 (dk_at dksX1_copyPrice_1 12 rfl rfl)
theorem dX1_copyPrice_38 : decode cX1_copyPrice 38 = .ok (.iload_n 1, 1) := dk_27 (dk_at dksX1_copyPrice_1 15 rfl rfl)
theorem dX1_copyPrice_39 : decode cX1_copyPrice 39 = .ok (.iload_n 2, 1) := dk_28 (dk_at dksX1_copyPrice_1 16 rfl rfl)
theorem dX1_copyPrice_40 : decode cX1_copyPrice 40 = .ok (.iload_n 3, 1) := dk_29 (dk_at dksX1_copyPrice_1 17 rfl rfl)
theorem dX1_copyPrice_41 : decode cX1_copyPrice 41 = .ok (.invokevirtual 230, 3) := dk_182 0 230 (dk_at dksX1_copyPrice_1 18 rfl rfl)
theorem dX1_copyPrice_44 : decode cX1_copyPrice 44 = .ok (.ireturn, 1) := dk_172 (dk_at dksX1_copyPrice_1 21 rfl rfl)
abbrev cX1_steps : ByteArray := prog_1_method_34_code
def yX1_steps : MethodName := ⟨RX1, "steps", "(I)I"⟩
def dkwX1_steps_0 : List UInt8 := [42, 27, 182, 0, 239, 186, 0, 243, 0, 0, 182, 0, 246, 172]
abbrev dktX1_steps_0 : List UInt8 := dkwX1_steps_0 ++ []
theorem dksX1_steps_0 : cX1_steps.data.toList.drop 0 = dktX1_steps_0 := by decide +kernel
theorem dX1_steps_0 : decode cX1_steps 0 = .ok (.aload_n 0, 1) := dk_42 (dk_at dksX1_steps_0 0 rfl rfl)
theorem dX1_steps_1 : decode cX1_steps 1 = .ok (.iload_n 1, 1) := dk_27 (dk_at dksX1_steps_0 1 rfl rfl)
theorem dX1_steps_2 : decode cX1_steps 2 = .ok (.invokevirtual 239, 3) := dk_182 0 239 (dk_at dksX1_steps_0 2 rfl rfl)
theorem dX1_steps_5 : decode cX1_steps 5 = .ok (.invokedynamic 243, 5) := by decide +kernel
theorem dX1_steps_10 : decode cX1_steps 10 = .ok (.invokevirtual 246, 3) := dk_182 0 246 (dk_at dksX1_steps_0 10 rfl rfl)
theorem dX1_steps_13 : decode cX1_steps 13 = .ok (.ireturn, 1) := dk_172 (dk_at dksX1_steps_0 13 rfl rfl)
abbrev cX1_parseOf : ByteArray := prog_1_method_33_code
def yX1_parseOf : MethodName := ⟨RX1, "parseOf", "(I)LCopyPrices$Step;"⟩
def dkwX1_parseOf_1 : List UInt8 := [176]
abbrev dktX1_parseOf_1 : List UInt8 := dkwX1_parseOf_1 ++ []
def dkwX1_parseOf_0 : List UInt8 := [27, 133, 9, 20, 0, 233, 184, 0, 75, 184, 0, 172, 42, 180, 0, 36, 27, 42, 180, 0, 43, 182, 0, 235]
abbrev dktX1_parseOf_0 : List UInt8 := dkwX1_parseOf_0 ++ dktX1_parseOf_1
theorem dksX1_parseOf_0 : cX1_parseOf.data.toList.drop 0 = dktX1_parseOf_0 := by decide +kernel
theorem dksX1_parseOf_1 : cX1_parseOf.data.toList.drop 24 = dktX1_parseOf_1 := dk_seg dksX1_parseOf_0 24 rfl rfl
theorem dX1_parseOf_0 : decode cX1_parseOf 0 = .ok (.iload_n 1, 1) := dk_27 (dk_at dksX1_parseOf_0 0 rfl rfl)
theorem dX1_parseOf_1 : decode cX1_parseOf 1 = .ok (.i2l, 1) := dk_133 (dk_at dksX1_parseOf_0 1 rfl rfl)
theorem dX1_parseOf_2 : decode cX1_parseOf 2 = .ok (.lconst 0, 1) := dk_9 (dk_at dksX1_parseOf_0 2 rfl rfl)
theorem dX1_parseOf_3 : decode cX1_parseOf 3 = .ok (.ldc2_w 233, 3) := dk_20 0 233 (dk_at dksX1_parseOf_0 3 rfl rfl)
theorem dX1_parseOf_6 : decode cX1_parseOf 6 = .ok (.invokestatic 75, 3) := dk_184 0 75 (dk_at dksX1_parseOf_0 6 rfl rfl)
theorem dX1_parseOf_9 : decode cX1_parseOf 9 = .ok (.invokestatic 172, 3) := dk_184 0 172 (dk_at dksX1_parseOf_0 9 rfl rfl)
theorem dX1_parseOf_12 : decode cX1_parseOf 12 = .ok (.aload_n 0, 1) := dk_42 (dk_at dksX1_parseOf_0 12 rfl rfl)
theorem dX1_parseOf_13 : decode cX1_parseOf 13 = .ok (.getfield 36, 3) := dk_180 0 36 (dk_at dksX1_parseOf_0 13 rfl rfl)
theorem dX1_parseOf_16 : decode cX1_parseOf 16 = .ok (.iload_n 1, 1) := dk_27 (dk_at dksX1_parseOf_0 16 rfl rfl)
theorem dX1_parseOf_17 : decode cX1_parseOf 17 = .ok (.aload_n 0, 1) := dk_42 (dk_at dksX1_parseOf_0 17 rfl rfl)
theorem dX1_parseOf_18 : decode cX1_parseOf 18 = .ok (.getfield 43, 3) := dk_180 0 43 (dk_at dksX1_parseOf_0 18 rfl rfl)
theorem dX1_parseOf_21 : decode cX1_parseOf 21 = .ok (.invokevirtual 235, 3) := dk_182 0 235 (dk_at dksX1_parseOf_0 21 rfl rfl)
theorem dX1_parseOf_24 : decode cX1_parseOf 24 = .ok (.areturn, 1) := dk_176 (dk_at dksX1_parseOf_1 0 rfl rfl)
abbrev cX1_lambda_steps_3 : ByteArray := prog_1_method_74_code
def yX1_lambda_steps_3 : MethodName := ⟨RX1, "lambda$steps$3", "(LCopyPrices$Step;)I"⟩
theorem dX1_lambda_steps_3_0 : decode cX1_lambda_steps_3 0 = .ok (.iconst 1, 1) := by decide +kernel
theorem dX1_lambda_steps_3_1 : decode cX1_lambda_steps_3 1 = .ok (.ireturn, 1) := by decide +kernel
abbrev cX1_step : ByteArray := prog_1_method_35_code
def yX1_step : MethodName := ⟨RX1, "step", "(III)I"⟩
def dkwX1_step_6 : List UInt8 := [25, 4, 180, 1, 7, 167, 0, 8, 25, 4, 180, 1, 10, 172]
abbrev dktX1_step_6 : List UInt8 := dkwX1_step_6 ++ []
def dkwX1_step_5 : List UInt8 := [25, 4, 180, 0, 254, 167, 0, 32, 25, 4, 182, 1, 1, 167, 0, 24, 25, 4, 182, 1, 4, 167, 0, 16]
abbrev dktX1_step_5 : List UInt8 := dkwX1_step_5 ++ dktX1_step_6
def dkwX1_step_4 : List UInt8 := [170, 0, 0, 0, 0, 62, 0, 0, 0, 0, 0, 0, 0, 3, 0, 0, 0, 30, 0, 0, 0, 38, 0, 0, 0, 46, 0, 0, 0, 54]
abbrev dktX1_step_4 : List UInt8 := dkwX1_step_4 ++ dktX1_step_5
def dkwX1_step_3 : List UInt8 := [58, 4, 25, 4, 198, 0, 7, 4, 167, 0, 4, 3, 184, 0, 186, 29]
abbrev dktX1_step_3 : List UInt8 := dkwX1_step_3 ++ dktX1_step_4
def dkwX1_step_2 : List UInt8 := [162, 0, 22, 42, 180, 0, 36, 27, 42, 180, 0, 43, 182, 0, 235, 28, 182, 0, 251, 167, 0, 4, 1]
abbrev dktX1_step_2 : List UInt8 := dkwX1_step_2 ++ dktX1_step_3
def dkwX1_step_1 : List UInt8 := [4, 167, 0, 4, 3, 184, 0, 172, 28, 155, 0, 7, 4, 167, 0, 4, 3, 184, 0, 186, 28, 16, 64]
abbrev dktX1_step_1 : List UInt8 := dkwX1_step_1 ++ dktX1_step_2
def dkwX1_step_0 : List UInt8 := [27, 133, 9, 20, 0, 233, 184, 0, 75, 153, 0, 19, 29, 133, 9, 20, 0, 176, 184, 0, 75, 153, 0, 7]
abbrev dktX1_step_0 : List UInt8 := dkwX1_step_0 ++ dktX1_step_1
theorem dksX1_step_0 : cX1_step.data.toList.drop 0 = dktX1_step_0 := by decide +kernel
theorem dksX1_step_1 : cX1_step.data.toList.drop 24 = dktX1_step_1 := dk_seg dksX1_step_0 24 rfl rfl
theorem dksX1_step_2 : cX1_step.data.toList.drop 47 = dktX1_step_2 := dk_seg dksX1_step_1 23 rfl rfl
theorem dksX1_step_3 : cX1_step.data.toList.drop 70 = dktX1_step_3 := dk_seg dksX1_step_2 23 rfl rfl
theorem dksX1_step_4 : cX1_step.data.toList.drop 86 = dktX1_step_4 := dk_seg dksX1_step_3 16 rfl rfl
theorem dksX1_step_5 : cX1_step.data.toList.drop 116 = dktX1_step_5 := dk_seg dksX1_step_4 30 rfl rfl
theorem dksX1_step_6 : cX1_step.data.toList.drop 140 = dktX1_step_6 := dk_seg dksX1_step_5 24 rfl rfl
theorem dX1_step_0 : decode cX1_step 0 = .ok (.iload_n 1, 1) := dk_27 (dk_at dksX1_step_0 0 rfl rfl)
theorem dX1_step_1 : decode cX1_step 1 = .ok (.i2l, 1) := dk_133 (dk_at dksX1_step_0 1 rfl rfl)
theorem dX1_step_2 : decode cX1_step 2 = .ok (.lconst 0, 1) := dk_9 (dk_at dksX1_step_0 2 rfl rfl)
theorem dX1_step_3 : decode cX1_step 3 = .ok (.ldc2_w 233, 3) := dk_20 0 233 (dk_at dksX1_step_0 3 rfl rfl)
theorem dX1_step_6 : decode cX1_step 6 = .ok (.invokestatic 75, 3) := dk_184 0 75 (dk_at dksX1_step_0 6 rfl rfl)
theorem dX1_step_9 : decode cX1_step 9 = .ok (.ifCond .eq 19, 3) := dk_153 0 19 (dk_at dksX1_step_0 9 rfl rfl)
theorem dX1_step_12 : decode cX1_step 12 = .ok (.iload_n 3, 1) := dk_29 (dk_at dksX1_step_0 12 rfl rfl)
theorem dX1_step_13 : decode cX1_step 13 = .ok (.i2l, 1) := dk_133 (dk_at dksX1_step_0 13 rfl rfl)
theorem dX1_step_14 : decode cX1_step 14 = .ok (.lconst 0, 1) := dk_9 (dk_at dksX1_step_0 14 rfl rfl)
theorem dX1_step_15 : decode cX1_step 15 = .ok (.ldc2_w 176, 3) := dk_20 0 176 (dk_at dksX1_step_0 15 rfl rfl)
theorem dX1_step_18 : decode cX1_step 18 = .ok (.invokestatic 75, 3) := dk_184 0 75 (dk_at dksX1_step_0 18 rfl rfl)
theorem dX1_step_21 : decode cX1_step 21 = .ok (.ifCond .eq 7, 3) := dk_153 0 7 (dk_at dksX1_step_0 21 rfl rfl)
theorem dX1_step_24 : decode cX1_step 24 = .ok (.iconst 1, 1) := dk_4 (dk_at dksX1_step_1 0 rfl rfl)
theorem dX1_step_25 : decode cX1_step 25 = .ok (.goto 4, 3) := dk_167 0 4 (dk_at dksX1_step_1 1 rfl rfl)
theorem dX1_step_28 : decode cX1_step 28 = .ok (.iconst 0, 1) := dk_3 (dk_at dksX1_step_1 4 rfl rfl)
theorem dX1_step_29 : decode cX1_step 29 = .ok (.invokestatic 172, 3) := dk_184 0 172 (dk_at dksX1_step_1 5 rfl rfl)
theorem dX1_step_32 : decode cX1_step 32 = .ok (.iload_n 2, 1) := dk_28 (dk_at dksX1_step_1 8 rfl rfl)
theorem dX1_step_33 : decode cX1_step 33 = .ok (.ifCond .lt 7, 3) := dk_155 0 7 (dk_at dksX1_step_1 9 rfl rfl)
theorem dX1_step_36 : decode cX1_step 36 = .ok (.iconst 1, 1) := dk_4 (dk_at dksX1_step_1 12 rfl rfl)
theorem dX1_step_37 : decode cX1_step 37 = .ok (.goto 4, 3) := dk_167 0 4 (dk_at dksX1_step_1 13 rfl rfl)
theorem dX1_step_40 : decode cX1_step 40 = .ok (.iconst 0, 1) := dk_3 (dk_at dksX1_step_1 16 rfl rfl)
theorem dX1_step_41 : decode cX1_step 41 = .ok (.invokestatic 186, 3) := dk_184 0 186 (dk_at dksX1_step_1 17 rfl rfl)
theorem dX1_step_44 : decode cX1_step 44 = .ok (.iload_n 2, 1) := dk_28 (dk_at dksX1_step_1 20 rfl rfl)
theorem dX1_step_45 : decode cX1_step 45 = .ok (.bipush 64, 2) := dk_16 64 (dk_at dksX1_step_1 21 rfl rfl)
theorem dX1_step_47 : decode cX1_step 47 = .ok (.if_icmp .ge 22, 3) := dk_162 0 22 (dk_at dksX1_step_2 0 rfl rfl)
theorem dX1_step_50 : decode cX1_step 50 = .ok (.aload_n 0, 1) := dk_42 (dk_at dksX1_step_2 3 rfl rfl)
theorem dX1_step_51 : decode cX1_step 51 = .ok (.getfield 36, 3) := dk_180 0 36 (dk_at dksX1_step_2 4 rfl rfl)
theorem dX1_step_54 : decode cX1_step 54 = .ok (.iload_n 1, 1) := dk_27 (dk_at dksX1_step_2 7 rfl rfl)
theorem dX1_step_55 : decode cX1_step 55 = .ok (.aload_n 0, 1) := dk_42 (dk_at dksX1_step_2 8 rfl rfl)
theorem dX1_step_56 : decode cX1_step 56 = .ok (.getfield 43, 3) := dk_180 0 43 (dk_at dksX1_step_2 9 rfl rfl)
theorem dX1_step_59 : decode cX1_step 59 = .ok (.invokevirtual 235, 3) := dk_182 0 235 (dk_at dksX1_step_2 12 rfl rfl)
theorem dX1_step_62 : decode cX1_step 62 = .ok (.iload_n 2, 1) := dk_28 (dk_at dksX1_step_2 15 rfl rfl)
theorem dX1_step_63 : decode cX1_step 63 = .ok (.invokevirtual 251, 3) := dk_182 0 251 (dk_at dksX1_step_2 16 rfl rfl)
theorem dX1_step_66 : decode cX1_step 66 = .ok (.goto 4, 3) := dk_167 0 4 (dk_at dksX1_step_2 19 rfl rfl)
theorem dX1_step_69 : decode cX1_step 69 = .ok (.aconst_null, 1) := dk_1 (dk_at dksX1_step_2 22 rfl rfl)
theorem dX1_step_70 : decode cX1_step 70 = .ok (.astore 4, 2) := dk_58 4 (dk_at dksX1_step_3 0 rfl rfl)
theorem dX1_step_72 : decode cX1_step 72 = .ok (.aload 4, 2) := dk_25 4 (dk_at dksX1_step_3 2 rfl rfl)
theorem dX1_step_74 : decode cX1_step 74 = .ok (.ifnull 7, 3) := dk_198 0 7 (dk_at dksX1_step_3 4 rfl rfl)
theorem dX1_step_77 : decode cX1_step 77 = .ok (.iconst 1, 1) := dk_4 (dk_at dksX1_step_3 7 rfl rfl)
theorem dX1_step_78 : decode cX1_step 78 = .ok (.goto 4, 3) := dk_167 0 4 (dk_at dksX1_step_3 8 rfl rfl)
theorem dX1_step_81 : decode cX1_step 81 = .ok (.iconst 0, 1) := dk_3 (dk_at dksX1_step_3 11 rfl rfl)
theorem dX1_step_82 : decode cX1_step 82 = .ok (.invokestatic 186, 3) := dk_184 0 186 (dk_at dksX1_step_3 12 rfl rfl)
theorem dX1_step_85 : decode cX1_step 85 = .ok (.iload_n 3, 1) := dk_29 (dk_at dksX1_step_3 15 rfl rfl)
theorem dX1_step_86 : decode cX1_step 86 = .ok (.tableswitch 62 0 3 #[30, 38, 46, 54], 30) := by decide +kernel
theorem dX1_step_116 : decode cX1_step 116 = .ok (.aload 4, 2) := dk_25 4 (dk_at dksX1_step_5 0 rfl rfl)
theorem dX1_step_118 : decode cX1_step 118 = .ok (.getfield 254, 3) := dk_180 0 254 (dk_at dksX1_step_5 2 rfl rfl)
theorem dX1_step_121 : decode cX1_step 121 = .ok (.goto 32, 3) := dk_167 0 32 (dk_at dksX1_step_5 5 rfl rfl)
theorem dX1_step_124 : decode cX1_step 124 = .ok (.aload 4, 2) := dk_25 4 (dk_at dksX1_step_5 8 rfl rfl)
theorem dX1_step_126 : decode cX1_step 126 = .ok (.invokevirtual 257, 3) := dk_182 1 1 (dk_at dksX1_step_5 10 rfl rfl)
theorem dX1_step_129 : decode cX1_step 129 = .ok (.goto 24, 3) := dk_167 0 24 (dk_at dksX1_step_5 13 rfl rfl)
theorem dX1_step_132 : decode cX1_step 132 = .ok (.aload 4, 2) := dk_25 4 (dk_at dksX1_step_5 16 rfl rfl)
theorem dX1_step_134 : decode cX1_step 134 = .ok (.invokevirtual 260, 3) := dk_182 1 4 (dk_at dksX1_step_5 18 rfl rfl)
theorem dX1_step_137 : decode cX1_step 137 = .ok (.goto 16, 3) := dk_167 0 16 (dk_at dksX1_step_5 21 rfl rfl)
theorem dX1_step_140 : decode cX1_step 140 = .ok (.aload 4, 2) := dk_25 4 (dk_at dksX1_step_6 0 rfl rfl)
theorem dX1_step_142 : decode cX1_step 142 = .ok (.getfield 263, 3) := dk_180 1 7 (dk_at dksX1_step_6 2 rfl rfl)
theorem dX1_step_145 : decode cX1_step 145 = .ok (.goto 8, 3) := dk_167 0 8 (dk_at dksX1_step_6 5 rfl rfl)
theorem dX1_step_148 : decode cX1_step 148 = .ok (.aload 4, 2) := dk_25 4 (dk_at dksX1_step_6 8 rfl rfl)
theorem dX1_step_150 : decode cX1_step 150 = .ok (.getfield 266, 3) := dk_180 1 10 (dk_at dksX1_step_6 10 rfl rfl)
theorem dX1_step_153 : decode cX1_step 153 = .ok (.ireturn, 1) := dk_172 (dk_at dksX1_step_6 13 rfl rfl)
abbrev cX1_stepAt : ByteArray := prog_1_method_36_code
def yX1_stepAt : MethodName := ⟨RX1, "stepAt", "(II)I"⟩
def dkwX1_stepAt_0 : List UInt8 := [42, 27, 182, 0, 239, 78, 42, 28, 182, 0, 192, 45, 28, 186, 1, 13, 0, 0, 182, 0, 246, 4, 100, 172]
abbrev dktX1_stepAt_0 : List UInt8 := dkwX1_stepAt_0 ++ []
theorem dksX1_stepAt_0 : cX1_stepAt.data.toList.drop 0 = dktX1_stepAt_0 := by decide +kernel
theorem dX1_stepAt_0 : decode cX1_stepAt 0 = .ok (.aload_n 0, 1) := dk_42 (dk_at dksX1_stepAt_0 0 rfl rfl)
theorem dX1_stepAt_1 : decode cX1_stepAt 1 = .ok (.iload_n 1, 1) := dk_27 (dk_at dksX1_stepAt_0 1 rfl rfl)
theorem dX1_stepAt_2 : decode cX1_stepAt 2 = .ok (.invokevirtual 239, 3) := dk_182 0 239 (dk_at dksX1_stepAt_0 2 rfl rfl)
theorem dX1_stepAt_5 : decode cX1_stepAt 5 = .ok (.astore_n 3, 1) := dk_78 (dk_at dksX1_stepAt_0 5 rfl rfl)
theorem dX1_stepAt_6 : decode cX1_stepAt 6 = .ok (.aload_n 0, 1) := dk_42 (dk_at dksX1_stepAt_0 6 rfl rfl)
theorem dX1_stepAt_7 : decode cX1_stepAt 7 = .ok (.iload_n 2, 1) := dk_28 (dk_at dksX1_stepAt_0 7 rfl rfl)
theorem dX1_stepAt_8 : decode cX1_stepAt 8 = .ok (.invokevirtual 192, 3) := dk_182 0 192 (dk_at dksX1_stepAt_0 8 rfl rfl)
theorem dX1_stepAt_11 : decode cX1_stepAt 11 = .ok (.aload_n 3, 1) := dk_45 (dk_at dksX1_stepAt_0 11 rfl rfl)
theorem dX1_stepAt_12 : decode cX1_stepAt 12 = .ok (.iload_n 2, 1) := dk_28 (dk_at dksX1_stepAt_0 12 rfl rfl)
theorem dX1_stepAt_13 : decode cX1_stepAt 13 = .ok (.invokedynamic 269, 5) := by decide +kernel
theorem dX1_stepAt_18 : decode cX1_stepAt 18 = .ok (.invokevirtual 246, 3) := dk_182 0 246 (dk_at dksX1_stepAt_0 18 rfl rfl)
theorem dX1_stepAt_21 : decode cX1_stepAt 21 = .ok (.iconst 1, 1) := dk_4 (dk_at dksX1_stepAt_0 21 rfl rfl)
theorem dX1_stepAt_22 : decode cX1_stepAt 22 = .ok (.isub, 1) := dk_100 (dk_at dksX1_stepAt_0 22 rfl rfl)
theorem dX1_stepAt_23 : decode cX1_stepAt 23 = .ok (.ireturn, 1) := dk_172 (dk_at dksX1_stepAt_0 23 rfl rfl)
abbrev cX1_lambda_stepAt_4 : ByteArray := prog_1_method_73_code
def yX1_lambda_stepAt_4 : MethodName := ⟨RX1, "lambda$stepAt$4", "(ILCopyPrices$Step;)I"⟩
def dkwX1_lambda_stepAt_4_0 : List UInt8 := [43, 180, 0, 254, 26, 163, 0, 7, 4, 167, 0, 4, 3, 184, 0, 199, 172]
abbrev dktX1_lambda_stepAt_4_0 : List UInt8 := dkwX1_lambda_stepAt_4_0 ++ []
theorem dksX1_lambda_stepAt_4_0 : cX1_lambda_stepAt_4.data.toList.drop 0 = dktX1_lambda_stepAt_4_0 := by decide +kernel
theorem dX1_lambda_stepAt_4_0 : decode cX1_lambda_stepAt_4 0 = .ok (.aload_n 1, 1) := dk_43 (dk_at dksX1_lambda_stepAt_4_0 0 rfl rfl)
theorem dX1_lambda_stepAt_4_1 : decode cX1_lambda_stepAt_4 1 = .ok (.getfield 254, 3) := dk_180 0 254 (dk_at dksX1_lambda_stepAt_4_0 1 rfl rfl)
theorem dX1_lambda_stepAt_4_4 : decode cX1_lambda_stepAt_4 4 = .ok (.iload_n 0, 1) := dk_26 (dk_at dksX1_lambda_stepAt_4_0 4 rfl rfl)
theorem dX1_lambda_stepAt_4_5 : decode cX1_lambda_stepAt_4 5 = .ok (.if_icmp .gt 7, 3) := dk_163 0 7 (dk_at dksX1_lambda_stepAt_4_0 5 rfl rfl)
theorem dX1_lambda_stepAt_4_8 : decode cX1_lambda_stepAt_4 8 = .ok (.iconst 1, 1) := dk_4 (dk_at dksX1_lambda_stepAt_4_0 8 rfl rfl)
theorem dX1_lambda_stepAt_4_9 : decode cX1_lambda_stepAt_4 9 = .ok (.goto 4, 3) := dk_167 0 4 (dk_at dksX1_lambda_stepAt_4_0 9 rfl rfl)
theorem dX1_lambda_stepAt_4_12 : decode cX1_lambda_stepAt_4 12 = .ok (.iconst 0, 1) := dk_3 (dk_at dksX1_lambda_stepAt_4_0 12 rfl rfl)
theorem dX1_lambda_stepAt_4_13 : decode cX1_lambda_stepAt_4 13 = .ok (.invokestatic 199, 3) := dk_184 0 199 (dk_at dksX1_lambda_stepAt_4_0 13 rfl rfl)
theorem dX1_lambda_stepAt_4_16 : decode cX1_lambda_stepAt_4 16 = .ok (.ireturn, 1) := dk_172 (dk_at dksX1_lambda_stepAt_4_0 16 rfl rfl)
abbrev cX1_parse : ByteArray := prog_1_method_39_code
def yX1_parse : MethodName := ⟨RX1, "parse", "(II)I"⟩
def dkwX1_parse_6 : List UInt8 := [182, 0, 246, 172]
abbrev dktX1_parse_6 : List UInt8 := dkwX1_parse_6 ++ []
def dkwX1_parse_5 : List UInt8 := [186, 1, 29, 0, 0, 182, 0, 246, 167, 0, 19, 45, 184, 1, 30, 167, 0, 12, 45, 186, 1, 33, 0, 0]
abbrev dktX1_parse_5 : List UInt8 := dkwX1_parse_5 ++ dktX1_parse_6
def dkwX1_parse_4 : List UInt8 := [45, 186, 1, 24, 0, 0, 182, 0, 246, 167, 0, 38, 45, 184, 1, 25, 167, 0, 31, 45]
abbrev dktX1_parse_4 : List UInt8 := dkwX1_parse_4 ++ dktX1_parse_5
def dkwX1_parse_3 : List UInt8 := [45, 186, 1, 22, 0, 0, 182, 0, 246, 167, 0, 62, 45, 186, 1, 23, 0, 0, 182, 0, 246, 167, 0, 50]
abbrev dktX1_parse_3 : List UInt8 := dkwX1_parse_3 ++ dktX1_parse_4
def dkwX1_parse_2 : List UInt8 := [170, 0, 0, 0, 0, 100, 0, 0, 0, 0, 0, 0, 0, 5, 0, 0, 0, 38, 0, 0, 0, 50, 0, 0, 0, 62, 0, 0, 0, 74, 0, 0, 0, 81, 0, 0, 0, 93]
abbrev dktX1_parse_2 : List UInt8 := dkwX1_parse_2 ++ dktX1_parse_3
def dkwX1_parse_1 : List UInt8 := [4, 167, 0, 4, 3, 184, 0, 172, 42, 180, 0, 36, 27, 42, 180, 0, 43, 182, 0, 235, 78, 28]
abbrev dktX1_parse_1 : List UInt8 := dkwX1_parse_1 ++ dktX1_parse_2
def dkwX1_parse_0 : List UInt8 := [27, 133, 9, 20, 0, 233, 184, 0, 75, 153, 0, 19, 28, 133, 9, 20, 1, 20, 184, 0, 75, 153, 0, 7]
abbrev dktX1_parse_0 : List UInt8 := dkwX1_parse_0 ++ dktX1_parse_1
theorem dksX1_parse_0 : cX1_parse.data.toList.drop 0 = dktX1_parse_0 := by decide +kernel
theorem dksX1_parse_1 : cX1_parse.data.toList.drop 24 = dktX1_parse_1 := dk_seg dksX1_parse_0 24 rfl rfl
theorem dksX1_parse_2 : cX1_parse.data.toList.drop 46 = dktX1_parse_2 := dk_seg dksX1_parse_1 22 rfl rfl
theorem dksX1_parse_3 : cX1_parse.data.toList.drop 84 = dktX1_parse_3 := dk_seg dksX1_parse_2 38 rfl rfl
theorem dksX1_parse_4 : cX1_parse.data.toList.drop 108 = dktX1_parse_4 := dk_seg dksX1_parse_3 24 rfl rfl
theorem dksX1_parse_5 : cX1_parse.data.toList.drop 128 = dktX1_parse_5 := dk_seg dksX1_parse_4 20 rfl rfl
theorem dksX1_parse_6 : cX1_parse.data.toList.drop 152 = dktX1_parse_6 := dk_seg dksX1_parse_5 24 rfl rfl
theorem dX1_parse_0 : decode cX1_parse 0 = .ok (.iload_n 1, 1) := dk_27 (dk_at dksX1_parse_0 0 rfl rfl)
theorem dX1_parse_1 : decode cX1_parse 1 = .ok (.i2l, 1) := dk_133 (dk_at dksX1_parse_0 1 rfl rfl)
theorem dX1_parse_2 : decode cX1_parse 2 = .ok (.lconst 0, 1) := dk_9 (dk_at dksX1_parse_0 2 rfl rfl)
theorem dX1_parse_3 : decode cX1_parse 3 = .ok (.ldc2_w 233, 3) := dk_20 0 233 (dk_at dksX1_parse_0 3 rfl rfl)
theorem dX1_parse_6 : decode cX1_parse 6 = .ok (.invokestatic 75, 3) := dk_184 0 75 (dk_at dksX1_parse_0 6 rfl rfl)
theorem dX1_parse_9 : decode cX1_parse 9 = .ok (.ifCond .eq 19, 3) := dk_153 0 19 (dk_at dksX1_parse_0 9 rfl rfl)
theorem dX1_parse_12 : decode cX1_parse 12 = .ok (.iload_n 2, 1) := dk_28 (dk_at dksX1_parse_0 12 rfl rfl)
theorem dX1_parse_13 : decode cX1_parse 13 = .ok (.i2l, 1) := dk_133 (dk_at dksX1_parse_0 13 rfl rfl)
theorem dX1_parse_14 : decode cX1_parse 14 = .ok (.lconst 0, 1) := dk_9 (dk_at dksX1_parse_0 14 rfl rfl)
theorem dX1_parse_15 : decode cX1_parse 15 = .ok (.ldc2_w 276, 3) := dk_20 1 20 (dk_at dksX1_parse_0 15 rfl rfl)
theorem dX1_parse_18 : decode cX1_parse 18 = .ok (.invokestatic 75, 3) := dk_184 0 75 (dk_at dksX1_parse_0 18 rfl rfl)
theorem dX1_parse_21 : decode cX1_parse 21 = .ok (.ifCond .eq 7, 3) := dk_153 0 7 (dk_at dksX1_parse_0 21 rfl rfl)
theorem dX1_parse_24 : decode cX1_parse 24 = .ok (.iconst 1, 1) := dk_4 (dk_at dksX1_parse_1 0 rfl rfl)
theorem dX1_parse_25 : decode cX1_parse 25 = .ok (.goto 4, 3) := dk_167 0 4 (dk_at dksX1_parse_1 1 rfl rfl)
theorem dX1_parse_28 : decode cX1_parse 28 = .ok (.iconst 0, 1) := dk_3 (dk_at dksX1_parse_1 4 rfl rfl)
theorem dX1_parse_29 : decode cX1_parse 29 = .ok (.invokestatic 172, 3) := dk_184 0 172 (dk_at dksX1_parse_1 5 rfl rfl)
theorem dX1_parse_32 : decode cX1_parse 32 = .ok (.aload_n 0, 1) := dk_42 (dk_at dksX1_parse_1 8 rfl rfl)
theorem dX1_parse_33 : decode cX1_parse 33 = .ok (.getfield 36, 3) := dk_180 0 36 (dk_at dksX1_parse_1 9 rfl rfl)
theorem dX1_parse_36 : decode cX1_parse 36 = .ok (.iload_n 1, 1) := dk_27 (dk_at dksX1_parse_1 12 rfl rfl)
theorem dX1_parse_37 : decode cX1_parse 37 = .ok (.aload_n 0, 1) := dk_42 (dk_at dksX1_parse_1 13 rfl rfl)
theorem dX1_parse_38 : decode cX1_parse 38 = .ok (.getfield 43, 3) := dk_180 0 43 (dk_at dksX1_parse_1 14 rfl rfl)
theorem dX1_parse_41 : decode cX1_parse 41 = .ok (.invokevirtual 235, 3) := dk_182 0 235 (dk_at dksX1_parse_1 17 rfl rfl)
theorem dX1_parse_44 : decode cX1_parse 44 = .ok (.astore_n 3, 1) := dk_78 (dk_at dksX1_parse_1 20 rfl rfl)
theorem dX1_parse_45 : decode cX1_parse 45 = .ok (.iload_n 2, 1) := dk_28 (dk_at dksX1_parse_1 21 rfl rfl)
theorem dX1_parse_46 : decode cX1_parse 46 = .ok (.tableswitch 100 0 5 #[38, 50, 62, 74, 81, 93], 38) := by decide +kernel
theorem dX1_parse_84 : decode cX1_parse 84 = .ok (.aload_n 3, 1) := dk_45 (dk_at dksX1_parse_3 0 rfl rfl)
theorem dX1_parse_85 : decode cX1_parse 85 = .ok (.invokedynamic 278, 5) := by decide +kernel
theorem dX1_parse_90 : decode cX1_parse 90 = .ok (.invokevirtual 246, 3) := dk_182 0 246 (dk_at dksX1_parse_3 6 rfl rfl)
theorem dX1_parse_93 : decode cX1_parse 93 = .ok (.goto 62, 3) := dk_167 0 62 (dk_at dksX1_parse_3 9 rfl rfl)
theorem dX1_parse_96 : decode cX1_parse 96 = .ok (.aload_n 3, 1) := dk_45 (dk_at dksX1_parse_3 12 rfl rfl)
theorem dX1_parse_97 : decode cX1_parse 97 = .ok (.invokedynamic 279, 5) := by decide +kernel
theorem dX1_parse_102 : decode cX1_parse 102 = .ok (.invokevirtual 246, 3) := dk_182 0 246 (dk_at dksX1_parse_3 18 rfl rfl)
theorem dX1_parse_105 : decode cX1_parse 105 = .ok (.goto 50, 3) := dk_167 0 50 (dk_at dksX1_parse_3 21 rfl rfl)
theorem dX1_parse_108 : decode cX1_parse 108 = .ok (.aload_n 3, 1) := dk_45 (dk_at dksX1_parse_4 0 rfl rfl)
theorem dX1_parse_109 : decode cX1_parse 109 = .ok (.invokedynamic 280, 5) := by decide +kernel
theorem dX1_parse_114 : decode cX1_parse 114 = .ok (.invokevirtual 246, 3) := dk_182 0 246 (dk_at dksX1_parse_4 6 rfl rfl)
theorem dX1_parse_117 : decode cX1_parse 117 = .ok (.goto 38, 3) := dk_167 0 38 (dk_at dksX1_parse_4 9 rfl rfl)
theorem dX1_parse_120 : decode cX1_parse 120 = .ok (.aload_n 3, 1) := dk_45 (dk_at dksX1_parse_4 12 rfl rfl)
theorem dX1_parse_121 : decode cX1_parse 121 = .ok (.invokestatic 281, 3) := dk_184 1 25 (dk_at dksX1_parse_4 13 rfl rfl)
theorem dX1_parse_124 : decode cX1_parse 124 = .ok (.goto 31, 3) := dk_167 0 31 (dk_at dksX1_parse_4 16 rfl rfl)
theorem dX1_parse_127 : decode cX1_parse 127 = .ok (.aload_n 3, 1) := dk_45 (dk_at dksX1_parse_4 19 rfl rfl)
theorem dX1_parse_128 : decode cX1_parse 128 = .ok (.invokedynamic 285, 5) := by decide +kernel
theorem dX1_parse_133 : decode cX1_parse 133 = .ok (.invokevirtual 246, 3) := dk_182 0 246 (dk_at dksX1_parse_5 5 rfl rfl)
theorem dX1_parse_136 : decode cX1_parse 136 = .ok (.goto 19, 3) := dk_167 0 19 (dk_at dksX1_parse_5 8 rfl rfl)
theorem dX1_parse_139 : decode cX1_parse 139 = .ok (.aload_n 3, 1) := dk_45 (dk_at dksX1_parse_5 11 rfl rfl)
theorem dX1_parse_140 : decode cX1_parse 140 = .ok (.invokestatic 286, 3) := dk_184 1 30 (dk_at dksX1_parse_5 12 rfl rfl)
theorem dX1_parse_143 : decode cX1_parse 143 = .ok (.goto 12, 3) := dk_167 0 12 (dk_at dksX1_parse_5 15 rfl rfl)
theorem dX1_parse_146 : decode cX1_parse 146 = .ok (.aload_n 3, 1) := dk_45 (dk_at dksX1_parse_5 18 rfl rfl)
theorem dX1_parse_147 : decode cX1_parse 147 = .ok (.invokedynamic 289, 5) := by decide +kernel
theorem dX1_parse_152 : decode cX1_parse 152 = .ok (.invokevirtual 246, 3) := dk_182 0 246 (dk_at dksX1_parse_6 0 rfl rfl)
theorem dX1_parse_155 : decode cX1_parse 155 = .ok (.ireturn, 1) := dk_172 (dk_at dksX1_parse_6 3 rfl rfl)
abbrev cX1_lambda_parse_5 : ByteArray := prog_1_method_72_code
def yX1_lambda_parse_5 : MethodName := ⟨RX1, "lambda$parse$5", "(LCopyPrices$Step;)I"⟩
theorem dX1_lambda_parse_5_0 : decode cX1_lambda_parse_5 0 = .ok (.aload_n 0, 1) := by decide +kernel
theorem dX1_lambda_parse_5_1 : decode cX1_lambda_parse_5 1 = .ok (.getfield 263, 3) := by decide +kernel
theorem dX1_lambda_parse_5_4 : decode cX1_lambda_parse_5 4 = .ok (.ireturn, 1) := by decide +kernel
abbrev cX1_lambda_parse_6 : ByteArray := prog_1_method_71_code
def yX1_lambda_parse_6 : MethodName := ⟨RX1, "lambda$parse$6", "(LCopyPrices$Step;)I"⟩
def dkwX1_lambda_parse_6_0 : List UInt8 := [42, 182, 1, 4, 154, 0, 7, 4, 167, 0, 4, 3, 184, 0, 199, 172]
abbrev dktX1_lambda_parse_6_0 : List UInt8 := dkwX1_lambda_parse_6_0 ++ []
theorem dksX1_lambda_parse_6_0 : cX1_lambda_parse_6.data.toList.drop 0 = dktX1_lambda_parse_6_0 := by decide +kernel
theorem dX1_lambda_parse_6_0 : decode cX1_lambda_parse_6 0 = .ok (.aload_n 0, 1) := dk_42 (dk_at dksX1_lambda_parse_6_0 0 rfl rfl)
theorem dX1_lambda_parse_6_1 : decode cX1_lambda_parse_6 1 = .ok (.invokevirtual 260, 3) := dk_182 1 4 (dk_at dksX1_lambda_parse_6_0 1 rfl rfl)
theorem dX1_lambda_parse_6_4 : decode cX1_lambda_parse_6 4 = .ok (.ifCond .ne 7, 3) := dk_154 0 7 (dk_at dksX1_lambda_parse_6_0 4 rfl rfl)
theorem dX1_lambda_parse_6_7 : decode cX1_lambda_parse_6 7 = .ok (.iconst 1, 1) := dk_4 (dk_at dksX1_lambda_parse_6_0 7 rfl rfl)
theorem dX1_lambda_parse_6_8 : decode cX1_lambda_parse_6 8 = .ok (.goto 4, 3) := dk_167 0 4 (dk_at dksX1_lambda_parse_6_0 8 rfl rfl)
theorem dX1_lambda_parse_6_11 : decode cX1_lambda_parse_6 11 = .ok (.iconst 0, 1) := dk_3 (dk_at dksX1_lambda_parse_6_0 11 rfl rfl)
theorem dX1_lambda_parse_6_12 : decode cX1_lambda_parse_6 12 = .ok (.invokestatic 199, 3) := dk_184 0 199 (dk_at dksX1_lambda_parse_6_0 12 rfl rfl)
theorem dX1_lambda_parse_6_15 : decode cX1_lambda_parse_6 15 = .ok (.ireturn, 1) := dk_172 (dk_at dksX1_lambda_parse_6_0 15 rfl rfl)
abbrev cX1_lambda_parse_7 : ByteArray := prog_1_method_70_code
def yX1_lambda_parse_7 : MethodName := ⟨RX1, "lambda$parse$7", "(LCopyPrices$Step;)I"⟩
def dkwX1_lambda_parse_7_0 : List UInt8 := [42, 182, 1, 4, 158, 0, 7, 4, 167, 0, 4, 3, 184, 0, 199, 172]
abbrev dktX1_lambda_parse_7_0 : List UInt8 := dkwX1_lambda_parse_7_0 ++ []
theorem dksX1_lambda_parse_7_0 : cX1_lambda_parse_7.data.toList.drop 0 = dktX1_lambda_parse_7_0 := by decide +kernel
theorem dX1_lambda_parse_7_0 : decode cX1_lambda_parse_7 0 = .ok (.aload_n 0, 1) := dk_42 (dk_at dksX1_lambda_parse_7_0 0 rfl rfl)
theorem dX1_lambda_parse_7_1 : decode cX1_lambda_parse_7 1 = .ok (.invokevirtual 260, 3) := dk_182 1 4 (dk_at dksX1_lambda_parse_7_0 1 rfl rfl)
theorem dX1_lambda_parse_7_4 : decode cX1_lambda_parse_7 4 = .ok (.ifCond .le 7, 3) := dk_158 0 7 (dk_at dksX1_lambda_parse_7_0 4 rfl rfl)
theorem dX1_lambda_parse_7_7 : decode cX1_lambda_parse_7 7 = .ok (.iconst 1, 1) := dk_4 (dk_at dksX1_lambda_parse_7_0 7 rfl rfl)
theorem dX1_lambda_parse_7_8 : decode cX1_lambda_parse_7 8 = .ok (.goto 4, 3) := dk_167 0 4 (dk_at dksX1_lambda_parse_7_0 8 rfl rfl)
theorem dX1_lambda_parse_7_11 : decode cX1_lambda_parse_7 11 = .ok (.iconst 0, 1) := dk_3 (dk_at dksX1_lambda_parse_7_0 11 rfl rfl)
theorem dX1_lambda_parse_7_12 : decode cX1_lambda_parse_7 12 = .ok (.invokestatic 199, 3) := dk_184 0 199 (dk_at dksX1_lambda_parse_7_0 12 rfl rfl)
theorem dX1_lambda_parse_7_15 : decode cX1_lambda_parse_7 15 = .ok (.ireturn, 1) := dk_172 (dk_at dksX1_lambda_parse_7_0 15 rfl rfl)
abbrev cX1_runs : ByteArray := prog_1_method_37_code
def yX1_runs : MethodName := ⟨RX1, "runs", "(LCopyPrices$Step;)I"⟩
def dkwX1_runs_2 : List UInt8 := [180, 1, 16, 78, 167, 255, 210, 27, 172]
abbrev dktX1_runs_2 : List UInt8 := dkwX1_runs_2 ++ []
def dkwX1_runs_1 : List UInt8 := [27, 21, 4, 153, 0, 11, 28, 154, 0, 7, 4, 167, 0, 4, 3, 184, 0, 199, 96, 60, 21, 4, 61, 45]
abbrev dktX1_runs_1 : List UInt8 := dkwX1_runs_1 ++ dktX1_runs_2
def dkwX1_runs_0 : List UInt8 := [3, 60, 3, 61, 42, 78, 45, 198, 0, 48, 45, 182, 1, 4, 154, 0, 7, 4, 167, 0, 4, 3, 54, 4]
abbrev dktX1_runs_0 : List UInt8 := dkwX1_runs_0 ++ dktX1_runs_1
theorem dksX1_runs_0 : cX1_runs.data.toList.drop 0 = dktX1_runs_0 := by decide +kernel
theorem dksX1_runs_1 : cX1_runs.data.toList.drop 24 = dktX1_runs_1 := dk_seg dksX1_runs_0 24 rfl rfl
theorem dksX1_runs_2 : cX1_runs.data.toList.drop 48 = dktX1_runs_2 := dk_seg dksX1_runs_1 24 rfl rfl
theorem dX1_runs_0 : decode cX1_runs 0 = .ok (.iconst 0, 1) := dk_3 (dk_at dksX1_runs_0 0 rfl rfl)
theorem dX1_runs_1 : decode cX1_runs 1 = .ok (.istore_n 1, 1) := dk_60 (dk_at dksX1_runs_0 1 rfl rfl)
theorem dX1_runs_2 : decode cX1_runs 2 = .ok (.iconst 0, 1) := dk_3 (dk_at dksX1_runs_0 2 rfl rfl)
theorem dX1_runs_3 : decode cX1_runs 3 = .ok (.istore_n 2, 1) := dk_61 (dk_at dksX1_runs_0 3 rfl rfl)
theorem dX1_runs_4 : decode cX1_runs 4 = .ok (.aload_n 0, 1) := dk_42 (dk_at dksX1_runs_0 4 rfl rfl)
theorem dX1_runs_5 : decode cX1_runs 5 = .ok (.astore_n 3, 1) := dk_78 (dk_at dksX1_runs_0 5 rfl rfl)
theorem dX1_runs_6 : decode cX1_runs 6 = .ok (.aload_n 3, 1) := dk_45 (dk_at dksX1_runs_0 6 rfl rfl)
theorem dX1_runs_7 : decode cX1_runs 7 = .ok (.ifnull 48, 3) := dk_198 0 48 (dk_at dksX1_runs_0 7 rfl rfl)
theorem dX1_runs_10 : decode cX1_runs 10 = .ok (.aload_n 3, 1) := dk_45 (dk_at dksX1_runs_0 10 rfl rfl)
theorem dX1_runs_11 : decode cX1_runs 11 = .ok (.invokevirtual 260, 3) := dk_182 1 4 (dk_at dksX1_runs_0 11 rfl rfl)
theorem dX1_runs_14 : decode cX1_runs 14 = .ok (.ifCond .ne 7, 3) := dk_154 0 7 (dk_at dksX1_runs_0 14 rfl rfl)
theorem dX1_runs_17 : decode cX1_runs 17 = .ok (.iconst 1, 1) := dk_4 (dk_at dksX1_runs_0 17 rfl rfl)
theorem dX1_runs_18 : decode cX1_runs 18 = .ok (.goto 4, 3) := dk_167 0 4 (dk_at dksX1_runs_0 18 rfl rfl)
theorem dX1_runs_21 : decode cX1_runs 21 = .ok (.iconst 0, 1) := dk_3 (dk_at dksX1_runs_0 21 rfl rfl)
theorem dX1_runs_22 : decode cX1_runs 22 = .ok (.istore 4, 2) := dk_54 4 (dk_at dksX1_runs_0 22 rfl rfl)
theorem dX1_runs_24 : decode cX1_runs 24 = .ok (.iload_n 1, 1) := dk_27 (dk_at dksX1_runs_1 0 rfl rfl)
theorem dX1_runs_25 : decode cX1_runs 25 = .ok (.iload 4, 2) := dk_21 4 (dk_at dksX1_runs_1 1 rfl rfl)
theorem dX1_runs_27 : decode cX1_runs 27 = .ok (.ifCond .eq 11, 3) := dk_153 0 11 (dk_at dksX1_runs_1 3 rfl rfl)
theorem dX1_runs_30 : decode cX1_runs 30 = .ok (.iload_n 2, 1) := dk_28 (dk_at dksX1_runs_1 6 rfl rfl)
theorem dX1_runs_31 : decode cX1_runs 31 = .ok (.ifCond .ne 7, 3) := dk_154 0 7 (dk_at dksX1_runs_1 7 rfl rfl)
theorem dX1_runs_34 : decode cX1_runs 34 = .ok (.iconst 1, 1) := dk_4 (dk_at dksX1_runs_1 10 rfl rfl)
theorem dX1_runs_35 : decode cX1_runs 35 = .ok (.goto 4, 3) := dk_167 0 4 (dk_at dksX1_runs_1 11 rfl rfl)
theorem dX1_runs_38 : decode cX1_runs 38 = .ok (.iconst 0, 1) := dk_3 (dk_at dksX1_runs_1 14 rfl rfl)
theorem dX1_runs_39 : decode cX1_runs 39 = .ok (.invokestatic 199, 3) := dk_184 0 199 (dk_at dksX1_runs_1 15 rfl rfl)
theorem dX1_runs_42 : decode cX1_runs 42 = .ok (.iadd, 1) := dk_96 (dk_at dksX1_runs_1 18 rfl rfl)
theorem dX1_runs_43 : decode cX1_runs 43 = .ok (.istore_n 1, 1) := dk_60 (dk_at dksX1_runs_1 19 rfl rfl)
theorem dX1_runs_44 : decode cX1_runs 44 = .ok (.iload 4, 2) := dk_21 4 (dk_at dksX1_runs_1 20 rfl rfl)
theorem dX1_runs_46 : decode cX1_runs 46 = .ok (.istore_n 2, 1) := dk_61 (dk_at dksX1_runs_1 22 rfl rfl)
theorem dX1_runs_47 : decode cX1_runs 47 = .ok (.aload_n 3, 1) := dk_45 (dk_at dksX1_runs_1 23 rfl rfl)
theorem dX1_runs_48 : decode cX1_runs 48 = .ok (.getfield 272, 3) := dk_180 1 16 (dk_at dksX1_runs_2 0 rfl rfl)
theorem dX1_runs_51 : decode cX1_runs 51 = .ok (.astore_n 3, 1) := dk_78 (dk_at dksX1_runs_2 3 rfl rfl)
theorem dX1_runs_52 : decode cX1_runs 52 = .ok (.goto (-46), 3) := dk_167 255 210 (dk_at dksX1_runs_2 4 rfl rfl)
theorem dX1_runs_55 : decode cX1_runs 55 = .ok (.iload_n 1, 1) := dk_27 (dk_at dksX1_runs_2 7 rfl rfl)
theorem dX1_runs_56 : decode cX1_runs 56 = .ok (.ireturn, 1) := dk_172 (dk_at dksX1_runs_2 8 rfl rfl)
abbrev cX1_lambda_parse_8 : ByteArray := prog_1_method_69_code
def yX1_lambda_parse_8 : MethodName := ⟨RX1, "lambda$parse$8", "(LCopyPrices$Step;)I"⟩
def dkwX1_lambda_parse_8_1 : List UInt8 := [184, 0, 199, 172]
abbrev dktX1_lambda_parse_8_1 : List UInt8 := dkwX1_lambda_parse_8_1 ++ []
def dkwX1_lambda_parse_8_0 : List UInt8 := [42, 182, 1, 4, 158, 0, 18, 42, 182, 1, 4, 42, 180, 1, 10, 160, 0, 7, 4, 167, 0, 4, 3]
abbrev dktX1_lambda_parse_8_0 : List UInt8 := dkwX1_lambda_parse_8_0 ++ dktX1_lambda_parse_8_1
theorem dksX1_lambda_parse_8_0 : cX1_lambda_parse_8.data.toList.drop 0 = dktX1_lambda_parse_8_0 := by decide +kernel
theorem dksX1_lambda_parse_8_1 : cX1_lambda_parse_8.data.toList.drop 23 = dktX1_lambda_parse_8_1 := dk_seg dksX1_lambda_parse_8_0 23 rfl rfl
theorem dX1_lambda_parse_8_0 : decode cX1_lambda_parse_8 0 = .ok (.aload_n 0, 1) := dk_42 (dk_at dksX1_lambda_parse_8_0 0 rfl rfl)
theorem dX1_lambda_parse_8_1 : decode cX1_lambda_parse_8 1 = .ok (.invokevirtual 260, 3) := dk_182 1 4 (dk_at dksX1_lambda_parse_8_0 1 rfl rfl)
theorem dX1_lambda_parse_8_4 : decode cX1_lambda_parse_8 4 = .ok (.ifCond .le 18, 3) := dk_158 0 18 (dk_at dksX1_lambda_parse_8_0 4 rfl rfl)
theorem dX1_lambda_parse_8_7 : decode cX1_lambda_parse_8 7 = .ok (.aload_n 0, 1) := dk_42 (dk_at dksX1_lambda_parse_8_0 7 rfl rfl)
theorem dX1_lambda_parse_8_8 : decode cX1_lambda_parse_8 8 = .ok (.invokevirtual 260, 3) := dk_182 1 4 (dk_at dksX1_lambda_parse_8_0 8 rfl rfl)
theorem dX1_lambda_parse_8_11 : decode cX1_lambda_parse_8 11 = .ok (.aload_n 0, 1) := dk_42 (dk_at dksX1_lambda_parse_8_0 11 rfl rfl)
theorem dX1_lambda_parse_8_12 : decode cX1_lambda_parse_8 12 = .ok (.getfield 266, 3) := dk_180 1 10 (dk_at dksX1_lambda_parse_8_0 12 rfl rfl)
theorem dX1_lambda_parse_8_15 : decode cX1_lambda_parse_8 15 = .ok (.if_icmp .ne 7, 3) := dk_160 0 7 (dk_at dksX1_lambda_parse_8_0 15 rfl rfl)
theorem dX1_lambda_parse_8_18 : decode cX1_lambda_parse_8 18 = .ok (.iconst 1, 1) := dk_4 (dk_at dksX1_lambda_parse_8_0 18 rfl rfl)
theorem dX1_lambda_parse_8_19 : decode cX1_lambda_parse_8 19 = .ok (.goto 4, 3) := dk_167 0 4 (dk_at dksX1_lambda_parse_8_0 19 rfl rfl)
theorem dX1_lambda_parse_8_22 : decode cX1_lambda_parse_8 22 = .ok (.iconst 0, 1) := dk_3 (dk_at dksX1_lambda_parse_8_0 22 rfl rfl)
theorem dX1_lambda_parse_8_23 : decode cX1_lambda_parse_8 23 = .ok (.invokestatic 199, 3) := dk_184 0 199 (dk_at dksX1_lambda_parse_8_1 0 rfl rfl)
theorem dX1_lambda_parse_8_26 : decode cX1_lambda_parse_8 26 = .ok (.ireturn, 1) := dk_172 (dk_at dksX1_lambda_parse_8_1 3 rfl rfl)
abbrev cX1_dearest : ByteArray := prog_1_method_38_code
def yX1_dearest : MethodName := ⟨RX1, "dearest", "(LCopyPrices$Step;)I"⟩
def dkwX1_dearest_1 : List UInt8 := [167, 255, 238, 27, 172]
abbrev dktX1_dearest_1 : List UInt8 := dkwX1_dearest_1 ++ []
def dkwX1_dearest_0 : List UInt8 := [3, 60, 42, 77, 44, 198, 0, 20, 27, 44, 180, 1, 7, 184, 0, 134, 60, 44, 180, 1, 16, 77]
abbrev dktX1_dearest_0 : List UInt8 := dkwX1_dearest_0 ++ dktX1_dearest_1
theorem dksX1_dearest_0 : cX1_dearest.data.toList.drop 0 = dktX1_dearest_0 := by decide +kernel
theorem dksX1_dearest_1 : cX1_dearest.data.toList.drop 22 = dktX1_dearest_1 := dk_seg dksX1_dearest_0 22 rfl rfl
theorem dX1_dearest_0 : decode cX1_dearest 0 = .ok (.iconst 0, 1) := dk_3 (dk_at dksX1_dearest_0 0 rfl rfl)
theorem dX1_dearest_1 : decode cX1_dearest 1 = .ok (.istore_n 1, 1) := dk_60 (dk_at dksX1_dearest_0 1 rfl rfl)
theorem dX1_dearest_2 : decode cX1_dearest 2 = .ok (.aload_n 0, 1) := dk_42 (dk_at dksX1_dearest_0 2 rfl rfl)
theorem dX1_dearest_3 : decode cX1_dearest 3 = .ok (.astore_n 2, 1) := dk_77 (dk_at dksX1_dearest_0 3 rfl rfl)
theorem dX1_dearest_4 : decode cX1_dearest 4 = .ok (.aload_n 2, 1) := dk_44 (dk_at dksX1_dearest_0 4 rfl rfl)
theorem dX1_dearest_5 : decode cX1_dearest 5 = .ok (.ifnull 20, 3) := dk_198 0 20 (dk_at dksX1_dearest_0 5 rfl rfl)
theorem dX1_dearest_8 : decode cX1_dearest 8 = .ok (.iload_n 1, 1) := dk_27 (dk_at dksX1_dearest_0 8 rfl rfl)
theorem dX1_dearest_9 : decode cX1_dearest 9 = .ok (.aload_n 2, 1) := dk_44 (dk_at dksX1_dearest_0 9 rfl rfl)
theorem dX1_dearest_10 : decode cX1_dearest 10 = .ok (.getfield 263, 3) := dk_180 1 7 (dk_at dksX1_dearest_0 10 rfl rfl)
theorem dX1_dearest_13 : decode cX1_dearest 13 = .ok (.invokestatic 134, 3) := dk_184 0 134 (dk_at dksX1_dearest_0 13 rfl rfl)
theorem dX1_dearest_16 : decode cX1_dearest 16 = .ok (.istore_n 1, 1) := dk_60 (dk_at dksX1_dearest_0 16 rfl rfl)
theorem dX1_dearest_17 : decode cX1_dearest 17 = .ok (.aload_n 2, 1) := dk_44 (dk_at dksX1_dearest_0 17 rfl rfl)
theorem dX1_dearest_18 : decode cX1_dearest 18 = .ok (.getfield 272, 3) := dk_180 1 16 (dk_at dksX1_dearest_0 18 rfl rfl)
theorem dX1_dearest_21 : decode cX1_dearest 21 = .ok (.astore_n 2, 1) := dk_77 (dk_at dksX1_dearest_0 21 rfl rfl)
theorem dX1_dearest_22 : decode cX1_dearest 22 = .ok (.goto (-18), 3) := dk_167 255 238 (dk_at dksX1_dearest_1 0 rfl rfl)
theorem dX1_dearest_25 : decode cX1_dearest 25 = .ok (.iload_n 1, 1) := dk_27 (dk_at dksX1_dearest_1 3 rfl rfl)
theorem dX1_dearest_26 : decode cX1_dearest 26 = .ok (.ireturn, 1) := dk_172 (dk_at dksX1_dearest_1 4 rfl rfl)
abbrev cX1_lambda_parse_9 : ByteArray := prog_1_method_68_code
def yX1_lambda_parse_9 : MethodName := ⟨RX1, "lambda$parse$9", "(LCopyPrices$Step;)I"⟩
def dkwX1_lambda_parse_9_0 : List UInt8 := [42, 182, 1, 4, 158, 0, 10, 42, 182, 1, 1, 167, 0, 4, 3, 172]
abbrev dktX1_lambda_parse_9_0 : List UInt8 := dkwX1_lambda_parse_9_0 ++ []
theorem dksX1_lambda_parse_9_0 : cX1_lambda_parse_9.data.toList.drop 0 = dktX1_lambda_parse_9_0 := by decide +kernel
theorem dX1_lambda_parse_9_0 : decode cX1_lambda_parse_9 0 = .ok (.aload_n 0, 1) := dk_42 (dk_at dksX1_lambda_parse_9_0 0 rfl rfl)
theorem dX1_lambda_parse_9_1 : decode cX1_lambda_parse_9 1 = .ok (.invokevirtual 260, 3) := dk_182 1 4 (dk_at dksX1_lambda_parse_9_0 1 rfl rfl)
theorem dX1_lambda_parse_9_4 : decode cX1_lambda_parse_9 4 = .ok (.ifCond .le 10, 3) := dk_158 0 10 (dk_at dksX1_lambda_parse_9_0 4 rfl rfl)
theorem dX1_lambda_parse_9_7 : decode cX1_lambda_parse_9 7 = .ok (.aload_n 0, 1) := dk_42 (dk_at dksX1_lambda_parse_9_0 7 rfl rfl)
theorem dX1_lambda_parse_9_8 : decode cX1_lambda_parse_9 8 = .ok (.invokevirtual 257, 3) := dk_182 1 1 (dk_at dksX1_lambda_parse_9_0 8 rfl rfl)
theorem dX1_lambda_parse_9_11 : decode cX1_lambda_parse_9 11 = .ok (.goto 4, 3) := dk_167 0 4 (dk_at dksX1_lambda_parse_9_0 11 rfl rfl)
theorem dX1_lambda_parse_9_14 : decode cX1_lambda_parse_9 14 = .ok (.iconst 0, 1) := dk_3 (dk_at dksX1_lambda_parse_9_0 14 rfl rfl)
theorem dX1_lambda_parse_9_15 : decode cX1_lambda_parse_9 15 = .ok (.ireturn, 1) := dk_172 (dk_at dksX1_lambda_parse_9_0 15 rfl rfl)
abbrev cX1_restPrice : ByteArray := prog_1_method_40_code
def yX1_restPrice : MethodName := ⟨RX1, "restPrice", "(IIZ)I"⟩
def dkwX1_restPrice_1 : List UInt8 := [180, 0, 36, 182, 1, 36, 27, 28, 29, 182, 1, 40, 172]
abbrev dktX1_restPrice_1 : List UInt8 := dkwX1_restPrice_1 ++ []
def dkwX1_restPrice_0 : List UInt8 := [42, 27, 182, 0, 192, 28, 133, 9, 20, 1, 34, 184, 0, 75, 184, 0, 172, 42, 180, 0, 43, 42]
abbrev dktX1_restPrice_0 : List UInt8 := dkwX1_restPrice_0 ++ dktX1_restPrice_1
theorem dksX1_restPrice_0 : cX1_restPrice.data.toList.drop 0 = dktX1_restPrice_0 := by decide +kernel
theorem dksX1_restPrice_1 : cX1_restPrice.data.toList.drop 22 = dktX1_restPrice_1 := dk_seg dksX1_restPrice_0 22 rfl rfl
theorem dX1_restPrice_0 : decode cX1_restPrice 0 = .ok (.aload_n 0, 1) := dk_42 (dk_at dksX1_restPrice_0 0 rfl rfl)
theorem dX1_restPrice_1 : decode cX1_restPrice 1 = .ok (.iload_n 1, 1) := dk_27 (dk_at dksX1_restPrice_0 1 rfl rfl)
theorem dX1_restPrice_2 : decode cX1_restPrice 2 = .ok (.invokevirtual 192, 3) := dk_182 0 192 (dk_at dksX1_restPrice_0 2 rfl rfl)
theorem dX1_restPrice_5 : decode cX1_restPrice 5 = .ok (.iload_n 2, 1) := dk_28 (dk_at dksX1_restPrice_0 5 rfl rfl)
theorem dX1_restPrice_6 : decode cX1_restPrice 6 = .ok (.i2l, 1) := dk_133 (dk_at dksX1_restPrice_0 6 rfl rfl)
theorem dX1_restPrice_7 : decode cX1_restPrice 7 = .ok (.lconst 0, 1) := dk_9 (dk_at dksX1_restPrice_0 7 rfl rfl)
theorem dX1_restPrice_8 : decode cX1_restPrice 8 = .ok (.ldc2_w 290, 3) := dk_20 1 34 (dk_at dksX1_restPrice_0 8 rfl rfl)
theorem dX1_restPrice_11 : decode cX1_restPrice 11 = .ok (.invokestatic 75, 3) := dk_184 0 75 (dk_at dksX1_restPrice_0 11 rfl rfl)
theorem dX1_restPrice_14 : decode cX1_restPrice 14 = .ok (.invokestatic 172, 3) := dk_184 0 172 (dk_at dksX1_restPrice_0 14 rfl rfl)
theorem dX1_restPrice_17 : decode cX1_restPrice 17 = .ok (.aload_n 0, 1) := dk_42 (dk_at dksX1_restPrice_0 17 rfl rfl)
theorem dX1_restPrice_18 : decode cX1_restPrice 18 = .ok (.getfield 43, 3) := dk_180 0 43 (dk_at dksX1_restPrice_0 18 rfl rfl)
theorem dX1_restPrice_21 : decode cX1_restPrice 21 = .ok (.aload_n 0, 1) := dk_42 (dk_at dksX1_restPrice_0 21 rfl rfl)
theorem dX1_restPrice_22 : decode cX1_restPrice 22 = .ok (.getfield 36, 3) := dk_180 0 36 (dk_at dksX1_restPrice_1 0 rfl rfl)
theorem dX1_restPrice_25 : decode cX1_restPrice 25 = .ok (.invokevirtual 292, 3) := dk_182 1 36 (dk_at dksX1_restPrice_1 3 rfl rfl)
theorem dX1_restPrice_28 : decode cX1_restPrice 28 = .ok (.iload_n 1, 1) := dk_27 (dk_at dksX1_restPrice_1 6 rfl rfl)
theorem dX1_restPrice_29 : decode cX1_restPrice 29 = .ok (.iload_n 2, 1) := dk_28 (dk_at dksX1_restPrice_1 7 rfl rfl)
theorem dX1_restPrice_30 : decode cX1_restPrice 30 = .ok (.iload_n 3, 1) := dk_29 (dk_at dksX1_restPrice_1 8 rfl rfl)
theorem dX1_restPrice_31 : decode cX1_restPrice 31 = .ok (.invokevirtual 296, 3) := dk_182 1 40 (dk_at dksX1_restPrice_1 9 rfl rfl)
theorem dX1_restPrice_34 : decode cX1_restPrice 34 = .ok (.ireturn, 1) := dk_172 (dk_at dksX1_restPrice_1 12 rfl rfl)
abbrev cX1_through : ByteArray := prog_1_method_41_code
def yX1_through : MethodName := ⟨RX1, "through", "(I)I"⟩
def dkwX1_through_0 : List UInt8 := [42, 27, 182, 0, 192, 42, 180, 0, 43, 42, 180, 0, 36, 182, 1, 36, 27, 182, 1, 44, 172]
abbrev dktX1_through_0 : List UInt8 := dkwX1_through_0 ++ []
theorem dksX1_through_0 : cX1_through.data.toList.drop 0 = dktX1_through_0 := by decide +kernel
theorem dX1_through_0 : decode cX1_through 0 = .ok (.aload_n 0, 1) := dk_42 (dk_at dksX1_through_0 0 rfl rfl)
theorem dX1_through_1 : decode cX1_through 1 = .ok (.iload_n 1, 1) := dk_27 (dk_at dksX1_through_0 1 rfl rfl)
theorem dX1_through_2 : decode cX1_through 2 = .ok (.invokevirtual 192, 3) := dk_182 0 192 (dk_at dksX1_through_0 2 rfl rfl)
theorem dX1_through_5 : decode cX1_through 5 = .ok (.aload_n 0, 1) := dk_42 (dk_at dksX1_through_0 5 rfl rfl)
theorem dX1_through_6 : decode cX1_through 6 = .ok (.getfield 43, 3) := dk_180 0 43 (dk_at dksX1_through_0 6 rfl rfl)
theorem dX1_through_9 : decode cX1_through 9 = .ok (.aload_n 0, 1) := dk_42 (dk_at dksX1_through_0 9 rfl rfl)
theorem dX1_through_10 : decode cX1_through 10 = .ok (.getfield 36, 3) := dk_180 0 36 (dk_at dksX1_through_0 10 rfl rfl)
theorem dX1_through_13 : decode cX1_through 13 = .ok (.invokevirtual 292, 3) := dk_182 1 36 (dk_at dksX1_through_0 13 rfl rfl)
theorem dX1_through_16 : decode cX1_through 16 = .ok (.iload_n 1, 1) := dk_27 (dk_at dksX1_through_0 16 rfl rfl)
theorem dX1_through_17 : decode cX1_through 17 = .ok (.invokevirtual 300, 3) := dk_182 1 44 (dk_at dksX1_through_0 17 rfl rfl)
theorem dX1_through_20 : decode cX1_through 20 = .ok (.ireturn, 1) := dk_172 (dk_at dksX1_through_0 20 rfl rfl)
abbrev cX1_worth : ByteArray := prog_1_method_42_code
def yX1_worth : MethodName := ⟨RX1, "worth", "(III)I"⟩
def dkwX1_worth_3 : List UInt8 := [100, 172]
abbrev dktX1_worth_3 : List UInt8 := dkwX1_worth_3 ++ []
def dkwX1_worth_2 : List UInt8 := [180, 0, 36, 182, 1, 36, 58, 4, 25, 4, 27, 28, 29, 182, 1, 47, 25, 4, 3, 3, 3, 182, 1, 40]
abbrev dktX1_worth_2 : List UInt8 := dkwX1_worth_2 ++ dktX1_worth_3
def dkwX1_worth_1 : List UInt8 := [184, 0, 172, 42, 180, 0, 36, 27, 28, 29, 182, 0, 223, 153, 0, 5, 2, 172, 42, 180, 0, 43, 42]
abbrev dktX1_worth_1 : List UInt8 := dkwX1_worth_1 ++ dktX1_worth_2
def dkwX1_worth_0 : List UInt8 := [42, 27, 182, 0, 192, 28, 184, 0, 220, 153, 0, 14, 29, 184, 0, 220, 153, 0, 7, 4, 167, 0, 4, 3]
abbrev dktX1_worth_0 : List UInt8 := dkwX1_worth_0 ++ dktX1_worth_1
theorem dksX1_worth_0 : cX1_worth.data.toList.drop 0 = dktX1_worth_0 := by decide +kernel
theorem dksX1_worth_1 : cX1_worth.data.toList.drop 24 = dktX1_worth_1 := dk_seg dksX1_worth_0 24 rfl rfl
theorem dksX1_worth_2 : cX1_worth.data.toList.drop 47 = dktX1_worth_2 := dk_seg dksX1_worth_1 23 rfl rfl
theorem dksX1_worth_3 : cX1_worth.data.toList.drop 71 = dktX1_worth_3 := dk_seg dksX1_worth_2 24 rfl rfl
theorem dX1_worth_0 : decode cX1_worth 0 = .ok (.aload_n 0, 1) := dk_42 (dk_at dksX1_worth_0 0 rfl rfl)
theorem dX1_worth_1 : decode cX1_worth 1 = .ok (.iload_n 1, 1) := dk_27 (dk_at dksX1_worth_0 1 rfl rfl)
theorem dX1_worth_2 : decode cX1_worth 2 = .ok (.invokevirtual 192, 3) := dk_182 0 192 (dk_at dksX1_worth_0 2 rfl rfl)
theorem dX1_worth_5 : decode cX1_worth 5 = .ok (.iload_n 2, 1) := dk_28 (dk_at dksX1_worth_0 5 rfl rfl)
theorem dX1_worth_6 : decode cX1_worth 6 = .ok (.invokestatic 220, 3) := dk_184 0 220 (dk_at dksX1_worth_0 6 rfl rfl)
theorem dX1_worth_9 : decode cX1_worth 9 = .ok (.ifCond .eq 14, 3) := dk_153 0 14 (dk_at dksX1_worth_0 9 rfl rfl)
theorem dX1_worth_12 : decode cX1_worth 12 = .ok (.iload_n 3, 1) := dk_29 (dk_at dksX1_worth_0 12 rfl rfl)
theorem dX1_worth_13 : decode cX1_worth 13 = .ok (.invokestatic 220, 3) := dk_184 0 220 (dk_at dksX1_worth_0 13 rfl rfl)
theorem dX1_worth_16 : decode cX1_worth 16 = .ok (.ifCond .eq 7, 3) := dk_153 0 7 (dk_at dksX1_worth_0 16 rfl rfl)
theorem dX1_worth_19 : decode cX1_worth 19 = .ok (.iconst 1, 1) := dk_4 (dk_at dksX1_worth_0 19 rfl rfl)
theorem dX1_worth_20 : decode cX1_worth 20 = .ok (.goto 4, 3) := dk_167 0 4 (dk_at dksX1_worth_0 20 rfl rfl)
theorem dX1_worth_23 : decode cX1_worth 23 = .ok (.iconst 0, 1) := dk_3 (dk_at dksX1_worth_0 23 rfl rfl)
theorem dX1_worth_24 : decode cX1_worth 24 = .ok (.invokestatic 172, 3) := dk_184 0 172 (dk_at dksX1_worth_1 0 rfl rfl)
theorem dX1_worth_27 : decode cX1_worth 27 = .ok (.aload_n 0, 1) := dk_42 (dk_at dksX1_worth_1 3 rfl rfl)
theorem dX1_worth_28 : decode cX1_worth 28 = .ok (.getfield 36, 3) := dk_180 0 36 (dk_at dksX1_worth_1 4 rfl rfl)
theorem dX1_worth_31 : decode cX1_worth 31 = .ok (.iload_n 1, 1) := dk_27 (dk_at dksX1_worth_1 7 rfl rfl)
theorem dX1_worth_32 : decode cX1_worth 32 = .ok (.iload_n 2, 1) := dk_28 (dk_at dksX1_worth_1 8 rfl rfl)
theorem dX1_worth_33 : decode cX1_worth 33 = .ok (.iload_n 3, 1) := dk_29 (dk_at dksX1_worth_1 9 rfl rfl)
theorem dX1_worth_34 : decode cX1_worth 34 = .ok (.invokevirtual 223, 3) := dk_182 0 223 (dk_at dksX1_worth_1 10 rfl rfl)
theorem dX1_worth_37 : decode cX1_worth 37 = .ok (.ifCond .eq 5, 3) := dk_153 0 5 (dk_at dksX1_worth_1 13 rfl rfl)
theorem dX1_worth_40 : decode cX1_worth 40 = .ok (.iconst (-1), 1) := dk_2 (dk_at dksX1_worth_1 16 rfl rfl)
theorem dX1_worth_41 : decode cX1_worth 41 = .ok (.ireturn, 1) := dk_172 (dk_at dksX1_worth_1 17 rfl rfl)
theorem dX1_worth_42 : decode cX1_worth 42 = .ok (.aload_n 0, 1) := dk_42 (dk_at dksX1_worth_1 18 rfl rfl)
theorem dX1_worth_43 : decode cX1_worth 43 = .ok (.getfield 43, 3) := dk_180 0 43 (dk_at dksX1_worth_1 19 rfl rfl)
theorem dX1_worth_46 : decode cX1_worth 46 = .ok (.aload_n 0, 1) := dk_42 (dk_at dksX1_worth_1 22 rfl rfl)
theorem dX1_worth_47 : decode cX1_worth 47 = .ok (.getfield 36, 3) := dk_180 0 36 (dk_at dksX1_worth_2 0 rfl rfl)
theorem dX1_worth_50 : decode cX1_worth 50 = .ok (.invokevirtual 292, 3) := dk_182 1 36 (dk_at dksX1_worth_2 3 rfl rfl)
theorem dX1_worth_53 : decode cX1_worth 53 = .ok (.astore 4, 2) := dk_58 4 (dk_at dksX1_worth_2 6 rfl rfl)
theorem dX1_worth_55 : decode cX1_worth 55 = .ok (.aload 4, 2) := dk_25 4 (dk_at dksX1_worth_2 8 rfl rfl)
theorem dX1_worth_57 : decode cX1_worth 57 = .ok (.iload_n 1, 1) := dk_27 (dk_at dksX1_worth_2 10 rfl rfl)
theorem dX1_worth_58 : decode cX1_worth 58 = .ok (.iload_n 2, 1) := dk_28 (dk_at dksX1_worth_2 11 rfl rfl)
theorem dX1_worth_59 : decode cX1_worth 59 = .ok (.iload_n 3, 1) := dk_29 (dk_at dksX1_worth_2 12 rfl rfl)
theorem dX1_worth_60 : decode cX1_worth 60 = .ok (.invokevirtual 303, 3) := dk_182 1 47 (dk_at dksX1_worth_2 13 rfl rfl)
theorem dX1_worth_63 : decode cX1_worth 63 = .ok (.aload 4, 2) := dk_25 4 (dk_at dksX1_worth_2 16 rfl rfl)
theorem dX1_worth_65 : decode cX1_worth 65 = .ok (.iconst 0, 1) := dk_3 (dk_at dksX1_worth_2 18 rfl rfl)
theorem dX1_worth_66 : decode cX1_worth 66 = .ok (.iconst 0, 1) := dk_3 (dk_at dksX1_worth_2 19 rfl rfl)
theorem dX1_worth_67 : decode cX1_worth 67 = .ok (.iconst 0, 1) := dk_3 (dk_at dksX1_worth_2 20 rfl rfl)
theorem dX1_worth_68 : decode cX1_worth 68 = .ok (.invokevirtual 296, 3) := dk_182 1 40 (dk_at dksX1_worth_2 21 rfl rfl)
theorem dX1_worth_71 : decode cX1_worth 71 = .ok (.isub, 1) := dk_100 (dk_at dksX1_worth_3 0 rfl rfl)
theorem dX1_worth_72 : decode cX1_worth 72 = .ok (.ireturn, 1) := dk_172 (dk_at dksX1_worth_3 1 rfl rfl)
abbrev cX1_ifLetter : ByteArray := prog_1_method_45_code
def yX1_ifLetter : MethodName := ⟨RX1, "ifLetter", "(II)I"⟩
def dkwX1_ifLetter_1 : List UInt8 := [78, 45, 180, 0, 140, 27, 28, 145, 84, 45, 42, 180, 0, 43, 182, 1, 56, 172]
abbrev dktX1_ifLetter_1 : List UInt8 := dkwX1_ifLetter_1 ++ []
def dkwX1_ifLetter_0 : List UInt8 := [42, 27, 182, 0, 192, 28, 133, 9, 20, 1, 69, 184, 0, 75, 184, 0, 172, 42, 180, 0, 36, 182, 0, 119]
abbrev dktX1_ifLetter_0 : List UInt8 := dkwX1_ifLetter_0 ++ dktX1_ifLetter_1
theorem dksX1_ifLetter_0 : cX1_ifLetter.data.toList.drop 0 = dktX1_ifLetter_0 := by decide +kernel
theorem dksX1_ifLetter_1 : cX1_ifLetter.data.toList.drop 24 = dktX1_ifLetter_1 := dk_seg dksX1_ifLetter_0 24 rfl rfl
theorem dX1_ifLetter_0 : decode cX1_ifLetter 0 = .ok (.aload_n 0, 1) := dk_42 (dk_at dksX1_ifLetter_0 0 rfl rfl)
theorem dX1_ifLetter_1 : decode cX1_ifLetter 1 = .ok (.iload_n 1, 1) := dk_27 (dk_at dksX1_ifLetter_0 1 rfl rfl)
theorem dX1_ifLetter_2 : decode cX1_ifLetter 2 = .ok (.invokevirtual 192, 3) := dk_182 0 192 (dk_at dksX1_ifLetter_0 2 rfl rfl)
theorem dX1_ifLetter_5 : decode cX1_ifLetter 5 = .ok (.iload_n 2, 1) := dk_28 (dk_at dksX1_ifLetter_0 5 rfl rfl)
theorem dX1_ifLetter_6 : decode cX1_ifLetter 6 = .ok (.i2l, 1) := dk_133 (dk_at dksX1_ifLetter_0 6 rfl rfl)
theorem dX1_ifLetter_7 : decode cX1_ifLetter 7 = .ok (.lconst 0, 1) := dk_9 (dk_at dksX1_ifLetter_0 7 rfl rfl)
theorem dX1_ifLetter_8 : decode cX1_ifLetter 8 = .ok (.ldc2_w 325, 3) := dk_20 1 69 (dk_at dksX1_ifLetter_0 8 rfl rfl)
theorem dX1_ifLetter_11 : decode cX1_ifLetter 11 = .ok (.invokestatic 75, 3) := dk_184 0 75 (dk_at dksX1_ifLetter_0 11 rfl rfl)
theorem dX1_ifLetter_14 : decode cX1_ifLetter 14 = .ok (.invokestatic 172, 3) := dk_184 0 172 (dk_at dksX1_ifLetter_0 14 rfl rfl)
theorem dX1_ifLetter_17 : decode cX1_ifLetter 17 = .ok (.aload_n 0, 1) := dk_42 (dk_at dksX1_ifLetter_0 17 rfl rfl)
theorem dX1_ifLetter_18 : decode cX1_ifLetter 18 = .ok (.getfield 36, 3) := dk_180 0 36 (dk_at dksX1_ifLetter_0 18 rfl rfl)
theorem dX1_ifLetter_21 : decode cX1_ifLetter 21 = .ok (.invokevirtual 119, 3) := dk_182 0 119 (dk_at dksX1_ifLetter_0 21 rfl rfl)
theorem dX1_ifLetter_24 : decode cX1_ifLetter 24 = .ok (.astore_n 3, 1) := dk_78 (dk_at dksX1_ifLetter_1 0 rfl rfl)
theorem dX1_ifLetter_25 : decode cX1_ifLetter 25 = .ok (.aload_n 3, 1) := dk_45 (dk_at dksX1_ifLetter_1 1 rfl rfl)
theorem dX1_ifLetter_26 : decode cX1_ifLetter 26 = .ok (.getfield 140, 3) := dk_180 0 140 (dk_at dksX1_ifLetter_1 2 rfl rfl)
theorem dX1_ifLetter_29 : decode cX1_ifLetter 29 = .ok (.iload_n 1, 1) := dk_27 (dk_at dksX1_ifLetter_1 5 rfl rfl)
theorem dX1_ifLetter_30 : decode cX1_ifLetter 30 = .ok (.iload_n 2, 1) := dk_28 (dk_at dksX1_ifLetter_1 6 rfl rfl)
theorem dX1_ifLetter_31 : decode cX1_ifLetter 31 = .ok (.i2b, 1) := dk_145 (dk_at dksX1_ifLetter_1 7 rfl rfl)
theorem dX1_ifLetter_32 : decode cX1_ifLetter 32 = .ok (.bastore, 1) := dk_84 (dk_at dksX1_ifLetter_1 8 rfl rfl)
theorem dX1_ifLetter_33 : decode cX1_ifLetter 33 = .ok (.aload_n 3, 1) := dk_45 (dk_at dksX1_ifLetter_1 9 rfl rfl)
theorem dX1_ifLetter_34 : decode cX1_ifLetter 34 = .ok (.aload_n 0, 1) := dk_42 (dk_at dksX1_ifLetter_1 10 rfl rfl)
theorem dX1_ifLetter_35 : decode cX1_ifLetter 35 = .ok (.getfield 43, 3) := dk_180 0 43 (dk_at dksX1_ifLetter_1 11 rfl rfl)
theorem dX1_ifLetter_38 : decode cX1_ifLetter 38 = .ok (.invokevirtual 312, 3) := dk_182 1 56 (dk_at dksX1_ifLetter_1 14 rfl rfl)
theorem dX1_ifLetter_41 : decode cX1_ifLetter 41 = .ok (.ireturn, 1) := dk_172 (dk_at dksX1_ifLetter_1 17 rfl rfl)
abbrev cX1_pinCost : ByteArray := prog_1_method_46_code
def yX1_pinCost : MethodName := ⟨RX1, "pinCost", "(I)I"⟩
def dkwX1_pinCost_1 : List UInt8 := [180, 0, 43, 182, 1, 56, 100, 172]
abbrev dktX1_pinCost_1 : List UInt8 := dkwX1_pinCost_1 ++ []
def dkwX1_pinCost_0 : List UInt8 := [42, 27, 182, 0, 192, 42, 180, 0, 36, 27, 42, 180, 0, 43, 182, 1, 71, 42, 180, 0, 36, 42]
abbrev dktX1_pinCost_0 : List UInt8 := dkwX1_pinCost_0 ++ dktX1_pinCost_1
theorem dksX1_pinCost_0 : cX1_pinCost.data.toList.drop 0 = dktX1_pinCost_0 := by decide +kernel
theorem dksX1_pinCost_1 : cX1_pinCost.data.toList.drop 22 = dktX1_pinCost_1 := dk_seg dksX1_pinCost_0 22 rfl rfl
theorem dX1_pinCost_0 : decode cX1_pinCost 0 = .ok (.aload_n 0, 1) := dk_42 (dk_at dksX1_pinCost_0 0 rfl rfl)
theorem dX1_pinCost_1 : decode cX1_pinCost 1 = .ok (.iload_n 1, 1) := dk_27 (dk_at dksX1_pinCost_0 1 rfl rfl)
theorem dX1_pinCost_2 : decode cX1_pinCost 2 = .ok (.invokevirtual 192, 3) := dk_182 0 192 (dk_at dksX1_pinCost_0 2 rfl rfl)
theorem dX1_pinCost_5 : decode cX1_pinCost 5 = .ok (.aload_n 0, 1) := dk_42 (dk_at dksX1_pinCost_0 5 rfl rfl)
theorem dX1_pinCost_6 : decode cX1_pinCost 6 = .ok (.getfield 36, 3) := dk_180 0 36 (dk_at dksX1_pinCost_0 6 rfl rfl)
theorem dX1_pinCost_9 : decode cX1_pinCost 9 = .ok (.iload_n 1, 1) := dk_27 (dk_at dksX1_pinCost_0 9 rfl rfl)
theorem dX1_pinCost_10 : decode cX1_pinCost 10 = .ok (.aload_n 0, 1) := dk_42 (dk_at dksX1_pinCost_0 10 rfl rfl)
theorem dX1_pinCost_11 : decode cX1_pinCost 11 = .ok (.getfield 43, 3) := dk_180 0 43 (dk_at dksX1_pinCost_0 11 rfl rfl)
theorem dX1_pinCost_14 : decode cX1_pinCost 14 = .ok (.invokevirtual 327, 3) := dk_182 1 71 (dk_at dksX1_pinCost_0 14 rfl rfl)
theorem dX1_pinCost_17 : decode cX1_pinCost 17 = .ok (.aload_n 0, 1) := dk_42 (dk_at dksX1_pinCost_0 17 rfl rfl)
theorem dX1_pinCost_18 : decode cX1_pinCost 18 = .ok (.getfield 36, 3) := dk_180 0 36 (dk_at dksX1_pinCost_0 18 rfl rfl)
theorem dX1_pinCost_21 : decode cX1_pinCost 21 = .ok (.aload_n 0, 1) := dk_42 (dk_at dksX1_pinCost_0 21 rfl rfl)
theorem dX1_pinCost_22 : decode cX1_pinCost 22 = .ok (.getfield 43, 3) := dk_180 0 43 (dk_at dksX1_pinCost_1 0 rfl rfl)
theorem dX1_pinCost_25 : decode cX1_pinCost 25 = .ok (.invokevirtual 312, 3) := dk_182 1 56 (dk_at dksX1_pinCost_1 3 rfl rfl)
theorem dX1_pinCost_28 : decode cX1_pinCost 28 = .ok (.isub, 1) := dk_100 (dk_at dksX1_pinCost_1 6 rfl rfl)
theorem dX1_pinCost_29 : decode cX1_pinCost 29 = .ok (.ireturn, 1) := dk_172 (dk_at dksX1_pinCost_1 7 rfl rfl)
abbrev cX1_enough : ByteArray := prog_1_method_48_code
def yX1_enough : MethodName := ⟨RX1, "enough", "(I)I"⟩
def dkwX1_enough_4 : List UInt8 := [182, 1, 80, 21, 5, 159, 0, 12, 21, 6, 29, 96, 54, 6, 167, 255, 231, 21, 6, 172]
abbrev dktX1_enough_4 : List UInt8 := dkwX1_enough_4 ++ []
def dkwX1_enough_3 : List UInt8 := [180, 0, 43, 182, 1, 80, 54, 5, 21, 4, 54, 6, 42, 180, 0, 36, 27, 21, 6, 42, 180, 0, 43]
abbrev dktX1_enough_3 : List UInt8 := dkwX1_enough_3 ++ dktX1_enough_4
def dkwX1_enough_2 : List UInt8 := [54, 4, 42, 180, 0, 36, 27, 28, 153, 0, 10, 27, 184, 1, 77, 167, 0, 7, 27, 184, 1, 74, 42]
abbrev dktX1_enough_2 : List UInt8 := dkwX1_enough_2 ++ dktX1_enough_3
def dkwX1_enough_1 : List UInt8 := [153, 0, 7, 2, 167, 0, 4, 4, 62, 28, 153, 0, 10, 27, 184, 1, 74, 167, 0, 7, 27, 184, 1, 77]
abbrev dktX1_enough_1 : List UInt8 := dkwX1_enough_1 ++ dktX1_enough_2
def dkwX1_enough_0 : List UInt8 := [27, 133, 9, 20, 0, 233, 184, 0, 75, 184, 0, 172, 27, 5, 160, 0, 7, 4, 167, 0, 4, 3, 61, 28]
abbrev dktX1_enough_0 : List UInt8 := dkwX1_enough_0 ++ dktX1_enough_1
theorem dksX1_enough_0 : cX1_enough.data.toList.drop 0 = dktX1_enough_0 := by decide +kernel
theorem dksX1_enough_1 : cX1_enough.data.toList.drop 24 = dktX1_enough_1 := dk_seg dksX1_enough_0 24 rfl rfl
theorem dksX1_enough_2 : cX1_enough.data.toList.drop 48 = dktX1_enough_2 := dk_seg dksX1_enough_1 24 rfl rfl
theorem dksX1_enough_3 : cX1_enough.data.toList.drop 71 = dktX1_enough_3 := dk_seg dksX1_enough_2 23 rfl rfl
theorem dksX1_enough_4 : cX1_enough.data.toList.drop 94 = dktX1_enough_4 := dk_seg dksX1_enough_3 23 rfl rfl
theorem dX1_enough_0 : decode cX1_enough 0 = .ok (.iload_n 1, 1) := dk_27 (dk_at dksX1_enough_0 0 rfl rfl)
theorem dX1_enough_1 : decode cX1_enough 1 = .ok (.i2l, 1) := dk_133 (dk_at dksX1_enough_0 1 rfl rfl)
theorem dX1_enough_2 : decode cX1_enough 2 = .ok (.lconst 0, 1) := dk_9 (dk_at dksX1_enough_0 2 rfl rfl)
theorem dX1_enough_3 : decode cX1_enough 3 = .ok (.ldc2_w 233, 3) := dk_20 0 233 (dk_at dksX1_enough_0 3 rfl rfl)
theorem dX1_enough_6 : decode cX1_enough 6 = .ok (.invokestatic 75, 3) := dk_184 0 75 (dk_at dksX1_enough_0 6 rfl rfl)
theorem dX1_enough_9 : decode cX1_enough 9 = .ok (.invokestatic 172, 3) := dk_184 0 172 (dk_at dksX1_enough_0 9 rfl rfl)
theorem dX1_enough_12 : decode cX1_enough 12 = .ok (.iload_n 1, 1) := dk_27 (dk_at dksX1_enough_0 12 rfl rfl)
theorem dX1_enough_13 : decode cX1_enough 13 = .ok (.iconst 2, 1) := dk_5 (dk_at dksX1_enough_0 13 rfl rfl)
theorem dX1_enough_14 : decode cX1_enough 14 = .ok (.if_icmp .ne 7, 3) := dk_160 0 7 (dk_at dksX1_enough_0 14 rfl rfl)
theorem dX1_enough_17 : decode cX1_enough 17 = .ok (.iconst 1, 1) := dk_4 (dk_at dksX1_enough_0 17 rfl rfl)
theorem dX1_enough_18 : decode cX1_enough 18 = .ok (.goto 4, 3) := dk_167 0 4 (dk_at dksX1_enough_0 18 rfl rfl)
theorem dX1_enough_21 : decode cX1_enough 21 = .ok (.iconst 0, 1) := dk_3 (dk_at dksX1_enough_0 21 rfl rfl)
theorem dX1_enough_22 : decode cX1_enough 22 = .ok (.istore_n 2, 1) := dk_61 (dk_at dksX1_enough_0 22 rfl rfl)
theorem dX1_enough_23 : decode cX1_enough 23 = .ok (.iload_n 2, 1) := dk_28 (dk_at dksX1_enough_0 23 rfl rfl)
theorem dX1_enough_24 : decode cX1_enough 24 = .ok (.ifCond .eq 7, 3) := dk_153 0 7 (dk_at dksX1_enough_1 0 rfl rfl)
theorem dX1_enough_27 : decode cX1_enough 27 = .ok (.iconst (-1), 1) := dk_2 (dk_at dksX1_enough_1 3 rfl rfl)
theorem dX1_enough_28 : decode cX1_enough 28 = .ok (.goto 4, 3) := dk_167 0 4 (dk_at dksX1_enough_1 4 rfl rfl)
theorem dX1_enough_31 : decode cX1_enough 31 = .ok (.iconst 1, 1) := dk_4 (dk_at dksX1_enough_1 7 rfl rfl)
theorem dX1_enough_32 : decode cX1_enough 32 = .ok (.istore_n 3, 1) := dk_62 (dk_at dksX1_enough_1 8 rfl rfl)
theorem dX1_enough_33 : decode cX1_enough 33 = .ok (.iload_n 2, 1) := dk_28 (dk_at dksX1_enough_1 9 rfl rfl)
theorem dX1_enough_34 : decode cX1_enough 34 = .ok (.ifCond .eq 10, 3) := dk_153 0 10 (dk_at dksX1_enough_1 10 rfl rfl)
theorem dX1_enough_37 : decode cX1_enough 37 = .ok (.iload_n 1, 1) := dk_27 (dk_at dksX1_enough_1 13 rfl rfl)
theorem dX1_enough_38 : decode cX1_enough 38 = .ok (.invokestatic 330, 3) := dk_184 1 74 (dk_at dksX1_enough_1 14 rfl rfl)
theorem dX1_enough_41 : decode cX1_enough 41 = .ok (.goto 7, 3) := dk_167 0 7 (dk_at dksX1_enough_1 17 rfl rfl)
theorem dX1_enough_44 : decode cX1_enough 44 = .ok (.iload_n 1, 1) := dk_27 (dk_at dksX1_enough_1 20 rfl rfl)
theorem dX1_enough_45 : decode cX1_enough 45 = .ok (.invokestatic 333, 3) := dk_184 1 77 (dk_at dksX1_enough_1 21 rfl rfl)
theorem dX1_enough_48 : decode cX1_enough 48 = .ok (.istore 4, 2) := dk_54 4 (dk_at dksX1_enough_2 0 rfl rfl)
theorem dX1_enough_50 : decode cX1_enough 50 = .ok (.aload_n 0, 1) := dk_42 (dk_at dksX1_enough_2 2 rfl rfl)
theorem dX1_enough_51 : decode cX1_enough 51 = .ok (.getfield 36, 3) := dk_180 0 36 (dk_at dksX1_enough_2 3 rfl rfl)
theorem dX1_enough_54 : decode cX1_enough 54 = .ok (.iload_n 1, 1) := dk_27 (dk_at dksX1_enough_2 6 rfl rfl)
theorem dX1_enough_55 : decode cX1_enough 55 = .ok (.iload_n 2, 1) := dk_28 (dk_at dksX1_enough_2 7 rfl rfl)
theorem dX1_enough_56 : decode cX1_enough 56 = .ok (.ifCond .eq 10, 3) := dk_153 0 10 (dk_at dksX1_enough_2 8 rfl rfl)
theorem dX1_enough_59 : decode cX1_enough 59 = .ok (.iload_n 1, 1) := dk_27 (dk_at dksX1_enough_2 11 rfl rfl)
theorem dX1_enough_60 : decode cX1_enough 60 = .ok (.invokestatic 333, 3) := dk_184 1 77 (dk_at dksX1_enough_2 12 rfl rfl)
theorem dX1_enough_63 : decode cX1_enough 63 = .ok (.goto 7, 3) := dk_167 0 7 (dk_at dksX1_enough_2 15 rfl rfl)
theorem dX1_enough_66 : decode cX1_enough 66 = .ok (.iload_n 1, 1) := dk_27 (dk_at dksX1_enough_2 18 rfl rfl)
theorem dX1_enough_67 : decode cX1_enough 67 = .ok (.invokestatic 330, 3) := dk_184 1 74 (dk_at dksX1_enough_2 19 rfl rfl)
theorem dX1_enough_70 : decode cX1_enough 70 = .ok (.aload_n 0, 1) := dk_42 (dk_at dksX1_enough_2 22 rfl rfl)
theorem dX1_enough_71 : decode cX1_enough 71 = .ok (.getfield 43, 3) := dk_180 0 43 (dk_at dksX1_enough_3 0 rfl rfl)
theorem dX1_enough_74 : decode cX1_enough 74 = .ok (.invokevirtual 336, 3) := dk_182 1 80 (dk_at dksX1_enough_3 3 rfl rfl)
theorem dX1_enough_77 : decode cX1_enough 77 = .ok (.istore 5, 2) := dk_54 5 (dk_at dksX1_enough_3 6 rfl rfl)
theorem dX1_enough_79 : decode cX1_enough 79 = .ok (.iload 4, 2) := dk_21 4 (dk_at dksX1_enough_3 8 rfl rfl)
theorem dX1_enough_81 : decode cX1_enough 81 = .ok (.istore 6, 2) := dk_54 6 (dk_at dksX1_enough_3 10 rfl rfl)
theorem dX1_enough_83 : decode cX1_enough 83 = .ok (.aload_n 0, 1) := dk_42 (dk_at dksX1_enough_3 12 rfl rfl)
theorem dX1_enough_84 : decode cX1_enough 84 = .ok (.getfield 36, 3) := dk_180 0 36 (dk_at dksX1_enough_3 13 rfl rfl)
theorem dX1_enough_87 : decode cX1_enough 87 = .ok (.iload_n 1, 1) := dk_27 (dk_at dksX1_enough_3 16 rfl rfl)
theorem dX1_enough_88 : decode cX1_enough 88 = .ok (.iload 6, 2) := dk_21 6 (dk_at dksX1_enough_3 17 rfl rfl)
theorem dX1_enough_90 : decode cX1_enough 90 = .ok (.aload_n 0, 1) := dk_42 (dk_at dksX1_enough_3 19 rfl rfl)
theorem dX1_enough_91 : decode cX1_enough 91 = .ok (.getfield 43, 3) := dk_180 0 43 (dk_at dksX1_enough_3 20 rfl rfl)
theorem dX1_enough_94 : decode cX1_enough 94 = .ok (.invokevirtual 336, 3) := dk_182 1 80 (dk_at dksX1_enough_4 0 rfl rfl)
theorem dX1_enough_97 : decode cX1_enough 97 = .ok (.iload 5, 2) := dk_21 5 (dk_at dksX1_enough_4 3 rfl rfl)
theorem dX1_enough_99 : decode cX1_enough 99 = .ok (.if_icmp .eq 12, 3) := dk_159 0 12 (dk_at dksX1_enough_4 5 rfl rfl)
theorem dX1_enough_102 : decode cX1_enough 102 = .ok (.iload 6, 2) := dk_21 6 (dk_at dksX1_enough_4 8 rfl rfl)
theorem dX1_enough_104 : decode cX1_enough 104 = .ok (.iload_n 3, 1) := dk_29 (dk_at dksX1_enough_4 10 rfl rfl)
theorem dX1_enough_105 : decode cX1_enough 105 = .ok (.iadd, 1) := dk_96 (dk_at dksX1_enough_4 11 rfl rfl)
theorem dX1_enough_106 : decode cX1_enough 106 = .ok (.istore 6, 2) := dk_54 6 (dk_at dksX1_enough_4 12 rfl rfl)
theorem dX1_enough_108 : decode cX1_enough 108 = .ok (.goto (-25), 3) := dk_167 255 231 (dk_at dksX1_enough_4 14 rfl rfl)
theorem dX1_enough_111 : decode cX1_enough 111 = .ok (.iload 6, 2) := dk_21 6 (dk_at dksX1_enough_4 17 rfl rfl)
theorem dX1_enough_113 : decode cX1_enough 113 = .ok (.ireturn, 1) := dk_172 (dk_at dksX1_enough_4 19 rfl rfl)
abbrev cX1_meanLength : ByteArray := prog_1_method_51_code
def yX1_meanLength : MethodName := ⟨RX1, "meanLength", "(I)D"⟩
def dkwX1_meanLength_1 : List UInt8 := [182, 0, 246, 54, 4, 29, 154, 0, 7, 14, 167, 0, 9, 21, 4, 135, 29, 135, 111, 175]
abbrev dktX1_meanLength_1 : List UInt8 := dkwX1_meanLength_1 ++ []
def dkwX1_meanLength_0 : List UInt8 := [42, 27, 182, 0, 239, 77, 44, 186, 1, 84, 0, 0, 182, 0, 246, 62, 44, 186, 1, 85, 0, 0]
abbrev dktX1_meanLength_0 : List UInt8 := dkwX1_meanLength_0 ++ dktX1_meanLength_1
theorem dksX1_meanLength_0 : cX1_meanLength.data.toList.drop 0 = dktX1_meanLength_0 := by decide +kernel
theorem dksX1_meanLength_1 : cX1_meanLength.data.toList.drop 22 = dktX1_meanLength_1 := dk_seg dksX1_meanLength_0 22 rfl rfl
theorem dX1_meanLength_0 : decode cX1_meanLength 0 = .ok (.aload_n 0, 1) := dk_42 (dk_at dksX1_meanLength_0 0 rfl rfl)
theorem dX1_meanLength_1 : decode cX1_meanLength 1 = .ok (.iload_n 1, 1) := dk_27 (dk_at dksX1_meanLength_0 1 rfl rfl)
theorem dX1_meanLength_2 : decode cX1_meanLength 2 = .ok (.invokevirtual 239, 3) := dk_182 0 239 (dk_at dksX1_meanLength_0 2 rfl rfl)
theorem dX1_meanLength_5 : decode cX1_meanLength 5 = .ok (.astore_n 2, 1) := dk_77 (dk_at dksX1_meanLength_0 5 rfl rfl)
theorem dX1_meanLength_6 : decode cX1_meanLength 6 = .ok (.aload_n 2, 1) := dk_44 (dk_at dksX1_meanLength_0 6 rfl rfl)
theorem dX1_meanLength_7 : decode cX1_meanLength 7 = .ok (.invokedynamic 340, 5) := by decide +kernel
theorem dX1_meanLength_12 : decode cX1_meanLength 12 = .ok (.invokevirtual 246, 3) := dk_182 0 246 (dk_at dksX1_meanLength_0 12 rfl rfl)
theorem dX1_meanLength_15 : decode cX1_meanLength 15 = .ok (.istore_n 3, 1) := dk_62 (dk_at dksX1_meanLength_0 15 rfl rfl)
theorem dX1_meanLength_16 : decode cX1_meanLength 16 = .ok (.aload_n 2, 1) := dk_44 (dk_at dksX1_meanLength_0 16 rfl rfl)
theorem dX1_meanLength_17 : decode cX1_meanLength 17 = .ok (.invokedynamic 341, 5) := by decide +kernel
theorem dX1_meanLength_22 : decode cX1_meanLength 22 = .ok (.invokevirtual 246, 3) := dk_182 0 246 (dk_at dksX1_meanLength_1 0 rfl rfl)
theorem dX1_meanLength_25 : decode cX1_meanLength 25 = .ok (.istore 4, 2) := dk_54 4 (dk_at dksX1_meanLength_1 3 rfl rfl)
theorem dX1_meanLength_27 : decode cX1_meanLength 27 = .ok (.iload_n 3, 1) := dk_29 (dk_at dksX1_meanLength_1 5 rfl rfl)
theorem dX1_meanLength_28 : decode cX1_meanLength 28 = .ok (.ifCond .ne 7, 3) := dk_154 0 7 (dk_at dksX1_meanLength_1 6 rfl rfl)
theorem dX1_meanLength_31 : decode cX1_meanLength 31 = .ok (.dconst 0, 1) := dk_14 (dk_at dksX1_meanLength_1 9 rfl rfl)
theorem dX1_meanLength_32 : decode cX1_meanLength 32 = .ok (.goto 9, 3) := dk_167 0 9 (dk_at dksX1_meanLength_1 10 rfl rfl)
theorem dX1_meanLength_35 : decode cX1_meanLength 35 = .ok (.iload 4, 2) := dk_21 4 (dk_at dksX1_meanLength_1 13 rfl rfl)
theorem dX1_meanLength_37 : decode cX1_meanLength 37 = .ok (.i2d, 1) := dk_135 (dk_at dksX1_meanLength_1 15 rfl rfl)
theorem dX1_meanLength_38 : decode cX1_meanLength 38 = .ok (.iload_n 3, 1) := dk_29 (dk_at dksX1_meanLength_1 16 rfl rfl)
theorem dX1_meanLength_39 : decode cX1_meanLength 39 = .ok (.i2d, 1) := dk_135 (dk_at dksX1_meanLength_1 17 rfl rfl)
theorem dX1_meanLength_40 : decode cX1_meanLength 40 = .ok (.ddiv, 1) := dk_111 (dk_at dksX1_meanLength_1 18 rfl rfl)
theorem dX1_meanLength_41 : decode cX1_meanLength 41 = .ok (.dreturn, 1) := dk_175 (dk_at dksX1_meanLength_1 19 rfl rfl)
abbrev cX1_lambda_meanLength_11 : ByteArray := prog_1_method_66_code
def yX1_lambda_meanLength_11 : MethodName := ⟨RX1, "lambda$meanLength$11", "(LCopyPrices$Step;)I"⟩
def dkwX1_lambda_meanLength_11_0 : List UInt8 := [42, 182, 1, 4, 158, 0, 7, 4, 167, 0, 4, 3, 184, 0, 199, 172]
abbrev dktX1_lambda_meanLength_11_0 : List UInt8 := dkwX1_lambda_meanLength_11_0 ++ []
theorem dksX1_lambda_meanLength_11_0 : cX1_lambda_meanLength_11.data.toList.drop 0 = dktX1_lambda_meanLength_11_0 := by decide +kernel
theorem dX1_lambda_meanLength_11_0 : decode cX1_lambda_meanLength_11 0 = .ok (.aload_n 0, 1) := dk_42 (dk_at dksX1_lambda_meanLength_11_0 0 rfl rfl)
theorem dX1_lambda_meanLength_11_1 : decode cX1_lambda_meanLength_11 1 = .ok (.invokevirtual 260, 3) := dk_182 1 4 (dk_at dksX1_lambda_meanLength_11_0 1 rfl rfl)
theorem dX1_lambda_meanLength_11_4 : decode cX1_lambda_meanLength_11 4 = .ok (.ifCond .le 7, 3) := dk_158 0 7 (dk_at dksX1_lambda_meanLength_11_0 4 rfl rfl)
theorem dX1_lambda_meanLength_11_7 : decode cX1_lambda_meanLength_11 7 = .ok (.iconst 1, 1) := dk_4 (dk_at dksX1_lambda_meanLength_11_0 7 rfl rfl)
theorem dX1_lambda_meanLength_11_8 : decode cX1_lambda_meanLength_11 8 = .ok (.goto 4, 3) := dk_167 0 4 (dk_at dksX1_lambda_meanLength_11_0 8 rfl rfl)
theorem dX1_lambda_meanLength_11_11 : decode cX1_lambda_meanLength_11 11 = .ok (.iconst 0, 1) := dk_3 (dk_at dksX1_lambda_meanLength_11_0 11 rfl rfl)
theorem dX1_lambda_meanLength_11_12 : decode cX1_lambda_meanLength_11 12 = .ok (.invokestatic 199, 3) := dk_184 0 199 (dk_at dksX1_lambda_meanLength_11_0 12 rfl rfl)
theorem dX1_lambda_meanLength_11_15 : decode cX1_lambda_meanLength_11 15 = .ok (.ireturn, 1) := dk_172 (dk_at dksX1_lambda_meanLength_11_0 15 rfl rfl)
abbrev cX1_lambda_meanLength_12 : ByteArray := prog_1_method_65_code
def yX1_lambda_meanLength_12 : MethodName := ⟨RX1, "lambda$meanLength$12", "(LCopyPrices$Step;)I"⟩
def dkwX1_lambda_meanLength_12_0 : List UInt8 := [42, 182, 1, 4, 158, 0, 10, 42, 182, 1, 1, 167, 0, 4, 3, 172]
abbrev dktX1_lambda_meanLength_12_0 : List UInt8 := dkwX1_lambda_meanLength_12_0 ++ []
theorem dksX1_lambda_meanLength_12_0 : cX1_lambda_meanLength_12.data.toList.drop 0 = dktX1_lambda_meanLength_12_0 := by decide +kernel
theorem dX1_lambda_meanLength_12_0 : decode cX1_lambda_meanLength_12 0 = .ok (.aload_n 0, 1) := dk_42 (dk_at dksX1_lambda_meanLength_12_0 0 rfl rfl)
theorem dX1_lambda_meanLength_12_1 : decode cX1_lambda_meanLength_12 1 = .ok (.invokevirtual 260, 3) := dk_182 1 4 (dk_at dksX1_lambda_meanLength_12_0 1 rfl rfl)
theorem dX1_lambda_meanLength_12_4 : decode cX1_lambda_meanLength_12 4 = .ok (.ifCond .le 10, 3) := dk_158 0 10 (dk_at dksX1_lambda_meanLength_12_0 4 rfl rfl)
theorem dX1_lambda_meanLength_12_7 : decode cX1_lambda_meanLength_12 7 = .ok (.aload_n 0, 1) := dk_42 (dk_at dksX1_lambda_meanLength_12_0 7 rfl rfl)
theorem dX1_lambda_meanLength_12_8 : decode cX1_lambda_meanLength_12 8 = .ok (.invokevirtual 257, 3) := dk_182 1 1 (dk_at dksX1_lambda_meanLength_12_0 8 rfl rfl)
theorem dX1_lambda_meanLength_12_11 : decode cX1_lambda_meanLength_12 11 = .ok (.goto 4, 3) := dk_167 0 4 (dk_at dksX1_lambda_meanLength_12_0 11 rfl rfl)
theorem dX1_lambda_meanLength_12_14 : decode cX1_lambda_meanLength_12 14 = .ok (.iconst 0, 1) := dk_3 (dk_at dksX1_lambda_meanLength_12_0 14 rfl rfl)
theorem dX1_lambda_meanLength_12_15 : decode cX1_lambda_meanLength_12 15 = .ok (.ireturn, 1) := dk_172 (dk_at dksX1_lambda_meanLength_12_0 15 rfl rfl)
abbrev cX1_put : ByteArray := prog_1_method_52_code
def yX1_put : MethodName := ⟨RX1, "put", "(II)I"⟩
def dkwX1_put_1 : List UInt8 := [45, 180, 0, 140, 27, 51, 54, 4, 45, 180, 0, 140, 27, 28, 145, 84, 21, 4, 172]
abbrev dktX1_put_1 : List UInt8 := dkwX1_put_1 ++ []
def dkwX1_put_0 : List UInt8 := [42, 27, 182, 0, 192, 28, 133, 9, 20, 1, 69, 184, 0, 75, 184, 0, 172, 42, 3, 4, 182, 1, 86, 78]
abbrev dktX1_put_0 : List UInt8 := dkwX1_put_0 ++ dktX1_put_1
theorem dksX1_put_0 : cX1_put.data.toList.drop 0 = dktX1_put_0 := by decide +kernel
theorem dksX1_put_1 : cX1_put.data.toList.drop 24 = dktX1_put_1 := dk_seg dksX1_put_0 24 rfl rfl
theorem dX1_put_0 : decode cX1_put 0 = .ok (.aload_n 0, 1) := dk_42 (dk_at dksX1_put_0 0 rfl rfl)
theorem dX1_put_1 : decode cX1_put 1 = .ok (.iload_n 1, 1) := dk_27 (dk_at dksX1_put_0 1 rfl rfl)
theorem dX1_put_2 : decode cX1_put 2 = .ok (.invokevirtual 192, 3) := dk_182 0 192 (dk_at dksX1_put_0 2 rfl rfl)
theorem dX1_put_5 : decode cX1_put 5 = .ok (.iload_n 2, 1) := dk_28 (dk_at dksX1_put_0 5 rfl rfl)
theorem dX1_put_6 : decode cX1_put 6 = .ok (.i2l, 1) := dk_133 (dk_at dksX1_put_0 6 rfl rfl)
theorem dX1_put_7 : decode cX1_put 7 = .ok (.lconst 0, 1) := dk_9 (dk_at dksX1_put_0 7 rfl rfl)
theorem dX1_put_8 : decode cX1_put 8 = .ok (.ldc2_w 325, 3) := dk_20 1 69 (dk_at dksX1_put_0 8 rfl rfl)
theorem dX1_put_11 : decode cX1_put 11 = .ok (.invokestatic 75, 3) := dk_184 0 75 (dk_at dksX1_put_0 11 rfl rfl)
theorem dX1_put_14 : decode cX1_put 14 = .ok (.invokestatic 172, 3) := dk_184 0 172 (dk_at dksX1_put_0 14 rfl rfl)
theorem dX1_put_17 : decode cX1_put 17 = .ok (.aload_n 0, 1) := dk_42 (dk_at dksX1_put_0 17 rfl rfl)
theorem dX1_put_18 : decode cX1_put 18 = .ok (.iconst 0, 1) := dk_3 (dk_at dksX1_put_0 18 rfl rfl)
theorem dX1_put_19 : decode cX1_put 19 = .ok (.iconst 1, 1) := dk_4 (dk_at dksX1_put_0 19 rfl rfl)
theorem dX1_put_20 : decode cX1_put 20 = .ok (.invokevirtual 342, 3) := dk_182 1 86 (dk_at dksX1_put_0 20 rfl rfl)
theorem dX1_put_23 : decode cX1_put 23 = .ok (.astore_n 3, 1) := dk_78 (dk_at dksX1_put_0 23 rfl rfl)
theorem dX1_put_24 : decode cX1_put 24 = .ok (.aload_n 3, 1) := dk_45 (dk_at dksX1_put_1 0 rfl rfl)
theorem dX1_put_25 : decode cX1_put 25 = .ok (.getfield 140, 3) := dk_180 0 140 (dk_at dksX1_put_1 1 rfl rfl)
theorem dX1_put_28 : decode cX1_put 28 = .ok (.iload_n 1, 1) := dk_27 (dk_at dksX1_put_1 4 rfl rfl)
theorem dX1_put_29 : decode cX1_put 29 = .ok (.baload, 1) := dk_51 (dk_at dksX1_put_1 5 rfl rfl)
theorem dX1_put_30 : decode cX1_put 30 = .ok (.istore 4, 2) := dk_54 4 (dk_at dksX1_put_1 6 rfl rfl)
theorem dX1_put_32 : decode cX1_put 32 = .ok (.aload_n 3, 1) := dk_45 (dk_at dksX1_put_1 8 rfl rfl)
theorem dX1_put_33 : decode cX1_put 33 = .ok (.getfield 140, 3) := dk_180 0 140 (dk_at dksX1_put_1 9 rfl rfl)
theorem dX1_put_36 : decode cX1_put 36 = .ok (.iload_n 1, 1) := dk_27 (dk_at dksX1_put_1 12 rfl rfl)
theorem dX1_put_37 : decode cX1_put 37 = .ok (.iload_n 2, 1) := dk_28 (dk_at dksX1_put_1 13 rfl rfl)
theorem dX1_put_38 : decode cX1_put 38 = .ok (.i2b, 1) := dk_145 (dk_at dksX1_put_1 14 rfl rfl)
theorem dX1_put_39 : decode cX1_put 39 = .ok (.bastore, 1) := dk_84 (dk_at dksX1_put_1 15 rfl rfl)
theorem dX1_put_40 : decode cX1_put 40 = .ok (.iload 4, 2) := dk_21 4 (dk_at dksX1_put_1 16 rfl rfl)
theorem dX1_put_42 : decode cX1_put 42 = .ok (.ireturn, 1) := dk_172 (dk_at dksX1_put_1 18 rfl rfl)
abbrev cX1_remembers : ByteArray := prog_1_method_15_code
def yX1_remembers : MethodName := ⟨RX1, "remembers", "(II)LCopyPrices$World;"⟩
def dkwX1_remembers_2 : List UInt8 := [180, 0, 36, 180, 0, 122, 27, 92, 46, 28, 96, 79, 42, 180, 0, 36, 176]
abbrev dktX1_remembers_2 : List UInt8 := dkwX1_remembers_2 ++ []
def dkwX1_remembers_1 : List UInt8 := [180, 0, 52, 42, 180, 0, 36, 182, 0, 115, 42, 42, 180, 0, 36, 182, 0, 119, 181, 0, 36, 42]
abbrev dktX1_remembers_1 : List UInt8 := dkwX1_remembers_1 ++ dktX1_remembers_2
def dkwX1_remembers_0 : List UInt8 := [42, 180, 0, 52, 182, 0, 107, 16, 8, 160, 0, 14, 42, 180, 0, 52, 182, 0, 111, 192, 0, 62, 78, 42]
abbrev dktX1_remembers_0 : List UInt8 := dkwX1_remembers_0 ++ dktX1_remembers_1
theorem dksX1_remembers_0 : cX1_remembers.data.toList.drop 0 = dktX1_remembers_0 := by decide +kernel
theorem dksX1_remembers_1 : cX1_remembers.data.toList.drop 24 = dktX1_remembers_1 := dk_seg dksX1_remembers_0 24 rfl rfl
theorem dksX1_remembers_2 : cX1_remembers.data.toList.drop 46 = dktX1_remembers_2 := dk_seg dksX1_remembers_1 22 rfl rfl
theorem dX1_remembers_0 : decode cX1_remembers 0 = .ok (.aload_n 0, 1) := dk_42 (dk_at dksX1_remembers_0 0 rfl rfl)
theorem dX1_remembers_1 : decode cX1_remembers 1 = .ok (.getfield 52, 3) := dk_180 0 52 (dk_at dksX1_remembers_0 1 rfl rfl)
theorem dX1_remembers_4 : decode cX1_remembers 4 = .ok (.invokevirtual 107, 3) := dk_182 0 107 (dk_at dksX1_remembers_0 4 rfl rfl)
theorem dX1_remembers_7 : decode cX1_remembers 7 = .ok (.bipush 8, 2) := dk_16 8 (dk_at dksX1_remembers_0 7 rfl rfl)
theorem dX1_remembers_9 : decode cX1_remembers 9 = .ok (.if_icmp .ne 14, 3) := dk_160 0 14 (dk_at dksX1_remembers_0 9 rfl rfl)
theorem dX1_remembers_12 : decode cX1_remembers 12 = .ok (.aload_n 0, 1) := dk_42 (dk_at dksX1_remembers_0 12 rfl rfl)
theorem dX1_remembers_13 : decode cX1_remembers 13 = .ok (.getfield 52, 3) := dk_180 0 52 (dk_at dksX1_remembers_0 13 rfl rfl)
theorem dX1_remembers_16 : decode cX1_remembers 16 = .ok (.invokevirtual 111, 3) := dk_182 0 111 (dk_at dksX1_remembers_0 16 rfl rfl)
theorem dX1_remembers_19 : decode cX1_remembers 19 = .ok (.checkcast 62, 3) := dk_192 0 62 (dk_at dksX1_remembers_0 19 rfl rfl)
theorem dX1_remembers_22 : decode cX1_remembers 22 = .ok (.astore_n 3, 1) := dk_78 (dk_at dksX1_remembers_0 22 rfl rfl)
theorem dX1_remembers_23 : decode cX1_remembers 23 = .ok (.aload_n 0, 1) := dk_42 (dk_at dksX1_remembers_0 23 rfl rfl)
theorem dX1_remembers_24 : decode cX1_remembers 24 = .ok (.getfield 52, 3) := dk_180 0 52 (dk_at dksX1_remembers_1 0 rfl rfl)
theorem dX1_remembers_27 : decode cX1_remembers 27 = .ok (.aload_n 0, 1) := dk_42 (dk_at dksX1_remembers_1 3 rfl rfl)
theorem dX1_remembers_28 : decode cX1_remembers 28 = .ok (.getfield 36, 3) := dk_180 0 36 (dk_at dksX1_remembers_1 4 rfl rfl)
theorem dX1_remembers_31 : decode cX1_remembers 31 = .ok (.invokevirtual 115, 3) := dk_182 0 115 (dk_at dksX1_remembers_1 7 rfl rfl)
theorem dX1_remembers_34 : decode cX1_remembers 34 = .ok (.aload_n 0, 1) := dk_42 (dk_at dksX1_remembers_1 10 rfl rfl)
theorem dX1_remembers_35 : decode cX1_remembers 35 = .ok (.aload_n 0, 1) := dk_42 (dk_at dksX1_remembers_1 11 rfl rfl)
theorem dX1_remembers_36 : decode cX1_remembers 36 = .ok (.getfield 36, 3) := dk_180 0 36 (dk_at dksX1_remembers_1 12 rfl rfl)
theorem dX1_remembers_39 : decode cX1_remembers 39 = .ok (.invokevirtual 119, 3) := dk_182 0 119 (dk_at dksX1_remembers_1 15 rfl rfl)
theorem dX1_remembers_42 : decode cX1_remembers 42 = .ok (.putfield 36, 3) := dk_181 0 36 (dk_at dksX1_remembers_1 18 rfl rfl)
theorem dX1_remembers_45 : decode cX1_remembers 45 = .ok (.aload_n 0, 1) := dk_42 (dk_at dksX1_remembers_1 21 rfl rfl)
theorem dX1_remembers_46 : decode cX1_remembers 46 = .ok (.getfield 36, 3) := dk_180 0 36 (dk_at dksX1_remembers_2 0 rfl rfl)
theorem dX1_remembers_49 : decode cX1_remembers 49 = .ok (.getfield 122, 3) := dk_180 0 122 (dk_at dksX1_remembers_2 3 rfl rfl)
theorem dX1_remembers_52 : decode cX1_remembers 52 = .ok (.iload_n 1, 1) := dk_27 (dk_at dksX1_remembers_2 6 rfl rfl)
theorem dX1_remembers_53 : decode cX1_remembers 53 = .ok (.dup2, 1) := dk_92 (dk_at dksX1_remembers_2 7 rfl rfl)
theorem dX1_remembers_54 : decode cX1_remembers 54 = .ok (.iaload, 1) := dk_46 (dk_at dksX1_remembers_2 8 rfl rfl)
theorem dX1_remembers_55 : decode cX1_remembers 55 = .ok (.iload_n 2, 1) := dk_28 (dk_at dksX1_remembers_2 9 rfl rfl)
theorem dX1_remembers_56 : decode cX1_remembers 56 = .ok (.iadd, 1) := dk_96 (dk_at dksX1_remembers_2 10 rfl rfl)
theorem dX1_remembers_57 : decode cX1_remembers 57 = .ok (.iastore, 1) := dk_79 (dk_at dksX1_remembers_2 11 rfl rfl)
theorem dX1_remembers_58 : decode cX1_remembers 58 = .ok (.aload_n 0, 1) := dk_42 (dk_at dksX1_remembers_2 12 rfl rfl)
theorem dX1_remembers_59 : decode cX1_remembers 59 = .ok (.getfield 36, 3) := dk_180 0 36 (dk_at dksX1_remembers_2 13 rfl rfl)
theorem dX1_remembers_62 : decode cX1_remembers 62 = .ok (.areturn, 1) := dk_176 (dk_at dksX1_remembers_2 16 rfl rfl)
abbrev cX1_add : ByteArray := prog_1_method_53_code
def yX1_add : MethodName := ⟨RX1, "add", "(I)I"⟩
def dkwX1_add_2 : List UInt8 := [180, 0, 104, 172]
abbrev dktX1_add_2 : List UInt8 := dkwX1_add_2 ++ []
def dkwX1_add_1 : List UInt8 := [4, 167, 0, 4, 3, 184, 1, 90, 42, 4, 4, 182, 1, 86, 27, 182, 0, 65, 42, 180, 0, 36]
abbrev dktX1_add_1 : List UInt8 := dkwX1_add_1 ++ dktX1_add_2
def dkwX1_add_0 : List UInt8 := [27, 133, 9, 20, 1, 69, 184, 0, 75, 184, 0, 172, 42, 180, 0, 36, 180, 0, 104, 16, 64, 162, 0, 7]
abbrev dktX1_add_0 : List UInt8 := dkwX1_add_0 ++ dktX1_add_1
theorem dksX1_add_0 : cX1_add.data.toList.drop 0 = dktX1_add_0 := by decide +kernel
theorem dksX1_add_1 : cX1_add.data.toList.drop 24 = dktX1_add_1 := dk_seg dksX1_add_0 24 rfl rfl
theorem dksX1_add_2 : cX1_add.data.toList.drop 46 = dktX1_add_2 := dk_seg dksX1_add_1 22 rfl rfl
theorem dX1_add_0 : decode cX1_add 0 = .ok (.iload_n 1, 1) := dk_27 (dk_at dksX1_add_0 0 rfl rfl)
theorem dX1_add_1 : decode cX1_add 1 = .ok (.i2l, 1) := dk_133 (dk_at dksX1_add_0 1 rfl rfl)
theorem dX1_add_2 : decode cX1_add 2 = .ok (.lconst 0, 1) := dk_9 (dk_at dksX1_add_0 2 rfl rfl)
theorem dX1_add_3 : decode cX1_add 3 = .ok (.ldc2_w 325, 3) := dk_20 1 69 (dk_at dksX1_add_0 3 rfl rfl)
theorem dX1_add_6 : decode cX1_add 6 = .ok (.invokestatic 75, 3) := dk_184 0 75 (dk_at dksX1_add_0 6 rfl rfl)
theorem dX1_add_9 : decode cX1_add 9 = .ok (.invokestatic 172, 3) := dk_184 0 172 (dk_at dksX1_add_0 9 rfl rfl)
theorem dX1_add_12 : decode cX1_add 12 = .ok (.aload_n 0, 1) := dk_42 (dk_at dksX1_add_0 12 rfl rfl)
theorem dX1_add_13 : decode cX1_add 13 = .ok (.getfield 36, 3) := dk_180 0 36 (dk_at dksX1_add_0 13 rfl rfl)
theorem dX1_add_16 : decode cX1_add 16 = .ok (.getfield 104, 3) := dk_180 0 104 (dk_at dksX1_add_0 16 rfl rfl)
theorem dX1_add_19 : decode cX1_add 19 = .ok (.bipush 64, 2) := dk_16 64 (dk_at dksX1_add_0 19 rfl rfl)
theorem dX1_add_21 : decode cX1_add 21 = .ok (.if_icmp .ge 7, 3) := dk_162 0 7 (dk_at dksX1_add_0 21 rfl rfl)
theorem dX1_add_24 : decode cX1_add 24 = .ok (.iconst 1, 1) := dk_4 (dk_at dksX1_add_1 0 rfl rfl)
theorem dX1_add_25 : decode cX1_add 25 = .ok (.goto 4, 3) := dk_167 0 4 (dk_at dksX1_add_1 1 rfl rfl)
theorem dX1_add_28 : decode cX1_add 28 = .ok (.iconst 0, 1) := dk_3 (dk_at dksX1_add_1 4 rfl rfl)
theorem dX1_add_29 : decode cX1_add 29 = .ok (.invokestatic 346, 3) := dk_184 1 90 (dk_at dksX1_add_1 5 rfl rfl)
theorem dX1_add_32 : decode cX1_add 32 = .ok (.aload_n 0, 1) := dk_42 (dk_at dksX1_add_1 8 rfl rfl)
theorem dX1_add_33 : decode cX1_add 33 = .ok (.iconst 1, 1) := dk_4 (dk_at dksX1_add_1 9 rfl rfl)
theorem dX1_add_34 : decode cX1_add 34 = .ok (.iconst 1, 1) := dk_4 (dk_at dksX1_add_1 10 rfl rfl)
theorem dX1_add_35 : decode cX1_add 35 = .ok (.invokevirtual 342, 3) := dk_182 1 86 (dk_at dksX1_add_1 11 rfl rfl)
theorem dX1_add_38 : decode cX1_add 38 = .ok (.iload_n 1, 1) := dk_27 (dk_at dksX1_add_1 14 rfl rfl)
theorem dX1_add_39 : decode cX1_add 39 = .ok (.invokevirtual 65, 3) := dk_182 0 65 (dk_at dksX1_add_1 15 rfl rfl)
theorem dX1_add_42 : decode cX1_add 42 = .ok (.aload_n 0, 1) := dk_42 (dk_at dksX1_add_1 18 rfl rfl)
theorem dX1_add_43 : decode cX1_add 43 = .ok (.getfield 36, 3) := dk_180 0 36 (dk_at dksX1_add_1 19 rfl rfl)
theorem dX1_add_46 : decode cX1_add 46 = .ok (.getfield 104, 3) := dk_180 0 104 (dk_at dksX1_add_2 0 rfl rfl)
theorem dX1_add_49 : decode cX1_add 49 = .ok (.ireturn, 1) := dk_172 (dk_at dksX1_add_2 3 rfl rfl)
abbrev cX1_needState : ByteArray := prog_1_method_6_code
def yX1_needState : MethodName := ⟨RX1, "needState", "(Z)V"⟩
def dkwX1_needState_0 : List UInt8 := [26, 154, 0, 11, 187, 0, 16, 89, 183, 0, 18, 191, 177]
abbrev dktX1_needState_0 : List UInt8 := dkwX1_needState_0 ++ []
theorem dksX1_needState_0 : cX1_needState.data.toList.drop 0 = dktX1_needState_0 := by decide +kernel
theorem dX1_needState_0 : decode cX1_needState 0 = .ok (.iload_n 0, 1) := dk_26 (dk_at dksX1_needState_0 0 rfl rfl)
theorem dX1_needState_1 : decode cX1_needState 1 = .ok (.ifCond .ne 11, 3) := dk_154 0 11 (dk_at dksX1_needState_0 1 rfl rfl)
theorem dX1_needState_4 : decode cX1_needState 4 = .ok (.new 16, 3) := dk_187 0 16 (dk_at dksX1_needState_0 4 rfl rfl)
theorem dX1_needState_7 : decode cX1_needState 7 = .ok (.dup, 1) := dk_89 (dk_at dksX1_needState_0 7 rfl rfl)
theorem dX1_needState_8 : decode cX1_needState 8 = .ok (.invokespecial 18, 3) := dk_183 0 18 (dk_at dksX1_needState_0 8 rfl rfl)
theorem dX1_needState_11 : decode cX1_needState 11 = .ok (.athrow, 1) := dk_191 (dk_at dksX1_needState_0 11 rfl rfl)
theorem dX1_needState_12 : decode cX1_needState 12 = .ok (.return_, 1) := dk_177 (dk_at dksX1_needState_0 12 rfl rfl)
abbrev cX1_cut : ByteArray := prog_1_method_54_code
def yX1_cut : MethodName := ⟨RX1, "cut", "(I)I"⟩
def dkwX1_cut_2 : List UInt8 := [180, 0, 146, 10, 44, 180, 0, 104, 121, 10, 101, 127, 181, 0, 146, 44, 180, 0, 104, 172]
abbrev dktX1_cut_2 : List UInt8 := dkwX1_cut_2 ++ []
def dkwX1_cut_1 : List UInt8 := [184, 1, 90, 42, 5, 27, 182, 1, 86, 77, 44, 89, 180, 0, 104, 27, 100, 181, 0, 104, 44, 89]
abbrev dktX1_cut_1 : List UInt8 := dkwX1_cut_1 ++ dktX1_cut_2
def dkwX1_cut_0 : List UInt8 := [27, 184, 0, 220, 184, 0, 172, 42, 180, 0, 36, 180, 0, 104, 27, 164, 0, 7, 4, 167, 0, 4, 3]
abbrev dktX1_cut_0 : List UInt8 := dkwX1_cut_0 ++ dktX1_cut_1
theorem dksX1_cut_0 : cX1_cut.data.toList.drop 0 = dktX1_cut_0 := by decide +kernel
theorem dksX1_cut_1 : cX1_cut.data.toList.drop 23 = dktX1_cut_1 := dk_seg dksX1_cut_0 23 rfl rfl
theorem dksX1_cut_2 : cX1_cut.data.toList.drop 45 = dktX1_cut_2 := dk_seg dksX1_cut_1 22 rfl rfl
theorem dX1_cut_0 : decode cX1_cut 0 = .ok (.iload_n 1, 1) := dk_27 (dk_at dksX1_cut_0 0 rfl rfl)
theorem dX1_cut_1 : decode cX1_cut 1 = .ok (.invokestatic 220, 3) := dk_184 0 220 (dk_at dksX1_cut_0 1 rfl rfl)
theorem dX1_cut_4 : decode cX1_cut 4 = .ok (.invokestatic 172, 3) := dk_184 0 172 (dk_at dksX1_cut_0 4 rfl rfl)
theorem dX1_cut_7 : decode cX1_cut 7 = .ok (.aload_n 0, 1) := dk_42 (dk_at dksX1_cut_0 7 rfl rfl)
theorem dX1_cut_8 : decode cX1_cut 8 = .ok (.getfield 36, 3) := dk_180 0 36 (dk_at dksX1_cut_0 8 rfl rfl)
theorem dX1_cut_11 : decode cX1_cut 11 = .ok (.getfield 104, 3) := dk_180 0 104 (dk_at dksX1_cut_0 11 rfl rfl)
theorem dX1_cut_14 : decode cX1_cut 14 = .ok (.iload_n 1, 1) := dk_27 (dk_at dksX1_cut_0 14 rfl rfl)
theorem dX1_cut_15 : decode cX1_cut 15 = .ok (.if_icmp .le 7, 3) := dk_164 0 7 (dk_at dksX1_cut_0 15 rfl rfl)
theorem dX1_cut_18 : decode cX1_cut 18 = .ok (.iconst 1, 1) := dk_4 (dk_at dksX1_cut_0 18 rfl rfl)
theorem dX1_cut_19 : decode cX1_cut 19 = .ok (.goto 4, 3) := dk_167 0 4 (dk_at dksX1_cut_0 19 rfl rfl)
theorem dX1_cut_22 : decode cX1_cut 22 = .ok (.iconst 0, 1) := dk_3 (dk_at dksX1_cut_0 22 rfl rfl)
theorem dX1_cut_23 : decode cX1_cut 23 = .ok (.invokestatic 346, 3) := dk_184 1 90 (dk_at dksX1_cut_1 0 rfl rfl)
theorem dX1_cut_26 : decode cX1_cut 26 = .ok (.aload_n 0, 1) := dk_42 (dk_at dksX1_cut_1 3 rfl rfl)
theorem dX1_cut_27 : decode cX1_cut 27 = .ok (.iconst 2, 1) := dk_5 (dk_at dksX1_cut_1 4 rfl rfl)
theorem dX1_cut_28 : decode cX1_cut 28 = .ok (.iload_n 1, 1) := dk_27 (dk_at dksX1_cut_1 5 rfl rfl)
theorem dX1_cut_29 : decode cX1_cut 29 = .ok (.invokevirtual 342, 3) := dk_182 1 86 (dk_at dksX1_cut_1 6 rfl rfl)
theorem dX1_cut_32 : decode cX1_cut 32 = .ok (.astore_n 2, 1) := dk_77 (dk_at dksX1_cut_1 9 rfl rfl)
theorem dX1_cut_33 : decode cX1_cut 33 = .ok (.aload_n 2, 1) := dk_44 (dk_at dksX1_cut_1 10 rfl rfl)
theorem dX1_cut_34 : decode cX1_cut 34 = .ok (.dup, 1) := dk_89 (dk_at dksX1_cut_1 11 rfl rfl)
theorem dX1_cut_35 : decode cX1_cut 35 = .ok (.getfield 104, 3) := dk_180 0 104 (dk_at dksX1_cut_1 12 rfl rfl)
theorem dX1_cut_38 : decode cX1_cut 38 = .ok (.iload_n 1, 1) := dk_27 (dk_at dksX1_cut_1 15 rfl rfl)
theorem dX1_cut_39 : decode cX1_cut 39 = .ok (.isub, 1) := dk_100 (dk_at dksX1_cut_1 16 rfl rfl)
theorem dX1_cut_40 : decode cX1_cut 40 = .ok (.putfield 104, 3) := dk_181 0 104 (dk_at dksX1_cut_1 17 rfl rfl)
theorem dX1_cut_43 : decode cX1_cut 43 = .ok (.aload_n 2, 1) := dk_44 (dk_at dksX1_cut_1 20 rfl rfl)
theorem dX1_cut_44 : decode cX1_cut 44 = .ok (.dup, 1) := dk_89 (dk_at dksX1_cut_1 21 rfl rfl)
theorem dX1_cut_45 : decode cX1_cut 45 = .ok (.getfield 146, 3) := dk_180 0 146 (dk_at dksX1_cut_2 0 rfl rfl)
theorem dX1_cut_48 : decode cX1_cut 48 = .ok (.lconst 1, 1) := dk_10 (dk_at dksX1_cut_2 3 rfl rfl)
theorem dX1_cut_49 : decode cX1_cut 49 = .ok (.aload_n 2, 1) := dk_44 (dk_at dksX1_cut_2 4 rfl rfl)
theorem dX1_cut_50 : decode cX1_cut 50 = .ok (.getfield 104, 3) := dk_180 0 104 (dk_at dksX1_cut_2 5 rfl rfl)
theorem dX1_cut_53 : decode cX1_cut 53 = .ok (.lshl, 1) := dk_121 (dk_at dksX1_cut_2 8 rfl rfl)
theorem dX1_cut_54 : decode cX1_cut 54 = .ok (.lconst 1, 1) := dk_10 (dk_at dksX1_cut_2 9 rfl rfl)
theorem dX1_cut_55 : decode cX1_cut 55 = .ok (.lsub, 1) := dk_101 (dk_at dksX1_cut_2 10 rfl rfl)
theorem dX1_cut_56 : decode cX1_cut 56 = .ok (.land, 1) := dk_127 (dk_at dksX1_cut_2 11 rfl rfl)
theorem dX1_cut_57 : decode cX1_cut 57 = .ok (.putfield 146, 3) := dk_181 0 146 (dk_at dksX1_cut_2 12 rfl rfl)
theorem dX1_cut_60 : decode cX1_cut 60 = .ok (.aload_n 2, 1) := dk_44 (dk_at dksX1_cut_2 15 rfl rfl)
theorem dX1_cut_61 : decode cX1_cut 61 = .ok (.getfield 104, 3) := dk_180 0 104 (dk_at dksX1_cut_2 16 rfl rfl)
theorem dX1_cut_64 : decode cX1_cut 64 = .ok (.ireturn, 1) := dk_172 (dk_at dksX1_cut_2 19 rfl rfl)
abbrev cX1_pin : ByteArray := prog_1_method_55_code
def yX1_pin : MethodName := ⟨RX1, "pin", "(IZ)I"⟩
def dkwX1_pin_3 : List UInt8 := [20, 1, 93, 131, 127, 181, 0, 146, 25, 5, 180, 0, 146, 184, 0, 150, 172]
abbrev dktX1_pin_3 : List UInt8 := dkwX1_pin_3 ++ []
def dkwX1_pin_2 : List UInt8 := [25, 5, 28, 153, 0, 13, 25, 5, 180, 0, 146, 33, 129, 167, 0, 14, 25, 5, 180, 0, 146, 33]
abbrev dktX1_pin_2 : List UInt8 := dkwX1_pin_2 ++ dktX1_pin_3
def dkwX1_pin_1 : List UInt8 := [184, 0, 150, 16, 16, 163, 0, 7, 4, 167, 0, 4, 3, 184, 1, 90, 42, 6, 4, 182, 1, 86, 58, 5]
abbrev dktX1_pin_1 : List UInt8 := dkwX1_pin_1 ++ dktX1_pin_2
def dkwX1_pin_0 : List UInt8 := [42, 27, 182, 0, 192, 10, 27, 121, 66, 28, 153, 0, 20, 42, 180, 0, 36, 180, 0, 146, 33, 129]
abbrev dktX1_pin_0 : List UInt8 := dkwX1_pin_0 ++ dktX1_pin_1
theorem dksX1_pin_0 : cX1_pin.data.toList.drop 0 = dktX1_pin_0 := by decide +kernel
theorem dksX1_pin_1 : cX1_pin.data.toList.drop 22 = dktX1_pin_1 := dk_seg dksX1_pin_0 22 rfl rfl
theorem dksX1_pin_2 : cX1_pin.data.toList.drop 46 = dktX1_pin_2 := dk_seg dksX1_pin_1 24 rfl rfl
theorem dksX1_pin_3 : cX1_pin.data.toList.drop 68 = dktX1_pin_3 := dk_seg dksX1_pin_2 22 rfl rfl
theorem dX1_pin_0 : decode cX1_pin 0 = .ok (.aload_n 0, 1) := dk_42 (dk_at dksX1_pin_0 0 rfl rfl)
theorem dX1_pin_1 : decode cX1_pin 1 = .ok (.iload_n 1, 1) := dk_27 (dk_at dksX1_pin_0 1 rfl rfl)
theorem dX1_pin_2 : decode cX1_pin 2 = .ok (.invokevirtual 192, 3) := dk_182 0 192 (dk_at dksX1_pin_0 2 rfl rfl)
theorem dX1_pin_5 : decode cX1_pin 5 = .ok (.lconst 1, 1) := dk_10 (dk_at dksX1_pin_0 5 rfl rfl)
theorem dX1_pin_6 : decode cX1_pin 6 = .ok (.iload_n 1, 1) := dk_27 (dk_at dksX1_pin_0 6 rfl rfl)
theorem dX1_pin_7 : decode cX1_pin 7 = .ok (.lshl, 1) := dk_121 (dk_at dksX1_pin_0 7 rfl rfl)
theorem dX1_pin_8 : decode cX1_pin 8 = .ok (.lstore_n 3, 1) := dk_66 (dk_at dksX1_pin_0 8 rfl rfl)
theorem dX1_pin_9 : decode cX1_pin 9 = .ok (.iload_n 2, 1) := dk_28 (dk_at dksX1_pin_0 9 rfl rfl)
theorem dX1_pin_10 : decode cX1_pin 10 = .ok (.ifCond .eq 20, 3) := dk_153 0 20 (dk_at dksX1_pin_0 10 rfl rfl)
theorem dX1_pin_13 : decode cX1_pin 13 = .ok (.aload_n 0, 1) := dk_42 (dk_at dksX1_pin_0 13 rfl rfl)
theorem dX1_pin_14 : decode cX1_pin 14 = .ok (.getfield 36, 3) := dk_180 0 36 (dk_at dksX1_pin_0 14 rfl rfl)
theorem dX1_pin_17 : decode cX1_pin 17 = .ok (.getfield 146, 3) := dk_180 0 146 (dk_at dksX1_pin_0 17 rfl rfl)
theorem dX1_pin_20 : decode cX1_pin 20 = .ok (.lload_n 3, 1) := dk_33 (dk_at dksX1_pin_0 20 rfl rfl)
theorem dX1_pin_21 : decode cX1_pin 21 = .ok (.lor, 1) := dk_129 (dk_at dksX1_pin_0 21 rfl rfl)
theorem dX1_pin_22 : decode cX1_pin 22 = .ok (.invokestatic 150, 3) := dk_184 0 150 (dk_at dksX1_pin_1 0 rfl rfl)
theorem dX1_pin_25 : decode cX1_pin 25 = .ok (.bipush 16, 2) := dk_16 16 (dk_at dksX1_pin_1 3 rfl rfl)
theorem dX1_pin_27 : decode cX1_pin 27 = .ok (.if_icmp .gt 7, 3) := dk_163 0 7 (dk_at dksX1_pin_1 5 rfl rfl)
theorem dX1_pin_30 : decode cX1_pin 30 = .ok (.iconst 1, 1) := dk_4 (dk_at dksX1_pin_1 8 rfl rfl)
theorem dX1_pin_31 : decode cX1_pin 31 = .ok (.goto 4, 3) := dk_167 0 4 (dk_at dksX1_pin_1 9 rfl rfl)
theorem dX1_pin_34 : decode cX1_pin 34 = .ok (.iconst 0, 1) := dk_3 (dk_at dksX1_pin_1 12 rfl rfl)
theorem dX1_pin_35 : decode cX1_pin 35 = .ok (.invokestatic 346, 3) := dk_184 1 90 (dk_at dksX1_pin_1 13 rfl rfl)
theorem dX1_pin_38 : decode cX1_pin 38 = .ok (.aload_n 0, 1) := dk_42 (dk_at dksX1_pin_1 16 rfl rfl)
theorem dX1_pin_39 : decode cX1_pin 39 = .ok (.iconst 3, 1) := dk_6 (dk_at dksX1_pin_1 17 rfl rfl)
theorem dX1_pin_40 : decode cX1_pin 40 = .ok (.iconst 1, 1) := dk_4 (dk_at dksX1_pin_1 18 rfl rfl)
theorem dX1_pin_41 : decode cX1_pin 41 = .ok (.invokevirtual 342, 3) := dk_182 1 86 (dk_at dksX1_pin_1 19 rfl rfl)
theorem dX1_pin_44 : decode cX1_pin 44 = .ok (.astore 5, 2) := dk_58 5 (dk_at dksX1_pin_1 22 rfl rfl)
theorem dX1_pin_46 : decode cX1_pin 46 = .ok (.aload 5, 2) := dk_25 5 (dk_at dksX1_pin_2 0 rfl rfl)
theorem dX1_pin_48 : decode cX1_pin 48 = .ok (.iload_n 2, 1) := dk_28 (dk_at dksX1_pin_2 2 rfl rfl)
theorem dX1_pin_49 : decode cX1_pin 49 = .ok (.ifCond .eq 13, 3) := dk_153 0 13 (dk_at dksX1_pin_2 3 rfl rfl)
theorem dX1_pin_52 : decode cX1_pin 52 = .ok (.aload 5, 2) := dk_25 5 (dk_at dksX1_pin_2 6 rfl rfl)
theorem dX1_pin_54 : decode cX1_pin 54 = .ok (.getfield 146, 3) := dk_180 0 146 (dk_at dksX1_pin_2 8 rfl rfl)
theorem dX1_pin_57 : decode cX1_pin 57 = .ok (.lload_n 3, 1) := dk_33 (dk_at dksX1_pin_2 11 rfl rfl)
theorem dX1_pin_58 : decode cX1_pin 58 = .ok (.lor, 1) := dk_129 (dk_at dksX1_pin_2 12 rfl rfl)
theorem dX1_pin_59 : decode cX1_pin 59 = .ok (.goto 14, 3) := dk_167 0 14 (dk_at dksX1_pin_2 13 rfl rfl)
theorem dX1_pin_62 : decode cX1_pin 62 = .ok (.aload 5, 2) := dk_25 5 (dk_at dksX1_pin_2 16 rfl rfl)
theorem dX1_pin_64 : decode cX1_pin 64 = .ok (.getfield 146, 3) := dk_180 0 146 (dk_at dksX1_pin_2 18 rfl rfl)
theorem dX1_pin_67 : decode cX1_pin 67 = .ok (.lload_n 3, 1) := dk_33 (dk_at dksX1_pin_2 21 rfl rfl)
theorem dX1_pin_68 : decode cX1_pin 68 = .ok (.ldc2_w 349, 3) := dk_20 1 93 (dk_at dksX1_pin_3 0 rfl rfl)
theorem dX1_pin_71 : decode cX1_pin 71 = .ok (.lxor, 1) := dk_131 (dk_at dksX1_pin_3 3 rfl rfl)
theorem dX1_pin_72 : decode cX1_pin 72 = .ok (.land, 1) := dk_127 (dk_at dksX1_pin_3 4 rfl rfl)
theorem dX1_pin_73 : decode cX1_pin 73 = .ok (.putfield 146, 3) := dk_181 0 146 (dk_at dksX1_pin_3 5 rfl rfl)
theorem dX1_pin_76 : decode cX1_pin 76 = .ok (.aload 5, 2) := dk_25 5 (dk_at dksX1_pin_3 8 rfl rfl)
theorem dX1_pin_78 : decode cX1_pin 78 = .ok (.getfield 146, 3) := dk_180 0 146 (dk_at dksX1_pin_3 10 rfl rfl)
theorem dX1_pin_81 : decode cX1_pin 81 = .ok (.invokestatic 150, 3) := dk_184 0 150 (dk_at dksX1_pin_3 13 rfl rfl)
theorem dX1_pin_84 : decode cX1_pin 84 = .ok (.ireturn, 1) := dk_172 (dk_at dksX1_pin_3 16 rfl rfl)
abbrev cX1_set : ByteArray := prog_1_method_56_code
def yX1_set : MethodName := ⟨RX1, "set", "(II)I"⟩
def dkwX1_set_2 : List UInt8 := [180, 0, 178, 27, 46, 54, 4, 45, 180, 0, 178, 27, 28, 79, 21, 4, 172]
abbrev dktX1_set_2 : List UInt8 := dkwX1_set_2 ++ []
def dkwX1_set_1 : List UInt8 := [184, 0, 75, 153, 0, 7, 4, 167, 0, 4, 3, 184, 0, 172, 42, 7, 4, 182, 1, 86, 78, 45]
abbrev dktX1_set_1 : List UInt8 := dkwX1_set_1 ++ dktX1_set_2
def dkwX1_set_0 : List UInt8 := [27, 133, 9, 20, 0, 176, 184, 0, 75, 153, 0, 25, 28, 133, 27, 184, 1, 77, 133, 27, 184, 1, 74, 133]
abbrev dktX1_set_0 : List UInt8 := dkwX1_set_0 ++ dktX1_set_1
theorem dksX1_set_0 : cX1_set.data.toList.drop 0 = dktX1_set_0 := by decide +kernel
theorem dksX1_set_1 : cX1_set.data.toList.drop 24 = dktX1_set_1 := dk_seg dksX1_set_0 24 rfl rfl
theorem dksX1_set_2 : cX1_set.data.toList.drop 46 = dktX1_set_2 := dk_seg dksX1_set_1 22 rfl rfl
theorem dX1_set_0 : decode cX1_set 0 = .ok (.iload_n 1, 1) := dk_27 (dk_at dksX1_set_0 0 rfl rfl)
theorem dX1_set_1 : decode cX1_set 1 = .ok (.i2l, 1) := dk_133 (dk_at dksX1_set_0 1 rfl rfl)
theorem dX1_set_2 : decode cX1_set 2 = .ok (.lconst 0, 1) := dk_9 (dk_at dksX1_set_0 2 rfl rfl)
theorem dX1_set_3 : decode cX1_set 3 = .ok (.ldc2_w 176, 3) := dk_20 0 176 (dk_at dksX1_set_0 3 rfl rfl)
theorem dX1_set_6 : decode cX1_set 6 = .ok (.invokestatic 75, 3) := dk_184 0 75 (dk_at dksX1_set_0 6 rfl rfl)
theorem dX1_set_9 : decode cX1_set 9 = .ok (.ifCond .eq 25, 3) := dk_153 0 25 (dk_at dksX1_set_0 9 rfl rfl)
theorem dX1_set_12 : decode cX1_set 12 = .ok (.iload_n 2, 1) := dk_28 (dk_at dksX1_set_0 12 rfl rfl)
theorem dX1_set_13 : decode cX1_set 13 = .ok (.i2l, 1) := dk_133 (dk_at dksX1_set_0 13 rfl rfl)
theorem dX1_set_14 : decode cX1_set 14 = .ok (.iload_n 1, 1) := dk_27 (dk_at dksX1_set_0 14 rfl rfl)
theorem dX1_set_15 : decode cX1_set 15 = .ok (.invokestatic 333, 3) := dk_184 1 77 (dk_at dksX1_set_0 15 rfl rfl)
theorem dX1_set_18 : decode cX1_set 18 = .ok (.i2l, 1) := dk_133 (dk_at dksX1_set_0 18 rfl rfl)
theorem dX1_set_19 : decode cX1_set 19 = .ok (.iload_n 1, 1) := dk_27 (dk_at dksX1_set_0 19 rfl rfl)
theorem dX1_set_20 : decode cX1_set 20 = .ok (.invokestatic 330, 3) := dk_184 1 74 (dk_at dksX1_set_0 20 rfl rfl)
theorem dX1_set_23 : decode cX1_set 23 = .ok (.i2l, 1) := dk_133 (dk_at dksX1_set_0 23 rfl rfl)
theorem dX1_set_24 : decode cX1_set 24 = .ok (.invokestatic 75, 3) := dk_184 0 75 (dk_at dksX1_set_1 0 rfl rfl)
theorem dX1_set_27 : decode cX1_set 27 = .ok (.ifCond .eq 7, 3) := dk_153 0 7 (dk_at dksX1_set_1 3 rfl rfl)
theorem dX1_set_30 : decode cX1_set 30 = .ok (.iconst 1, 1) := dk_4 (dk_at dksX1_set_1 6 rfl rfl)
theorem dX1_set_31 : decode cX1_set 31 = .ok (.goto 4, 3) := dk_167 0 4 (dk_at dksX1_set_1 7 rfl rfl)
theorem dX1_set_34 : decode cX1_set 34 = .ok (.iconst 0, 1) := dk_3 (dk_at dksX1_set_1 10 rfl rfl)
theorem dX1_set_35 : decode cX1_set 35 = .ok (.invokestatic 172, 3) := dk_184 0 172 (dk_at dksX1_set_1 11 rfl rfl)
theorem dX1_set_38 : decode cX1_set 38 = .ok (.aload_n 0, 1) := dk_42 (dk_at dksX1_set_1 14 rfl rfl)
theorem dX1_set_39 : decode cX1_set 39 = .ok (.iconst 4, 1) := dk_7 (dk_at dksX1_set_1 15 rfl rfl)
theorem dX1_set_40 : decode cX1_set 40 = .ok (.iconst 1, 1) := dk_4 (dk_at dksX1_set_1 16 rfl rfl)
theorem dX1_set_41 : decode cX1_set 41 = .ok (.invokevirtual 342, 3) := dk_182 1 86 (dk_at dksX1_set_1 17 rfl rfl)
theorem dX1_set_44 : decode cX1_set 44 = .ok (.astore_n 3, 1) := dk_78 (dk_at dksX1_set_1 20 rfl rfl)
theorem dX1_set_45 : decode cX1_set 45 = .ok (.aload_n 3, 1) := dk_45 (dk_at dksX1_set_1 21 rfl rfl)
theorem dX1_set_46 : decode cX1_set 46 = .ok (.getfield 178, 3) := dk_180 0 178 (dk_at dksX1_set_2 0 rfl rfl)
theorem dX1_set_49 : decode cX1_set 49 = .ok (.iload_n 1, 1) := dk_27 (dk_at dksX1_set_2 3 rfl rfl)
theorem dX1_set_50 : decode cX1_set 50 = .ok (.iaload, 1) := dk_46 (dk_at dksX1_set_2 4 rfl rfl)
theorem dX1_set_51 : decode cX1_set 51 = .ok (.istore 4, 2) := dk_54 4 (dk_at dksX1_set_2 5 rfl rfl)
theorem dX1_set_53 : decode cX1_set 53 = .ok (.aload_n 3, 1) := dk_45 (dk_at dksX1_set_2 7 rfl rfl)
theorem dX1_set_54 : decode cX1_set 54 = .ok (.getfield 178, 3) := dk_180 0 178 (dk_at dksX1_set_2 8 rfl rfl)
theorem dX1_set_57 : decode cX1_set 57 = .ok (.iload_n 1, 1) := dk_27 (dk_at dksX1_set_2 11 rfl rfl)
theorem dX1_set_58 : decode cX1_set 58 = .ok (.iload_n 2, 1) := dk_28 (dk_at dksX1_set_2 12 rfl rfl)
theorem dX1_set_59 : decode cX1_set 59 = .ok (.iastore, 1) := dk_79 (dk_at dksX1_set_2 13 rfl rfl)
theorem dX1_set_60 : decode cX1_set 60 = .ok (.iload 4, 2) := dk_21 4 (dk_at dksX1_set_2 14 rfl rfl)
theorem dX1_set_62 : decode cX1_set 62 = .ok (.ireturn, 1) := dk_172 (dk_at dksX1_set_2 16 rfl rfl)
abbrev cX1_setPrice : ByteArray := prog_1_method_57_code
def yX1_setPrice : MethodName := ⟨RX1, "setPrice", "(II)I"⟩
def dkwX1_setPrice_2 : List UInt8 := [180, 0, 183, 27, 28, 79, 21, 4, 172]
abbrev dktX1_setPrice_2 : List UInt8 := dkwX1_setPrice_2 ++ []
def dkwX1_setPrice_1 : List UInt8 := [4, 167, 0, 4, 3, 184, 0, 172, 42, 8, 4, 182, 1, 86, 78, 45, 180, 0, 183, 27, 46, 54, 4, 45]
abbrev dktX1_setPrice_1 : List UInt8 := dkwX1_setPrice_1 ++ dktX1_setPrice_2
def dkwX1_setPrice_0 : List UInt8 := [27, 133, 9, 20, 0, 181, 184, 0, 75, 153, 0, 19, 28, 133, 9, 20, 1, 95, 184, 0, 75, 153, 0, 7]
abbrev dktX1_setPrice_0 : List UInt8 := dkwX1_setPrice_0 ++ dktX1_setPrice_1
theorem dksX1_setPrice_0 : cX1_setPrice.data.toList.drop 0 = dktX1_setPrice_0 := by decide +kernel
theorem dksX1_setPrice_1 : cX1_setPrice.data.toList.drop 24 = dktX1_setPrice_1 := dk_seg dksX1_setPrice_0 24 rfl rfl
theorem dksX1_setPrice_2 : cX1_setPrice.data.toList.drop 48 = dktX1_setPrice_2 := dk_seg dksX1_setPrice_1 24 rfl rfl
theorem dX1_setPrice_0 : decode cX1_setPrice 0 = .ok (.iload_n 1, 1) := dk_27 (dk_at dksX1_setPrice_0 0 rfl rfl)
theorem dX1_setPrice_1 : decode cX1_setPrice 1 = .ok (.i2l, 1) := dk_133 (dk_at dksX1_setPrice_0 1 rfl rfl)
theorem dX1_setPrice_2 : decode cX1_setPrice 2 = .ok (.lconst 0, 1) := dk_9 (dk_at dksX1_setPrice_0 2 rfl rfl)
theorem dX1_setPrice_3 : decode cX1_setPrice 3 = .ok (.ldc2_w 181, 3) := dk_20 0 181 (dk_at dksX1_setPrice_0 3 rfl rfl)
theorem dX1_setPrice_6 : decode cX1_setPrice 6 = .ok (.invokestatic 75, 3) := dk_184 0 75 (dk_at dksX1_setPrice_0 6 rfl rfl)
theorem dX1_setPrice_9 : decode cX1_setPrice 9 = .ok (.ifCond .eq 19, 3) := dk_153 0 19 (dk_at dksX1_setPrice_0 9 rfl rfl)
theorem dX1_setPrice_12 : decode cX1_setPrice 12 = .ok (.iload_n 2, 1) := dk_28 (dk_at dksX1_setPrice_0 12 rfl rfl)
theorem dX1_setPrice_13 : decode cX1_setPrice 13 = .ok (.i2l, 1) := dk_133 (dk_at dksX1_setPrice_0 13 rfl rfl)
theorem dX1_setPrice_14 : decode cX1_setPrice 14 = .ok (.lconst 0, 1) := dk_9 (dk_at dksX1_setPrice_0 14 rfl rfl)
theorem dX1_setPrice_15 : decode cX1_setPrice 15 = .ok (.ldc2_w 351, 3) := dk_20 1 95 (dk_at dksX1_setPrice_0 15 rfl rfl)
theorem dX1_setPrice_18 : decode cX1_setPrice 18 = .ok (.invokestatic 75, 3) := dk_184 0 75 (dk_at dksX1_setPrice_0 18 rfl rfl)
theorem dX1_setPrice_21 : decode cX1_setPrice 21 = .ok (.ifCond .eq 7, 3) := dk_153 0 7 (dk_at dksX1_setPrice_0 21 rfl rfl)
theorem dX1_setPrice_24 : decode cX1_setPrice 24 = .ok (.iconst 1, 1) := dk_4 (dk_at dksX1_setPrice_1 0 rfl rfl)
theorem dX1_setPrice_25 : decode cX1_setPrice 25 = .ok (.goto 4, 3) := dk_167 0 4 (dk_at dksX1_setPrice_1 1 rfl rfl)
theorem dX1_setPrice_28 : decode cX1_setPrice 28 = .ok (.iconst 0, 1) := dk_3 (dk_at dksX1_setPrice_1 4 rfl rfl)
theorem dX1_setPrice_29 : decode cX1_setPrice 29 = .ok (.invokestatic 172, 3) := dk_184 0 172 (dk_at dksX1_setPrice_1 5 rfl rfl)
theorem dX1_setPrice_32 : decode cX1_setPrice 32 = .ok (.aload_n 0, 1) := dk_42 (dk_at dksX1_setPrice_1 8 rfl rfl)
theorem dX1_setPrice_33 : decode cX1_setPrice 33 = .ok (.iconst 5, 1) := dk_8 (dk_at dksX1_setPrice_1 9 rfl rfl)
theorem dX1_setPrice_34 : decode cX1_setPrice 34 = .ok (.iconst 1, 1) := dk_4 (dk_at dksX1_setPrice_1 10 rfl rfl)
theorem dX1_setPrice_35 : decode cX1_setPrice 35 = .ok (.invokevirtual 342, 3) := dk_182 1 86 (dk_at dksX1_setPrice_1 11 rfl rfl)
theorem dX1_setPrice_38 : decode cX1_setPrice 38 = .ok (.astore_n 3, 1) := dk_78 (dk_at dksX1_setPrice_1 14 rfl rfl)
theorem dX1_setPrice_39 : decode cX1_setPrice 39 = .ok (.aload_n 3, 1) := dk_45 (dk_at dksX1_setPrice_1 15 rfl rfl)
theorem dX1_setPrice_40 : decode cX1_setPrice 40 = .ok (.getfield 183, 3) := dk_180 0 183 (dk_at dksX1_setPrice_1 16 rfl rfl)
theorem dX1_setPrice_43 : decode cX1_setPrice 43 = .ok (.iload_n 1, 1) := dk_27 (dk_at dksX1_setPrice_1 19 rfl rfl)
theorem dX1_setPrice_44 : decode cX1_setPrice 44 = .ok (.iaload, 1) := dk_46 (dk_at dksX1_setPrice_1 20 rfl rfl)
theorem dX1_setPrice_45 : decode cX1_setPrice 45 = .ok (.istore 4, 2) := dk_54 4 (dk_at dksX1_setPrice_1 21 rfl rfl)
theorem dX1_setPrice_47 : decode cX1_setPrice 47 = .ok (.aload_n 3, 1) := dk_45 (dk_at dksX1_setPrice_1 23 rfl rfl)
theorem dX1_setPrice_48 : decode cX1_setPrice 48 = .ok (.getfield 183, 3) := dk_180 0 183 (dk_at dksX1_setPrice_2 0 rfl rfl)
theorem dX1_setPrice_51 : decode cX1_setPrice 51 = .ok (.iload_n 1, 1) := dk_27 (dk_at dksX1_setPrice_2 3 rfl rfl)
theorem dX1_setPrice_52 : decode cX1_setPrice 52 = .ok (.iload_n 2, 1) := dk_28 (dk_at dksX1_setPrice_2 4 rfl rfl)
theorem dX1_setPrice_53 : decode cX1_setPrice 53 = .ok (.iastore, 1) := dk_79 (dk_at dksX1_setPrice_2 5 rfl rfl)
theorem dX1_setPrice_54 : decode cX1_setPrice 54 = .ok (.iload 4, 2) := dk_21 4 (dk_at dksX1_setPrice_2 6 rfl rfl)
theorem dX1_setPrice_56 : decode cX1_setPrice 56 = .ok (.ireturn, 1) := dk_172 (dk_at dksX1_setPrice_2 8 rfl rfl)
abbrev cX1_undo : ByteArray := prog_1_method_58_code
def yX1_undo : MethodName := ⟨RX1, "undo", "()I"⟩
def dkwX1_undo_1 : List UInt8 := [182, 1, 104, 192, 0, 62, 181, 0, 36, 42, 180, 0, 52, 182, 0, 107, 172]
abbrev dktX1_undo_1 : List UInt8 := dkwX1_undo_1 ++ []
def dkwX1_undo_0 : List UInt8 := [42, 180, 0, 52, 182, 1, 97, 153, 0, 11, 187, 1, 101, 89, 183, 1, 103, 191, 42, 42, 180, 0, 52]
abbrev dktX1_undo_0 : List UInt8 := dkwX1_undo_0 ++ dktX1_undo_1
theorem dksX1_undo_0 : cX1_undo.data.toList.drop 0 = dktX1_undo_0 := by decide +kernel
theorem dksX1_undo_1 : cX1_undo.data.toList.drop 23 = dktX1_undo_1 := dk_seg dksX1_undo_0 23 rfl rfl
theorem dX1_undo_0 : decode cX1_undo 0 = .ok (.aload_n 0, 1) := dk_42 (dk_at dksX1_undo_0 0 rfl rfl)
theorem dX1_undo_1 : decode cX1_undo 1 = .ok (.getfield 52, 3) := dk_180 0 52 (dk_at dksX1_undo_0 1 rfl rfl)
theorem dX1_undo_4 : decode cX1_undo 4 = .ok (.invokevirtual 353, 3) := dk_182 1 97 (dk_at dksX1_undo_0 4 rfl rfl)
theorem dX1_undo_7 : decode cX1_undo 7 = .ok (.ifCond .eq 11, 3) := dk_153 0 11 (dk_at dksX1_undo_0 7 rfl rfl)
theorem dX1_undo_10 : decode cX1_undo 10 = .ok (.new 357, 3) := dk_187 1 101 (dk_at dksX1_undo_0 10 rfl rfl)
theorem dX1_undo_13 : decode cX1_undo 13 = .ok (.dup, 1) := dk_89 (dk_at dksX1_undo_0 13 rfl rfl)
theorem dX1_undo_14 : decode cX1_undo 14 = .ok (.invokespecial 359, 3) := dk_183 1 103 (dk_at dksX1_undo_0 14 rfl rfl)
theorem dX1_undo_17 : decode cX1_undo 17 = .ok (.athrow, 1) := dk_191 (dk_at dksX1_undo_0 17 rfl rfl)
theorem dX1_undo_18 : decode cX1_undo 18 = .ok (.aload_n 0, 1) := dk_42 (dk_at dksX1_undo_0 18 rfl rfl)
theorem dX1_undo_19 : decode cX1_undo 19 = .ok (.aload_n 0, 1) := dk_42 (dk_at dksX1_undo_0 19 rfl rfl)
theorem dX1_undo_20 : decode cX1_undo 20 = .ok (.getfield 52, 3) := dk_180 0 52 (dk_at dksX1_undo_0 20 rfl rfl)
theorem dX1_undo_23 : decode cX1_undo 23 = .ok (.invokevirtual 360, 3) := dk_182 1 104 (dk_at dksX1_undo_1 0 rfl rfl)
theorem dX1_undo_26 : decode cX1_undo 26 = .ok (.checkcast 62, 3) := dk_192 0 62 (dk_at dksX1_undo_1 3 rfl rfl)
theorem dX1_undo_29 : decode cX1_undo 29 = .ok (.putfield 36, 3) := dk_181 0 36 (dk_at dksX1_undo_1 6 rfl rfl)
theorem dX1_undo_32 : decode cX1_undo 32 = .ok (.aload_n 0, 1) := dk_42 (dk_at dksX1_undo_1 9 rfl rfl)
theorem dX1_undo_33 : decode cX1_undo 33 = .ok (.getfield 52, 3) := dk_180 0 52 (dk_at dksX1_undo_1 10 rfl rfl)
theorem dX1_undo_36 : decode cX1_undo 36 = .ok (.invokevirtual 107, 3) := dk_182 0 107 (dk_at dksX1_undo_1 13 rfl rfl)
theorem dX1_undo_39 : decode cX1_undo 39 = .ok (.ireturn, 1) := dk_172 (dk_at dksX1_undo_1 16 rfl rfl)
abbrev cX1_printParse : ByteArray := prog_1_method_60_code
def yX1_printParse : MethodName := ⟨RX1, "printParse", "(I)I"⟩
def dkwX1_printParse_2 : List UInt8 := [182, 1, 121, 172]
abbrev dktX1_printParse_2 : List UInt8 := dkwX1_printParse_2 ++ []
def dkwX1_printParse_1 : List UInt8 := [42, 180, 0, 36, 180, 0, 140, 45, 182, 1, 117, 25, 4, 180, 1, 16, 58, 4, 167, 255, 231, 42, 45]
abbrev dktX1_printParse_1 : List UInt8 := dkwX1_printParse_1 ++ dktX1_printParse_2
def dkwX1_printParse_0 : List UInt8 := [42, 27, 182, 0, 239, 77, 187, 1, 108, 89, 183, 1, 116, 78, 44, 58, 4, 25, 4, 198, 0, 26, 25, 4]
abbrev dktX1_printParse_0 : List UInt8 := dkwX1_printParse_0 ++ dktX1_printParse_1
theorem dksX1_printParse_0 : cX1_printParse.data.toList.drop 0 = dktX1_printParse_0 := by decide +kernel
theorem dksX1_printParse_1 : cX1_printParse.data.toList.drop 24 = dktX1_printParse_1 := dk_seg dksX1_printParse_0 24 rfl rfl
theorem dksX1_printParse_2 : cX1_printParse.data.toList.drop 47 = dktX1_printParse_2 := dk_seg dksX1_printParse_1 23 rfl rfl
theorem dX1_printParse_0 : decode cX1_printParse 0 = .ok (.aload_n 0, 1) := dk_42 (dk_at dksX1_printParse_0 0 rfl rfl)
theorem dX1_printParse_1 : decode cX1_printParse 1 = .ok (.iload_n 1, 1) := dk_27 (dk_at dksX1_printParse_0 1 rfl rfl)
theorem dX1_printParse_2 : decode cX1_printParse 2 = .ok (.invokevirtual 239, 3) := dk_182 0 239 (dk_at dksX1_printParse_0 2 rfl rfl)
theorem dX1_printParse_5 : decode cX1_printParse 5 = .ok (.astore_n 2, 1) := dk_77 (dk_at dksX1_printParse_0 5 rfl rfl)
theorem dX1_printParse_6 : decode cX1_printParse 6 = .ok (.new 364, 3) := dk_187 1 108 (dk_at dksX1_printParse_0 6 rfl rfl)
theorem dX1_printParse_9 : decode cX1_printParse 9 = .ok (.dup, 1) := dk_89 (dk_at dksX1_printParse_0 9 rfl rfl)
theorem dX1_printParse_10 : decode cX1_printParse 10 = .ok (.invokespecial 372, 3) := dk_183 1 116 (dk_at dksX1_printParse_0 10 rfl rfl)
theorem dX1_printParse_13 : decode cX1_printParse 13 = .ok (.astore_n 3, 1) := dk_78 (dk_at dksX1_printParse_0 13 rfl rfl)
theorem dX1_printParse_14 : decode cX1_printParse 14 = .ok (.aload_n 2, 1) := dk_44 (dk_at dksX1_printParse_0 14 rfl rfl)
theorem dX1_printParse_15 : decode cX1_printParse 15 = .ok (.astore 4, 2) := dk_58 4 (dk_at dksX1_printParse_0 15 rfl rfl)
theorem dX1_printParse_17 : decode cX1_printParse 17 = .ok (.aload 4, 2) := dk_25 4 (dk_at dksX1_printParse_0 17 rfl rfl)
theorem dX1_printParse_19 : decode cX1_printParse 19 = .ok (.ifnull 26, 3) := dk_198 0 26 (dk_at dksX1_printParse_0 19 rfl rfl)
theorem dX1_printParse_22 : decode cX1_printParse 22 = .ok (.aload 4, 2) := dk_25 4 (dk_at dksX1_printParse_0 22 rfl rfl)
theorem dX1_printParse_24 : decode cX1_printParse 24 = .ok (.aload_n 0, 1) := dk_42 (dk_at dksX1_printParse_1 0 rfl rfl)
theorem dX1_printParse_25 : decode cX1_printParse 25 = .ok (.getfield 36, 3) := dk_180 0 36 (dk_at dksX1_printParse_1 1 rfl rfl)
theorem dX1_printParse_28 : decode cX1_printParse 28 = .ok (.getfield 140, 3) := dk_180 0 140 (dk_at dksX1_printParse_1 4 rfl rfl)
theorem dX1_printParse_31 : decode cX1_printParse 31 = .ok (.aload_n 3, 1) := dk_45 (dk_at dksX1_printParse_1 7 rfl rfl)
theorem dX1_printParse_32 : decode cX1_printParse 32 = .ok (.invokevirtual 373, 3) := dk_182 1 117 (dk_at dksX1_printParse_1 8 rfl rfl)
theorem dX1_printParse_35 : decode cX1_printParse 35 = .ok (.aload 4, 2) := dk_25 4 (dk_at dksX1_printParse_1 11 rfl rfl)
theorem dX1_printParse_37 : decode cX1_printParse 37 = .ok (.getfield 272, 3) := dk_180 1 16 (dk_at dksX1_printParse_1 13 rfl rfl)
theorem dX1_printParse_40 : decode cX1_printParse 40 = .ok (.astore 4, 2) := dk_58 4 (dk_at dksX1_printParse_1 16 rfl rfl)
theorem dX1_printParse_42 : decode cX1_printParse 42 = .ok (.goto (-25), 3) := dk_167 255 231 (dk_at dksX1_printParse_1 18 rfl rfl)
theorem dX1_printParse_45 : decode cX1_printParse 45 = .ok (.aload_n 0, 1) := dk_42 (dk_at dksX1_printParse_1 21 rfl rfl)
theorem dX1_printParse_46 : decode cX1_printParse 46 = .ok (.aload_n 3, 1) := dk_45 (dk_at dksX1_printParse_1 22 rfl rfl)
theorem dX1_printParse_47 : decode cX1_printParse 47 = .ok (.invokevirtual 377, 3) := dk_182 1 121 (dk_at dksX1_printParse_2 0 rfl rfl)
theorem dX1_printParse_50 : decode cX1_printParse 50 = .ok (.ireturn, 1) := dk_172 (dk_at dksX1_printParse_2 3 rfl rfl)
abbrev cX1_restoreState : ByteArray := prog_1_method_64_code
def yX1_restoreState : MethodName := ⟨RX1, "restoreState", "()I"⟩
def dkwX1_restoreState_1 : List UInt8 := [181, 0, 36, 42, 180, 0, 52, 182, 0, 98, 42, 180, 0, 36, 180, 0, 104, 172]
abbrev dktX1_restoreState_1 : List UInt8 := dkwX1_restoreState_1 ++ []
def dkwX1_restoreState_0 : List UInt8 := [42, 180, 0, 101, 199, 0, 11, 187, 1, 101, 89, 183, 1, 103, 191, 42, 42, 180, 0, 101, 182, 0, 119]
abbrev dktX1_restoreState_0 : List UInt8 := dkwX1_restoreState_0 ++ dktX1_restoreState_1
theorem dksX1_restoreState_0 : cX1_restoreState.data.toList.drop 0 = dktX1_restoreState_0 := by decide +kernel
theorem dksX1_restoreState_1 : cX1_restoreState.data.toList.drop 23 = dktX1_restoreState_1 := dk_seg dksX1_restoreState_0 23 rfl rfl
theorem dX1_restoreState_0 : decode cX1_restoreState 0 = .ok (.aload_n 0, 1) := dk_42 (dk_at dksX1_restoreState_0 0 rfl rfl)
theorem dX1_restoreState_1 : decode cX1_restoreState 1 = .ok (.getfield 101, 3) := dk_180 0 101 (dk_at dksX1_restoreState_0 1 rfl rfl)
theorem dX1_restoreState_4 : decode cX1_restoreState 4 = .ok (.ifnonnull 11, 3) := dk_199 0 11 (dk_at dksX1_restoreState_0 4 rfl rfl)
theorem dX1_restoreState_7 : decode cX1_restoreState 7 = .ok (.new 357, 3) := dk_187 1 101 (dk_at dksX1_restoreState_0 7 rfl rfl)
theorem dX1_restoreState_10 : decode cX1_restoreState 10 = .ok (.dup, 1) := dk_89 (dk_at dksX1_restoreState_0 10 rfl rfl)
theorem dX1_restoreState_11 : decode cX1_restoreState 11 = .ok (.invokespecial 359, 3) := dk_183 1 103 (dk_at dksX1_restoreState_0 11 rfl rfl)
theorem dX1_restoreState_14 : decode cX1_restoreState 14 = .ok (.athrow, 1) := dk_191 (dk_at dksX1_restoreState_0 14 rfl rfl)
theorem dX1_restoreState_15 : decode cX1_restoreState 15 = .ok (.aload_n 0, 1) := dk_42 (dk_at dksX1_restoreState_0 15 rfl rfl)
theorem dX1_restoreState_16 : decode cX1_restoreState 16 = .ok (.aload_n 0, 1) := dk_42 (dk_at dksX1_restoreState_0 16 rfl rfl)
theorem dX1_restoreState_17 : decode cX1_restoreState 17 = .ok (.getfield 101, 3) := dk_180 0 101 (dk_at dksX1_restoreState_0 17 rfl rfl)
theorem dX1_restoreState_20 : decode cX1_restoreState 20 = .ok (.invokevirtual 119, 3) := dk_182 0 119 (dk_at dksX1_restoreState_0 20 rfl rfl)
theorem dX1_restoreState_23 : decode cX1_restoreState 23 = .ok (.putfield 36, 3) := dk_181 0 36 (dk_at dksX1_restoreState_1 0 rfl rfl)
theorem dX1_restoreState_26 : decode cX1_restoreState 26 = .ok (.aload_n 0, 1) := dk_42 (dk_at dksX1_restoreState_1 3 rfl rfl)
theorem dX1_restoreState_27 : decode cX1_restoreState 27 = .ok (.getfield 52, 3) := dk_180 0 52 (dk_at dksX1_restoreState_1 4 rfl rfl)
theorem dX1_restoreState_30 : decode cX1_restoreState 30 = .ok (.invokevirtual 98, 3) := dk_182 0 98 (dk_at dksX1_restoreState_1 7 rfl rfl)
theorem dX1_restoreState_33 : decode cX1_restoreState 33 = .ok (.aload_n 0, 1) := dk_42 (dk_at dksX1_restoreState_1 10 rfl rfl)
theorem dX1_restoreState_34 : decode cX1_restoreState 34 = .ok (.getfield 36, 3) := dk_180 0 36 (dk_at dksX1_restoreState_1 11 rfl rfl)
theorem dX1_restoreState_37 : decode cX1_restoreState 37 = .ok (.getfield 104, 3) := dk_180 0 104 (dk_at dksX1_restoreState_1 14 rfl rfl)
theorem dX1_restoreState_40 : decode cX1_restoreState 40 = .ok (.ireturn, 1) := dk_172 (dk_at dksX1_restoreState_1 17 rfl rfl)
theorem q138 : (Jvm.Cond.initialized "CopyPrices") ∈ lw_all := lw_g (lw_at lw_m1 1 rfl) rfl
theorem q174 : (Jvm.Cond.instantiable "CopyPrices" (9 : Nat)) ∈ lw_all := lw_g (lw_at lw_m1 37 rfl) rfl
theorem q176 : (Jvm.Cond.instanceMethod ({ cls := "CopyPrices", name := "<init>", desc := "()V" } : Jvm.MethodName)) ∈ lw_all := lw_g (lw_at lw_m1 39 rfl) rfl
theorem q177 : (Jvm.Cond.code ({ cls := "CopyPrices", name := "<init>", desc := "()V" } : Jvm.MethodName) prog_1_method_9_code (1 : Nat) (Option.none : Option Jvm.ClassFile.FieldType)) ∈ lw_all := lw_g (lw_at lw_m1 40 rfl) rfl
theorem q178 : (Jvm.Cond.methodLink "CopyPrices" (21 : Nat) ({ cls := "java/lang/Object", name := "<init>", desc := "()V" } : Jvm.MethodName)) ∈ lw_all := lw_g (lw_at lw_m1 41 rfl) rfl
theorem q181 : (Jvm.Cond.methodLink "CopyPrices" (32 : Nat) ({ cls := "CopyPrices", name := "plain", desc := "()LCopyPrices$World;" } : Jvm.MethodName)) ∈ lw_all := lw_g (lw_at lw_m1 44 rfl) rfl
theorem q182 : (Jvm.Cond.static ({ cls := "CopyPrices", name := "plain", desc := "()LCopyPrices$World;" } : Jvm.MethodName)) ∈ lw_all := lw_g (lw_at lw_m1 45 rfl) rfl
theorem q183 : (Jvm.Cond.code ({ cls := "CopyPrices", name := "plain", desc := "()LCopyPrices$World;" } : Jvm.MethodName) prog_1_method_10_code (2 : Nat) (Option.some (Jvm.ClassFile.FieldType.object "CopyPrices$World"))) ∈ lw_all := lw_g (lw_at lw_m1 46 rfl) rfl
theorem q184 : (Jvm.Cond.classLink "CopyPrices" (62 : Nat) "CopyPrices$World") ∈ lw_all := lw_g (lw_at lw_m1 47 rfl) rfl
theorem q186 : (Jvm.Cond.methodLink "CopyPrices" (64 : Nat) ({ cls := "CopyPrices$World", name := "<init>", desc := "()V" } : Jvm.MethodName)) ∈ lw_all := lw_g (lw_at lw_m1 49 rfl) rfl
theorem q197 : (Jvm.Cond.fieldLinkNest "CopyPrices" (140 : Nat) "CopyPrices$World" "letters" "[B" "CopyPrices") ∈ lw_tbl := lw_at lw_m1 60 rfl
theorem q201 : (Jvm.Cond.fieldLinkNest "CopyPrices" (178 : Nat) "CopyPrices$World" "settings" "[I" "CopyPrices") ∈ lw_tbl := lw_at lw_m1 64 rfl
theorem q204 : (Jvm.Cond.fieldLinkNest "CopyPrices" (183 : Nat) "CopyPrices$World" "prices" "[I" "CopyPrices") ∈ lw_tbl := lw_at lw_m1 67 rfl
theorem q206 : (Jvm.Cond.fieldLinkNest "CopyPrices" (122 : Nat) "CopyPrices$World" "accounts" "[I" "CopyPrices") ∈ lw_tbl := lw_at lw_m1 69 rfl
theorem q210 : (Jvm.Cond.fieldLinkNest "CopyPrices" (104 : Nat) "CopyPrices$World" "many" "I" "CopyPrices") ∈ lw_tbl := lw_at lw_m1 73 rfl
theorem q213 : (Jvm.Cond.fieldLinkNest "CopyPrices" (146 : Nat) "CopyPrices$World" "pins" "J" "CopyPrices") ∈ lw_tbl := lw_at lw_m1 76 rfl
theorem q573 : (Jvm.Cond.methodLink "CopyPrices" (65 : Nat) ({ cls := "CopyPrices$World", name := "adds", desc := "(I)V" } : Jvm.MethodName)) ∈ lw_all := lw_g (lw_at lw_m2 196 rfl) rfl
theorem q577 : (Jvm.Cond.classLink "CopyPrices" (40 : Nat) "CopyPrices$Table") ∈ lw_all := lw_g (lw_at lw_m2 200 rfl) rfl
theorem q579 : (Jvm.Cond.methodLinkNest "CopyPrices" (42 : Nat) ({ cls := "CopyPrices$Table", name := "<init>", desc := "()V" } : Jvm.MethodName) "CopyPrices") ∈ lw_tbl := lw_at lw_m2 202 rfl
theorem q602 : (Jvm.Cond.classLink "CopyPrices" (47 : Nat) "java/util/ArrayDeque") ∈ lw_all := lw_g (lw_at lw_m2 225 rfl) rfl
theorem q604 : (Jvm.Cond.methodLink "CopyPrices" (49 : Nat) ({ cls := "java/util/ArrayDeque", name := "<init>", desc := "(I)V" } : Jvm.MethodName)) ∈ lw_all := lw_g (lw_at lw_m2 227 rfl) rfl
theorem q624 : (Jvm.Cond.stringRef "CopyPrices" (56 : Nat) "") ∈ lw_tbl := lw_at lw_m3 7 rfl
theorem q626 : (Jvm.Cond.fieldLink "CopyPrices" (24 : Nat) "CopyPrices" "buffer" "[B") ∈ lw_all := lw_g (lw_at lw_m3 9 rfl) rfl
theorem q628 : (Jvm.Cond.fieldLink "CopyPrices" (68 : Nat) "CopyPrices" "buffered" "I") ∈ lw_all := lw_g (lw_at lw_m3 11 rfl) rfl
theorem q629 : (Jvm.Cond.fieldLink "CopyPrices" (79 : Nat) "CopyPrices" "errorCode" "I") ∈ lw_all := lw_g (lw_at lw_m3 12 rfl) rfl
theorem q630 : (Jvm.Cond.fieldLink "CopyPrices" (28 : Nat) "CopyPrices" "errorOffset" "I") ∈ lw_all := lw_g (lw_at lw_m3 13 rfl) rfl
theorem q631 : (Jvm.Cond.fieldLink "CopyPrices" (36 : Nat) "CopyPrices" "now" "LCopyPrices$World;") ∈ lw_all := lw_g (lw_at lw_m3 14 rfl) rfl
theorem q632 : (Jvm.Cond.fieldLink "CopyPrices" (43 : Nat) "CopyPrices" "table" "LCopyPrices$Table;") ∈ lw_all := lw_g (lw_at lw_m3 15 rfl) rfl
theorem q633 : (Jvm.Cond.fieldLink "CopyPrices" (101 : Nat) "CopyPrices" "saved" "LCopyPrices$World;") ∈ lw_all := lw_g (lw_at lw_m3 16 rfl) rfl
theorem q634 : (Jvm.Cond.fieldLink "CopyPrices" (52 : Nat) "CopyPrices" "past" "Ljava/util/ArrayDeque;") ∈ lw_all := lw_g (lw_at lw_m3 17 rfl) rfl
theorem q635 : (Jvm.Cond.fieldLink "CopyPrices" (58 : Nat) "CopyPrices" "output" "Ljava/lang/String;") ∈ lw_all := lw_g (lw_at lw_m3 18 rfl) rfl
theorem q636 : (Jvm.Cond.laysFinal "CopyPrices" "CopyPrices" "buffer" "[B") ∈ lw_all := lw_g (lw_at lw_m3 19 rfl) rfl
theorem q637 : (Jvm.Cond.soleField "CopyPrices" "buffer") ∈ lw_all := lw_g (lw_at lw_m3 20 rfl) rfl
theorem q638 : (Jvm.Cond.lays "CopyPrices" "CopyPrices" "buffered" "I") ∈ lw_all := lw_g (lw_at lw_m3 21 rfl) rfl
theorem q639 : (Jvm.Cond.soleField "CopyPrices" "buffered") ∈ lw_all := lw_g (lw_at lw_m3 22 rfl) rfl
theorem q640 : (Jvm.Cond.lays "CopyPrices" "CopyPrices" "errorCode" "I") ∈ lw_all := lw_g (lw_at lw_m3 23 rfl) rfl
theorem q641 : (Jvm.Cond.soleField "CopyPrices" "errorCode") ∈ lw_all := lw_g (lw_at lw_m3 24 rfl) rfl
theorem q642 : (Jvm.Cond.lays "CopyPrices" "CopyPrices" "errorOffset" "I") ∈ lw_all := lw_g (lw_at lw_m3 25 rfl) rfl
theorem q643 : (Jvm.Cond.soleField "CopyPrices" "errorOffset") ∈ lw_all := lw_g (lw_at lw_m3 26 rfl) rfl
theorem q644 : (Jvm.Cond.lays "CopyPrices" "CopyPrices" "now" "LCopyPrices$World;") ∈ lw_all := lw_g (lw_at lw_m3 27 rfl) rfl
theorem q645 : (Jvm.Cond.soleField "CopyPrices" "now") ∈ lw_all := lw_g (lw_at lw_m3 28 rfl) rfl
theorem q646 : (Jvm.Cond.laysFinal "CopyPrices" "CopyPrices" "table" "LCopyPrices$Table;") ∈ lw_all := lw_g (lw_at lw_m3 29 rfl) rfl
theorem q647 : (Jvm.Cond.soleField "CopyPrices" "table") ∈ lw_all := lw_g (lw_at lw_m3 30 rfl) rfl
theorem q648 : (Jvm.Cond.lays "CopyPrices" "CopyPrices" "saved" "LCopyPrices$World;") ∈ lw_all := lw_g (lw_at lw_m3 31 rfl) rfl
theorem q649 : (Jvm.Cond.soleField "CopyPrices" "saved") ∈ lw_all := lw_g (lw_at lw_m3 32 rfl) rfl
theorem q650 : (Jvm.Cond.laysFinal "CopyPrices" "CopyPrices" "past" "Ljava/util/ArrayDeque;") ∈ lw_all := lw_g (lw_at lw_m3 33 rfl) rfl
theorem q651 : (Jvm.Cond.soleField "CopyPrices" "past") ∈ lw_all := lw_g (lw_at lw_m3 34 rfl) rfl
theorem q652 : (Jvm.Cond.lays "CopyPrices" "CopyPrices" "output" "Ljava/lang/String;") ∈ lw_all := lw_g (lw_at lw_m3 35 rfl) rfl
theorem q653 : (Jvm.Cond.soleField "CopyPrices" "output") ∈ lw_all := lw_g (lw_at lw_m3 36 rfl) rfl
theorem q654 : (Jvm.Cond.superclass "CopyPrices" "java/lang/Object") ∈ lw_all := lw_g (lw_at lw_m3 37 rfl) rfl
theorem q656 : (Jvm.Cond.instanceMethod ({ cls := "CopyPrices", name := "appendInput", desc := "(IIIII)I" } : Jvm.MethodName)) ∈ lw_all := lw_g (lw_at lw_m3 39 rfl) rfl
theorem q657 : (Jvm.Cond.selects "CopyPrices" ({ cls := "CopyPrices", name := "appendInput", desc := "(IIIII)I" } : Jvm.MethodName) ({ cls := "CopyPrices", name := "appendInput", desc := "(IIIII)I" } : Jvm.MethodName)) ∈ lw_all := lw_g (lw_at lw_m3 40 rfl) rfl
theorem q658 : (Jvm.Cond.code ({ cls := "CopyPrices", name := "appendInput", desc := "(IIIII)I" } : Jvm.MethodName) prog_1_method_12_code (6 : Nat) (Option.some Jvm.ClassFile.FieldType.int)) ∈ lw_all := lw_g (lw_at lw_m3 41 rfl) rfl
theorem q659 : (Jvm.Cond.methodLink "CopyPrices" (71 : Nat) ({ cls := "CopyPrices", name := "puts", desc := "([I)V" } : Jvm.MethodName)) ∈ lw_all := lw_g (lw_at lw_m3 42 rfl) rfl
theorem q660 : (Jvm.Cond.privateMethod ({ cls := "CopyPrices", name := "puts", desc := "([I)V" } : Jvm.MethodName)) ∈ lw_tbl := lw_at lw_m3 43 rfl
theorem q661 : (Jvm.Cond.instanceMethod ({ cls := "CopyPrices", name := "puts", desc := "([I)V" } : Jvm.MethodName)) ∈ lw_all := lw_g (lw_at lw_m3 44 rfl) rfl
theorem q662 : (Jvm.Cond.code ({ cls := "CopyPrices", name := "puts", desc := "([I)V" } : Jvm.MethodName) prog_1_method_11_code (7 : Nat) (Option.none : Option Jvm.ClassFile.FieldType)) ∈ lw_all := lw_g (lw_at lw_m3 45 rfl) rfl
theorem q664 : (Jvm.Cond.instanceMethod ({ cls := "CopyPrices", name := "truncateInput", desc := "(I)Z" } : Jvm.MethodName)) ∈ lw_all := lw_g (lw_at lw_m3 47 rfl) rfl
theorem q665 : (Jvm.Cond.selects "CopyPrices" ({ cls := "CopyPrices", name := "truncateInput", desc := "(I)Z" } : Jvm.MethodName) ({ cls := "CopyPrices", name := "truncateInput", desc := "(I)Z" } : Jvm.MethodName)) ∈ lw_all := lw_g (lw_at lw_m3 48 rfl) rfl
theorem q666 : (Jvm.Cond.code ({ cls := "CopyPrices", name := "truncateInput", desc := "(I)Z" } : Jvm.MethodName) prog_1_method_13_code (2 : Nat) (Option.some Jvm.ClassFile.FieldType.boolean)) ∈ lw_all := lw_g (lw_at lw_m3 49 rfl) rfl
theorem q667 : (Jvm.Cond.methodLink "CopyPrices" (75 : Nat) ({ cls := "CopyPrices", name := "in", desc := "(JJJ)Z" } : Jvm.MethodName)) ∈ lw_all := lw_g (lw_at lw_m3 50 rfl) rfl
theorem q668 : (Jvm.Cond.static ({ cls := "CopyPrices", name := "in", desc := "(JJJ)Z" } : Jvm.MethodName)) ∈ lw_all := lw_g (lw_at lw_m3 51 rfl) rfl
theorem q669 : (Jvm.Cond.code ({ cls := "CopyPrices", name := "in", desc := "(JJJ)Z" } : Jvm.MethodName) prog_1_method_1_code (6 : Nat) (Option.some Jvm.ClassFile.FieldType.boolean)) ∈ lw_all := lw_g (lw_at lw_m3 52 rfl) rfl
theorem q671 : (Jvm.Cond.instanceMethod ({ cls := "CopyPrices", name := "loadText", desc := "()I" } : Jvm.MethodName)) ∈ lw_all := lw_g (lw_at lw_m3 54 rfl) rfl
theorem q672 : (Jvm.Cond.selects "CopyPrices" ({ cls := "CopyPrices", name := "loadText", desc := "()I" } : Jvm.MethodName) ({ cls := "CopyPrices", name := "loadText", desc := "()I" } : Jvm.MethodName)) ∈ lw_all := lw_g (lw_at lw_m3 55 rfl) rfl
theorem q673 : (Jvm.Cond.codeWith ({ cls := "CopyPrices", name := "loadText", desc := "()I" } : Jvm.MethodName) prog_1_method_14_code (2 : Nat) (Option.some Jvm.ClassFile.FieldType.int) [((10 : Nat), (25 : Nat), (28 : Nat), (90 : Nat))]) ∈ lw_all := lw_g (lw_at lw_m3 56 rfl) rfl
theorem q674 : (Jvm.Cond.classLink "CopyPrices" (90 : Nat) "CopyPrices$TextError") ∈ lw_all := lw_g (lw_at lw_m3 57 rfl) rfl
theorem q675 : (Jvm.Cond.classLink "CopyPrices" (82 : Nat) "CopyPrices$Reader") ∈ lw_all := lw_g (lw_at lw_m3 58 rfl) rfl
theorem q677 : (Jvm.Cond.methodLink "CopyPrices" (84 : Nat) ({ cls := "CopyPrices$Reader", name := "<init>", desc := "(LCopyPrices;)V" } : Jvm.MethodName)) ∈ lw_all := lw_g (lw_at lw_m3 60 rfl) rfl
theorem q764 : (Jvm.Cond.methodLink "CopyPrices" (87 : Nat) ({ cls := "CopyPrices$Reader", name := "setup", desc := "()LCopyPrices$World;" } : Jvm.MethodName)) ∈ lw_all := lw_g (lw_at lw_m3 147 rfl) rfl
theorem q804 : (Jvm.Cond.fieldLinkNest "CopyPrices" (92 : Nat) "CopyPrices$TextError" "code" "I" "CopyPrices") ∈ lw_tbl := lw_at lw_m3 187 rfl
theorem q806 : (Jvm.Cond.fieldLinkNest "CopyPrices" (95 : Nat) "CopyPrices$TextError" "offset" "I" "CopyPrices") ∈ lw_tbl := lw_at lw_m3 189 rfl
theorem q928 : (Jvm.Cond.static ({ cls := "CopyPrices", name := "leastOf", desc := "(I)I" } : Jvm.MethodName)) ∈ lw_all := lw_g (lw_at lw_m4 71 rfl) rfl
theorem q929 : (Jvm.Cond.code ({ cls := "CopyPrices", name := "leastOf", desc := "(I)I" } : Jvm.MethodName) prog_1_method_7_code (1 : Nat) (Option.some Jvm.ClassFile.FieldType.int)) ∈ lw_all := lw_g (lw_at lw_m4 72 rfl) rfl
theorem q931 : (Jvm.Cond.static ({ cls := "CopyPrices", name := "mostOf", desc := "(I)I" } : Jvm.MethodName)) ∈ lw_all := lw_g (lw_at lw_m4 74 rfl) rfl
theorem q932 : (Jvm.Cond.code ({ cls := "CopyPrices", name := "mostOf", desc := "(I)I" } : Jvm.MethodName) prog_1_method_8_code (1 : Nat) (Option.some Jvm.ClassFile.FieldType.int)) ∈ lw_all := lw_g (lw_at lw_m4 75 rfl) rfl
theorem q933 : (Jvm.Cond.methodLink "CopyPrices" (98 : Nat) ({ cls := "java/util/ArrayDeque", name := "clear", desc := "()V" } : Jvm.MethodName)) ∈ lw_all := lw_g (lw_at lw_m4 76 rfl) rfl
theorem q941 : (Jvm.Cond.instanceMethod ({ cls := "CopyPrices", name := "errorCode", desc := "()I" } : Jvm.MethodName)) ∈ lw_all := lw_g (lw_at lw_m4 84 rfl) rfl
theorem q942 : (Jvm.Cond.selects "CopyPrices" ({ cls := "CopyPrices", name := "errorCode", desc := "()I" } : Jvm.MethodName) ({ cls := "CopyPrices", name := "errorCode", desc := "()I" } : Jvm.MethodName)) ∈ lw_all := lw_g (lw_at lw_m4 85 rfl) rfl
theorem q943 : (Jvm.Cond.code ({ cls := "CopyPrices", name := "errorCode", desc := "()I" } : Jvm.MethodName) prog_1_method_16_code (1 : Nat) (Option.some Jvm.ClassFile.FieldType.int)) ∈ lw_all := lw_g (lw_at lw_m4 86 rfl) rfl
theorem q945 : (Jvm.Cond.instanceMethod ({ cls := "CopyPrices", name := "errorOffset", desc := "()I" } : Jvm.MethodName)) ∈ lw_all := lw_g (lw_at lw_m4 88 rfl) rfl
theorem q946 : (Jvm.Cond.selects "CopyPrices" ({ cls := "CopyPrices", name := "errorOffset", desc := "()I" } : Jvm.MethodName) ({ cls := "CopyPrices", name := "errorOffset", desc := "()I" } : Jvm.MethodName)) ∈ lw_all := lw_g (lw_at lw_m4 89 rfl) rfl
theorem q947 : (Jvm.Cond.code ({ cls := "CopyPrices", name := "errorOffset", desc := "()I" } : Jvm.MethodName) prog_1_method_17_code (1 : Nat) (Option.some Jvm.ClassFile.FieldType.int)) ∈ lw_all := lw_g (lw_at lw_m4 90 rfl) rfl
theorem q949 : (Jvm.Cond.instanceMethod ({ cls := "CopyPrices", name := "agree", desc := "()Z" } : Jvm.MethodName)) ∈ lw_all := lw_g (lw_at lw_m4 92 rfl) rfl
theorem q950 : (Jvm.Cond.selects "CopyPrices" ({ cls := "CopyPrices", name := "agree", desc := "()Z" } : Jvm.MethodName) ({ cls := "CopyPrices", name := "agree", desc := "()Z" } : Jvm.MethodName)) ∈ lw_all := lw_g (lw_at lw_m4 93 rfl) rfl
theorem q951 : (Jvm.Cond.code ({ cls := "CopyPrices", name := "agree", desc := "()Z" } : Jvm.MethodName) prog_1_method_44_code (4 : Nat) (Option.some Jvm.ClassFile.FieldType.boolean)) ∈ lw_all := lw_g (lw_at lw_m4 94 rfl) rfl
theorem q952 : (Jvm.Cond.methodLink "CopyPrices" (312 : Nat) ({ cls := "CopyPrices$World", name := "bestPrice", desc := "(LCopyPrices$Table;)I" } : Jvm.MethodName)) ∈ lw_all := lw_g (lw_at lw_m4 95 rfl) rfl
theorem q964 : (Jvm.Cond.static ({ cls := "CopyPrices", name := "one", desc := "(Z)I" } : Jvm.MethodName)) ∈ lw_all := lw_g (lw_at lw_m4 107 rfl) rfl
theorem q965 : (Jvm.Cond.code ({ cls := "CopyPrices", name := "one", desc := "(Z)I" } : Jvm.MethodName) prog_1_method_2_code (1 : Nat) (Option.some Jvm.ClassFile.FieldType.int)) ∈ lw_all := lw_g (lw_at lw_m4 108 rfl) rfl
theorem q1040 : (Jvm.Cond.static ({ cls := "CopyPrices", name := "bits", desc := "(I)I" } : Jvm.MethodName)) ∈ lw_all := lw_g (lw_at lw_m4 183 rfl) rfl
theorem q1041 : (Jvm.Cond.code ({ cls := "CopyPrices", name := "bits", desc := "(I)I" } : Jvm.MethodName) prog_1_method_3_code (1 : Nat) (Option.some Jvm.ClassFile.FieldType.int)) ∈ lw_all := lw_g (lw_at lw_m4 184 rfl) rfl
theorem q1042 : (Jvm.Cond.methodLink "CopyPrices" (1 : Nat) ({ cls := "java/lang/Integer", name := "numberOfLeadingZeros", desc := "(I)I" } : Jvm.MethodName)) ∈ lw_all := lw_g (lw_at lw_m4 185 rfl) rfl
theorem q1060 : (Jvm.Cond.methodLink "CopyPrices" (300 : Nat) ({ cls := "CopyPrices$Table", name := "through", desc := "(I)I" } : Jvm.MethodName)) ∈ lw_all := lw_g (lw_at lw_m4 203 rfl) rfl
theorem q1075 : (Jvm.Cond.methodLink "CopyPrices" (235 : Nat) ({ cls := "CopyPrices$World", name := "parse", desc := "(ILCopyPrices$Table;)LCopyPrices$Step;" } : Jvm.MethodName)) ∈ lw_all := lw_g (lw_at lw_m4 218 rfl) rfl
theorem q1103 : (Jvm.Cond.fieldLink "CopyPrices" (254 : Nat) "CopyPrices$Step" "place" "I") ∈ lw_all := lw_g (lw_at lw_m5 6 rfl) rfl
theorem q1105 : (Jvm.Cond.fieldLink "CopyPrices" (266 : Nat) "CopyPrices$Step" "last" "I") ∈ lw_all := lw_g (lw_at lw_m5 8 rfl) rfl
theorem q1108 : (Jvm.Cond.fieldLink "CopyPrices" (263 : Nat) "CopyPrices$Step" "price" "I") ∈ lw_all := lw_g (lw_at lw_m5 11 rfl) rfl
theorem q1111 : (Jvm.Cond.fieldLink "CopyPrices" (272 : Nat) "CopyPrices$Step" "next" "LCopyPrices$Step;") ∈ lw_all := lw_g (lw_at lw_m5 14 rfl) rfl
theorem q1207 : (Jvm.Cond.static ({ cls := "CopyPrices", name := "lambda$agree$10", desc := "(LCopyPrices$Step;)I" } : Jvm.MethodName)) ∈ lw_all := lw_g (lw_at lw_m5 110 rfl) rfl
theorem q1208 : (Jvm.Cond.code ({ cls := "CopyPrices", name := "lambda$agree$10", desc := "(LCopyPrices$Step;)I" } : Jvm.MethodName) prog_1_method_67_code (1 : Nat) (Option.some Jvm.ClassFile.FieldType.int)) ∈ lw_all := lw_g (lw_at lw_m5 111 rfl) rfl
theorem q1209 : (Jvm.Cond.methodLink "CopyPrices" (246 : Nat) ({ cls := "CopyPrices$Step", name := "sum", desc := "(LCopyPrices$Asked;)I" } : Jvm.MethodName)) ∈ lw_all := lw_g (lw_at lw_m5 112 rfl) rfl
theorem q1220 : (Jvm.Cond.methodLink "CopyPrices" (317 : Nat) ({ cls := "CopyPrices$World", name := "priceOf", desc := "(ILCopyPrices$Table;)I" } : Jvm.MethodName)) ∈ lw_all := lw_g (lw_at lw_m5 123 rfl) rfl
theorem q1229 : (Jvm.Cond.methodLink "CopyPrices" (321 : Nat) ({ cls := "CopyPrices", name := "gives", desc := "(LCopyPrices$Step;)Z" } : Jvm.MethodName)) ∈ lw_all := lw_g (lw_at lw_m5 132 rfl) rfl
theorem q1230 : (Jvm.Cond.privateMethod ({ cls := "CopyPrices", name := "gives", desc := "(LCopyPrices$Step;)Z" } : Jvm.MethodName)) ∈ lw_tbl := lw_at lw_m5 133 rfl
theorem q1231 : (Jvm.Cond.instanceMethod ({ cls := "CopyPrices", name := "gives", desc := "(LCopyPrices$Step;)Z" } : Jvm.MethodName)) ∈ lw_all := lw_g (lw_at lw_m5 134 rfl) rfl
theorem q1232 : (Jvm.Cond.code ({ cls := "CopyPrices", name := "gives", desc := "(LCopyPrices$Step;)Z" } : Jvm.MethodName) prog_1_method_43_code (6 : Nat) (Option.some Jvm.ClassFile.FieldType.boolean)) ∈ lw_all := lw_g (lw_at lw_m5 135 rfl) rfl
theorem q1233 : (Jvm.Cond.methodLink "CopyPrices" (257 : Nat) ({ cls := "CopyPrices$Step", name := "length", desc := "()I" } : Jvm.MethodName)) ∈ lw_all := lw_g (lw_at lw_m5 136 rfl) rfl
theorem q1234 : (Jvm.Cond.methodLink "CopyPrices" (260 : Nat) ({ cls := "CopyPrices$Step", name := "distance", desc := "()I" } : Jvm.MethodName)) ∈ lw_all := lw_g (lw_at lw_m5 137 rfl) rfl
theorem q1235 : (Jvm.Cond.methodLink "CopyPrices" (306 : Nat) ({ cls := "java/util/Arrays", name := "equals", desc := "([BII[BII)Z" } : Jvm.MethodName)) ∈ lw_all := lw_g (lw_at lw_m5 138 rfl) rfl
theorem q1340 : (Jvm.Cond.instanceMethod ({ cls := "CopyPrices", name := "costliestPin", desc := "()I" } : Jvm.MethodName)) ∈ lw_all := lw_g (lw_at lw_m6 3 rfl) rfl
theorem q1341 : (Jvm.Cond.selects "CopyPrices" ({ cls := "CopyPrices", name := "costliestPin", desc := "()I" } : Jvm.MethodName) ({ cls := "CopyPrices", name := "costliestPin", desc := "()I" } : Jvm.MethodName)) ∈ lw_all := lw_g (lw_at lw_m6 4 rfl) rfl
theorem q1342 : (Jvm.Cond.code ({ cls := "CopyPrices", name := "costliestPin", desc := "()I" } : Jvm.MethodName) prog_1_method_47_code (5 : Nat) (Option.some Jvm.ClassFile.FieldType.int)) ∈ lw_all := lw_g (lw_at lw_m6 5 rfl) rfl
theorem q1343 : (Jvm.Cond.methodLink "CopyPrices" (327 : Nat) ({ cls := "CopyPrices$World", name := "pinnedPrice", desc := "(ILCopyPrices$Table;)I" } : Jvm.MethodName)) ∈ lw_all := lw_g (lw_at lw_m6 6 rfl) rfl
theorem q1348 : (Jvm.Cond.instanceMethod ({ cls := "CopyPrices", name := "bestWait", desc := "()I" } : Jvm.MethodName)) ∈ lw_all := lw_g (lw_at lw_m6 11 rfl) rfl
theorem q1349 : (Jvm.Cond.selects "CopyPrices" ({ cls := "CopyPrices", name := "bestWait", desc := "()I" } : Jvm.MethodName) ({ cls := "CopyPrices", name := "bestWait", desc := "()I" } : Jvm.MethodName)) ∈ lw_all := lw_g (lw_at lw_m6 12 rfl) rfl
theorem q1350 : (Jvm.Cond.code ({ cls := "CopyPrices", name := "bestWait", desc := "()I" } : Jvm.MethodName) prog_1_method_49_code (5 : Nat) (Option.some Jvm.ClassFile.FieldType.int)) ∈ lw_all := lw_g (lw_at lw_m6 13 rfl) rfl
theorem q1351 : (Jvm.Cond.methodLink "CopyPrices" (336 : Nat) ({ cls := "CopyPrices$World", name := "priceWith", desc := "(IILCopyPrices$Table;)I" } : Jvm.MethodName)) ∈ lw_all := lw_g (lw_at lw_m6 14 rfl) rfl
theorem q1357 : (Jvm.Cond.instanceMethod ({ cls := "CopyPrices", name := "bestShare", desc := "()F" } : Jvm.MethodName)) ∈ lw_all := lw_g (lw_at lw_m6 20 rfl) rfl
theorem q1358 : (Jvm.Cond.selects "CopyPrices" ({ cls := "CopyPrices", name := "bestShare", desc := "()F" } : Jvm.MethodName) ({ cls := "CopyPrices", name := "bestShare", desc := "()F" } : Jvm.MethodName)) ∈ lw_all := lw_g (lw_at lw_m6 21 rfl) rfl
theorem q1359 : (Jvm.Cond.code ({ cls := "CopyPrices", name := "bestShare", desc := "()F" } : Jvm.MethodName) prog_1_method_50_code (2 : Nat) (Option.some Jvm.ClassFile.FieldType.float)) ∈ lw_all := lw_g (lw_at lw_m6 22 rfl) rfl
theorem q1361 : (Jvm.Cond.instanceMethod ({ cls := "CopyPrices", name := "printText", desc := "()I" } : Jvm.MethodName)) ∈ lw_all := lw_g (lw_at lw_m6 24 rfl) rfl
theorem q1362 : (Jvm.Cond.selects "CopyPrices" ({ cls := "CopyPrices", name := "printText", desc := "()I" } : Jvm.MethodName) ({ cls := "CopyPrices", name := "printText", desc := "()I" } : Jvm.MethodName)) ∈ lw_all := lw_g (lw_at lw_m6 25 rfl) rfl
theorem q1363 : (Jvm.Cond.code ({ cls := "CopyPrices", name := "printText", desc := "()I" } : Jvm.MethodName) prog_1_method_61_code (3 : Nat) (Option.some Jvm.ClassFile.FieldType.int)) ∈ lw_all := lw_g (lw_at lw_m6 26 rfl) rfl
theorem q1364 : (Jvm.Cond.classLink "CopyPrices" (364 : Nat) "java/lang/StringBuilder") ∈ lw_all := lw_g (lw_at lw_m6 27 rfl) rfl
theorem q1365 : (Jvm.Cond.methodLink "CopyPrices" (372 : Nat) ({ cls := "java/lang/StringBuilder", name := "<init>", desc := "()V" } : Jvm.MethodName)) ∈ lw_all := lw_g (lw_at lw_m6 28 rfl) rfl
theorem q1366 : (Jvm.Cond.methodLink "CopyPrices" (381 : Nat) ({ cls := "java/lang/StringBuilder", name := "append", desc := "(C)Ljava/lang/StringBuilder;" } : Jvm.MethodName)) ∈ lw_all := lw_g (lw_at lw_m6 29 rfl) rfl
theorem q1367 : (Jvm.Cond.methodLink "CopyPrices" (195 : Nat) ({ cls := "CopyPrices$World", name := "isPinned", desc := "(I)Z" } : Jvm.MethodName)) ∈ lw_all := lw_g (lw_at lw_m6 30 rfl) rfl
theorem q1368 : (Jvm.Cond.methodLink "CopyPrices" (377 : Nat) ({ cls := "CopyPrices", name := "says", desc := "(Ljava/lang/StringBuilder;)I" } : Jvm.MethodName)) ∈ lw_all := lw_g (lw_at lw_m6 31 rfl) rfl
theorem q1369 : (Jvm.Cond.privateMethod ({ cls := "CopyPrices", name := "says", desc := "(Ljava/lang/StringBuilder;)I" } : Jvm.MethodName)) ∈ lw_tbl := lw_at lw_m6 32 rfl
theorem q1370 : (Jvm.Cond.instanceMethod ({ cls := "CopyPrices", name := "says", desc := "(Ljava/lang/StringBuilder;)I" } : Jvm.MethodName)) ∈ lw_all := lw_g (lw_at lw_m6 33 rfl) rfl
theorem q1371 : (Jvm.Cond.code ({ cls := "CopyPrices", name := "says", desc := "(Ljava/lang/StringBuilder;)I" } : Jvm.MethodName) prog_1_method_59_code (2 : Nat) (Option.some Jvm.ClassFile.FieldType.int)) ∈ lw_all := lw_g (lw_at lw_m6 34 rfl) rfl
theorem q1372 : (Jvm.Cond.methodLink "CopyPrices" (363 : Nat) ({ cls := "java/lang/StringBuilder", name := "toString", desc := "()Ljava/lang/String;" } : Jvm.MethodName)) ∈ lw_all := lw_g (lw_at lw_m6 35 rfl) rfl
theorem q1373 : (Jvm.Cond.methodLink "CopyPrices" (369 : Nat) ({ cls := "java/lang/String", name := "length", desc := "()I" } : Jvm.MethodName)) ∈ lw_all := lw_g (lw_at lw_m6 36 rfl) rfl
theorem q1375 : (Jvm.Cond.instanceMethod ({ cls := "CopyPrices", name := "outputByte", desc := "(I)I" } : Jvm.MethodName)) ∈ lw_all := lw_g (lw_at lw_m6 38 rfl) rfl
theorem q1376 : (Jvm.Cond.selects "CopyPrices" ({ cls := "CopyPrices", name := "outputByte", desc := "(I)I" } : Jvm.MethodName) ({ cls := "CopyPrices", name := "outputByte", desc := "(I)I" } : Jvm.MethodName)) ∈ lw_all := lw_g (lw_at lw_m6 39 rfl) rfl
theorem q1377 : (Jvm.Cond.code ({ cls := "CopyPrices", name := "outputByte", desc := "(I)I" } : Jvm.MethodName) prog_1_method_62_code (2 : Nat) (Option.some Jvm.ClassFile.FieldType.int)) ∈ lw_all := lw_g (lw_at lw_m6 40 rfl) rfl
theorem q1378 : (Jvm.Cond.methodLink "CopyPrices" (385 : Nat) ({ cls := "java/lang/String", name := "charAt", desc := "(I)C" } : Jvm.MethodName)) ∈ lw_all := lw_g (lw_at lw_m6 41 rfl) rfl
theorem q1380 : (Jvm.Cond.instanceMethod ({ cls := "CopyPrices", name := "saveState", desc := "()I" } : Jvm.MethodName)) ∈ lw_all := lw_g (lw_at lw_m6 43 rfl) rfl
theorem q1381 : (Jvm.Cond.selects "CopyPrices" ({ cls := "CopyPrices", name := "saveState", desc := "()I" } : Jvm.MethodName) ({ cls := "CopyPrices", name := "saveState", desc := "()I" } : Jvm.MethodName)) ∈ lw_all := lw_g (lw_at lw_m6 44 rfl) rfl
theorem q1382 : (Jvm.Cond.code ({ cls := "CopyPrices", name := "saveState", desc := "()I" } : Jvm.MethodName) prog_1_method_63_code (1 : Nat) (Option.some Jvm.ClassFile.FieldType.int)) ∈ lw_all := lw_g (lw_at lw_m6 45 rfl) rfl
theorem q1383 : (Jvm.Cond.methodLink "CopyPrices" (119 : Nat) ({ cls := "CopyPrices$World", name := "copy", desc := "()LCopyPrices$World;" } : Jvm.MethodName)) ∈ lw_all := lw_g (lw_at lw_m6 46 rfl) rfl
theorem q1394 : (Jvm.Cond.instanceMethod ({ cls := "CopyPrices", name := "count", desc := "(I)I" } : Jvm.MethodName)) ∈ lw_all := lw_g (lw_at lw_m6 57 rfl) rfl
theorem q1395 : (Jvm.Cond.selects "CopyPrices" ({ cls := "CopyPrices", name := "count", desc := "(I)I" } : Jvm.MethodName) ({ cls := "CopyPrices", name := "count", desc := "(I)I" } : Jvm.MethodName)) ∈ lw_all := lw_g (lw_at lw_m6 58 rfl) rfl
theorem q1396 : (Jvm.Cond.code ({ cls := "CopyPrices", name := "count", desc := "(I)I" } : Jvm.MethodName) prog_1_method_21_code (2 : Nat) (Option.some Jvm.ClassFile.FieldType.int)) ∈ lw_all := lw_g (lw_at lw_m6 59 rfl) rfl
theorem q1397 : (Jvm.Cond.methodLink "CopyPrices" (150 : Nat) ({ cls := "java/lang/Long", name := "bitCount", desc := "(J)I" } : Jvm.MethodName)) ∈ lw_all := lw_g (lw_at lw_m6 60 rfl) rfl
theorem q1403 : (Jvm.Cond.privateMethod ({ cls := "CopyPrices", name := "lambda$count$0", desc := "(I)I" } : Jvm.MethodName)) ∈ lw_tbl := lw_at lw_m6 66 rfl
theorem q1404 : (Jvm.Cond.instanceMethod ({ cls := "CopyPrices", name := "lambda$count$0", desc := "(I)I" } : Jvm.MethodName)) ∈ lw_all := lw_g (lw_at lw_m6 67 rfl) rfl
theorem q1405 : (Jvm.Cond.code ({ cls := "CopyPrices", name := "lambda$count$0", desc := "(I)I" } : Jvm.MethodName) prog_1_method_77_code (2 : Nat) (Option.some Jvm.ClassFile.FieldType.int)) ∈ lw_all := lw_g (lw_at lw_m6 68 rfl) rfl
theorem q1406 : (Jvm.Cond.methodLink "CopyPrices" (206 : Nat) ({ cls := "CopyPrices$World", name := "candidates", desc := "(I)I" } : Jvm.MethodName)) ∈ lw_all := lw_g (lw_at lw_m6 69 rfl) rfl
theorem q1407 : (Jvm.Cond.methodLink "CopyPrices" (199 : Nat) ({ cls := "CopyPrices", name := "one", desc := "(Z)I" } : Jvm.MethodName)) ∈ lw_all := lw_g (lw_at lw_m6 70 rfl) rfl
theorem q1408 : (Jvm.Cond.methodLink "CopyPrices" (158 : Nat) ({ cls := "CopyPrices", name := "sum", desc := "(LCopyPrices$Sight;)I" } : Jvm.MethodName)) ∈ lw_all := lw_g (lw_at lw_m6 71 rfl) rfl
theorem q1409 : (Jvm.Cond.privateMethod ({ cls := "CopyPrices", name := "sum", desc := "(LCopyPrices$Sight;)I" } : Jvm.MethodName)) ∈ lw_tbl := lw_at lw_m6 72 rfl
theorem q1410 : (Jvm.Cond.instanceMethod ({ cls := "CopyPrices", name := "sum", desc := "(LCopyPrices$Sight;)I" } : Jvm.MethodName)) ∈ lw_all := lw_g (lw_at lw_m6 73 rfl) rfl
theorem q1411 : (Jvm.Cond.code ({ cls := "CopyPrices", name := "sum", desc := "(LCopyPrices$Sight;)I" } : Jvm.MethodName) prog_1_method_18_code (4 : Nat) (Option.some Jvm.ClassFile.FieldType.int)) ∈ lw_all := lw_g (lw_at lw_m6 74 rfl) rfl
theorem q1412 : (Jvm.Cond.interfaceEntry "CopyPrices" (126 : Nat)) ∈ lw_tbl := lw_at lw_m6 75 rfl
theorem q1413 : (Jvm.Cond.methodLink "CopyPrices" (126 : Nat) ({ cls := "CopyPrices$Sight", name := "of", desc := "(I)I" } : Jvm.MethodName)) ∈ lw_all := lw_g (lw_at lw_m6 76 rfl) rfl
theorem q1416 : (Jvm.Cond.privateMethod ({ cls := "CopyPrices", name := "lambda$count$1", desc := "(I)I" } : Jvm.MethodName)) ∈ lw_tbl := lw_at lw_m6 79 rfl
theorem q1417 : (Jvm.Cond.instanceMethod ({ cls := "CopyPrices", name := "lambda$count$1", desc := "(I)I" } : Jvm.MethodName)) ∈ lw_all := lw_g (lw_at lw_m6 80 rfl) rfl
theorem q1418 : (Jvm.Cond.code ({ cls := "CopyPrices", name := "lambda$count$1", desc := "(I)I" } : Jvm.MethodName) prog_1_method_76_code (2 : Nat) (Option.some Jvm.ClassFile.FieldType.int)) ∈ lw_all := lw_g (lw_at lw_m6 81 rfl) rfl
theorem q1419 : (Jvm.Cond.methodLink "CopyPrices" (212 : Nat) ({ cls := "CopyPrices$World", name := "copiesAt", desc := "(I)I" } : Jvm.MethodName)) ∈ lw_all := lw_g (lw_at lw_m6 82 rfl) rfl
theorem q1423 : (Jvm.Cond.privateMethod ({ cls := "CopyPrices", name := "lambda$count$2", desc := "(I)I" } : Jvm.MethodName)) ∈ lw_tbl := lw_at lw_m6 86 rfl
theorem q1424 : (Jvm.Cond.instanceMethod ({ cls := "CopyPrices", name := "lambda$count$2", desc := "(I)I" } : Jvm.MethodName)) ∈ lw_all := lw_g (lw_at lw_m6 87 rfl) rfl
theorem q1425 : (Jvm.Cond.code ({ cls := "CopyPrices", name := "lambda$count$2", desc := "(I)I" } : Jvm.MethodName) prog_1_method_75_code (2 : Nat) (Option.some Jvm.ClassFile.FieldType.int)) ∈ lw_all := lw_g (lw_at lw_m6 88 rfl) rfl
theorem q1426 : (Jvm.Cond.methodLink "CopyPrices" (164 : Nat) ({ cls := "CopyPrices", name := "longestCopy", desc := "()I" } : Jvm.MethodName)) ∈ lw_all := lw_g (lw_at lw_m6 89 rfl) rfl
theorem q1427 : (Jvm.Cond.privateMethod ({ cls := "CopyPrices", name := "longestCopy", desc := "()I" } : Jvm.MethodName)) ∈ lw_tbl := lw_at lw_m6 90 rfl
theorem q1428 : (Jvm.Cond.instanceMethod ({ cls := "CopyPrices", name := "longestCopy", desc := "()I" } : Jvm.MethodName)) ∈ lw_all := lw_g (lw_at lw_m6 91 rfl) rfl
theorem q1429 : (Jvm.Cond.code ({ cls := "CopyPrices", name := "longestCopy", desc := "()I" } : Jvm.MethodName) prog_1_method_19_code (3 : Nat) (Option.some Jvm.ClassFile.FieldType.int)) ∈ lw_all := lw_g (lw_at lw_m6 92 rfl) rfl
theorem q1430 : (Jvm.Cond.methodLink "CopyPrices" (131 : Nat) ({ cls := "CopyPrices$World", name := "longestLength", desc := "(I)I" } : Jvm.MethodName)) ∈ lw_all := lw_g (lw_at lw_m6 93 rfl) rfl
theorem q1431 : (Jvm.Cond.methodLink "CopyPrices" (134 : Nat) ({ cls := "java/lang/Math", name := "max", desc := "(II)I" } : Jvm.MethodName)) ∈ lw_all := lw_g (lw_at lw_m6 94 rfl) rfl
theorem q1432 : (Jvm.Cond.methodLink "CopyPrices" (167 : Nat) ({ cls := "CopyPrices", name := "differentLetters", desc := "()I" } : Jvm.MethodName)) ∈ lw_all := lw_g (lw_at lw_m6 95 rfl) rfl
theorem q1433 : (Jvm.Cond.privateMethod ({ cls := "CopyPrices", name := "differentLetters", desc := "()I" } : Jvm.MethodName)) ∈ lw_tbl := lw_at lw_m6 96 rfl
theorem q1434 : (Jvm.Cond.instanceMethod ({ cls := "CopyPrices", name := "differentLetters", desc := "()I" } : Jvm.MethodName)) ∈ lw_all := lw_g (lw_at lw_m6 97 rfl) rfl
theorem q1435 : (Jvm.Cond.code ({ cls := "CopyPrices", name := "differentLetters", desc := "()I" } : Jvm.MethodName) prog_1_method_20_code (3 : Nat) (Option.some Jvm.ClassFile.FieldType.int)) ∈ lw_all := lw_g (lw_at lw_m6 98 rfl) rfl
theorem q1436 : (Jvm.Cond.methodLink "CopyPrices" (143 : Nat) ({ cls := "java/lang/Integer", name := "bitCount", desc := "(I)I" } : Jvm.MethodName)) ∈ lw_all := lw_g (lw_at lw_m6 99 rfl) rfl
theorem q1442 : (Jvm.Cond.methodLink "CopyPrices" (107 : Nat) ({ cls := "java/util/ArrayDeque", name := "size", desc := "()I" } : Jvm.MethodName)) ∈ lw_all := lw_g (lw_at lw_m6 105 rfl) rfl
theorem q1449 : (Jvm.Cond.classLink "CopyPrices" (7 : Nat) "java/lang/IllegalArgumentException") ∈ lw_all := lw_g (lw_at lw_m6 112 rfl) rfl
theorem q1450 : (Jvm.Cond.methodLink "CopyPrices" (9 : Nat) ({ cls := "java/lang/IllegalArgumentException", name := "<init>", desc := "()V" } : Jvm.MethodName)) ∈ lw_all := lw_g (lw_at lw_m6 113 rfl) rfl
theorem q1464 : (Jvm.Cond.instanceMethod ({ cls := "CopyPrices", name := "account", desc := "(I)I" } : Jvm.MethodName)) ∈ lw_all := lw_g (lw_at lw_m6 127 rfl) rfl
theorem q1465 : (Jvm.Cond.selects "CopyPrices" ({ cls := "CopyPrices", name := "account", desc := "(I)I" } : Jvm.MethodName) ({ cls := "CopyPrices", name := "account", desc := "(I)I" } : Jvm.MethodName)) ∈ lw_all := lw_g (lw_at lw_m6 128 rfl) rfl
theorem q1466 : (Jvm.Cond.code ({ cls := "CopyPrices", name := "account", desc := "(I)I" } : Jvm.MethodName) prog_1_method_22_code (2 : Nat) (Option.some Jvm.ClassFile.FieldType.int)) ∈ lw_all := lw_g (lw_at lw_m6 129 rfl) rfl
theorem q1467 : (Jvm.Cond.constantLong "CopyPrices" (170 : Nat) (5 : Int64)) ∈ lw_all := lw_g (lw_at lw_m6 130 rfl) rfl
theorem q1468 : (Jvm.Cond.methodLink "CopyPrices" (172 : Nat) ({ cls := "CopyPrices", name := "needRange", desc := "(Z)V" } : Jvm.MethodName)) ∈ lw_all := lw_g (lw_at lw_m6 131 rfl) rfl
theorem q1469 : (Jvm.Cond.static ({ cls := "CopyPrices", name := "needRange", desc := "(Z)V" } : Jvm.MethodName)) ∈ lw_all := lw_g (lw_at lw_m6 132 rfl) rfl
theorem q1470 : (Jvm.Cond.code ({ cls := "CopyPrices", name := "needRange", desc := "(Z)V" } : Jvm.MethodName) prog_1_method_4_code (1 : Nat) (Option.none : Option Jvm.ClassFile.FieldType)) ∈ lw_all := lw_g (lw_at lw_m6 133 rfl) rfl
theorem q1475 : (Jvm.Cond.instanceMethod ({ cls := "CopyPrices", name := "setting", desc := "(I)I" } : Jvm.MethodName)) ∈ lw_all := lw_g (lw_at lw_m6 138 rfl) rfl
theorem q1476 : (Jvm.Cond.selects "CopyPrices" ({ cls := "CopyPrices", name := "setting", desc := "(I)I" } : Jvm.MethodName) ({ cls := "CopyPrices", name := "setting", desc := "(I)I" } : Jvm.MethodName)) ∈ lw_all := lw_g (lw_at lw_m6 139 rfl) rfl
theorem q1477 : (Jvm.Cond.code ({ cls := "CopyPrices", name := "setting", desc := "(I)I" } : Jvm.MethodName) prog_1_method_23_code (2 : Nat) (Option.some Jvm.ClassFile.FieldType.int)) ∈ lw_all := lw_g (lw_at lw_m6 140 rfl) rfl
theorem q1478 : (Jvm.Cond.constantLong "CopyPrices" (176 : Nat) (4 : Int64)) ∈ lw_all := lw_g (lw_at lw_m6 141 rfl) rfl
theorem q1483 : (Jvm.Cond.instanceMethod ({ cls := "CopyPrices", name := "price", desc := "(I)I" } : Jvm.MethodName)) ∈ lw_all := lw_g (lw_at lw_m6 146 rfl) rfl
theorem q1484 : (Jvm.Cond.selects "CopyPrices" ({ cls := "CopyPrices", name := "price", desc := "(I)I" } : Jvm.MethodName) ({ cls := "CopyPrices", name := "price", desc := "(I)I" } : Jvm.MethodName)) ∈ lw_all := lw_g (lw_at lw_m6 147 rfl) rfl
theorem q1485 : (Jvm.Cond.code ({ cls := "CopyPrices", name := "price", desc := "(I)I" } : Jvm.MethodName) prog_1_method_24_code (2 : Nat) (Option.some Jvm.ClassFile.FieldType.int)) ∈ lw_all := lw_g (lw_at lw_m6 148 rfl) rfl
theorem q1486 : (Jvm.Cond.constantLong "CopyPrices" (181 : Nat) (30 : Int64)) ∈ lw_all := lw_g (lw_at lw_m6 149 rfl) rfl
theorem q1494 : (Jvm.Cond.instanceMethod ({ cls := "CopyPrices", name := "place", desc := "(II)I" } : Jvm.MethodName)) ∈ lw_all := lw_g (lw_at lw_m6 157 rfl) rfl
theorem q1495 : (Jvm.Cond.selects "CopyPrices" ({ cls := "CopyPrices", name := "place", desc := "(II)I" } : Jvm.MethodName) ({ cls := "CopyPrices", name := "place", desc := "(II)I" } : Jvm.MethodName)) ∈ lw_all := lw_g (lw_at lw_m6 158 rfl) rfl
theorem q1496 : (Jvm.Cond.code ({ cls := "CopyPrices", name := "place", desc := "(II)I" } : Jvm.MethodName) prog_1_method_27_code (3 : Nat) (Option.some Jvm.ClassFile.FieldType.int)) ∈ lw_all := lw_g (lw_at lw_m6 159 rfl) rfl
theorem q1497 : (Jvm.Cond.methodLink "CopyPrices" (192 : Nat) ({ cls := "CopyPrices", name := "needPlace", desc := "(I)V" } : Jvm.MethodName)) ∈ lw_all := lw_g (lw_at lw_m6 160 rfl) rfl
theorem q1498 : (Jvm.Cond.privateMethod ({ cls := "CopyPrices", name := "needPlace", desc := "(I)V" } : Jvm.MethodName)) ∈ lw_tbl := lw_at lw_m6 161 rfl
theorem q1499 : (Jvm.Cond.instanceMethod ({ cls := "CopyPrices", name := "needPlace", desc := "(I)V" } : Jvm.MethodName)) ∈ lw_all := lw_g (lw_at lw_m6 162 rfl) rfl
theorem q1500 : (Jvm.Cond.code ({ cls := "CopyPrices", name := "needPlace", desc := "(I)V" } : Jvm.MethodName) prog_1_method_25_code (2 : Nat) (Option.none : Option Jvm.ClassFile.FieldType)) ∈ lw_all := lw_g (lw_at lw_m6 163 rfl) rfl
theorem q1501 : (Jvm.Cond.methodLink "CopyPrices" (186 : Nat) ({ cls := "CopyPrices", name := "needIndex", desc := "(Z)V" } : Jvm.MethodName)) ∈ lw_all := lw_g (lw_at lw_m6 164 rfl) rfl
theorem q1502 : (Jvm.Cond.static ({ cls := "CopyPrices", name := "needIndex", desc := "(Z)V" } : Jvm.MethodName)) ∈ lw_all := lw_g (lw_at lw_m6 165 rfl) rfl
theorem q1503 : (Jvm.Cond.code ({ cls := "CopyPrices", name := "needIndex", desc := "(Z)V" } : Jvm.MethodName) prog_1_method_5_code (1 : Nat) (Option.none : Option Jvm.ClassFile.FieldType)) ∈ lw_all := lw_g (lw_at lw_m6 166 rfl) rfl
theorem q1504 : (Jvm.Cond.classLink "CopyPrices" (13 : Nat) "java/lang/IndexOutOfBoundsException") ∈ lw_all := lw_g (lw_at lw_m6 167 rfl) rfl
theorem q1513 : (Jvm.Cond.methodLink "CopyPrices" (15 : Nat) ({ cls := "java/lang/IndexOutOfBoundsException", name := "<init>", desc := "()V" } : Jvm.MethodName)) ∈ lw_all := lw_g (lw_at lw_m6 176 rfl) rfl
theorem q1519 : (Jvm.Cond.methodLink "CopyPrices" (203 : Nat) ({ cls := "CopyPrices$World", name := "chainOf", desc := "(I)I" } : Jvm.MethodName)) ∈ lw_all := lw_g (lw_at lw_m6 182 rfl) rfl
theorem q1520 : (Jvm.Cond.methodLink "CopyPrices" (209 : Nat) ({ cls := "CopyPrices", name := "nearestLongest", desc := "(I)I" } : Jvm.MethodName)) ∈ lw_all := lw_g (lw_at lw_m6 183 rfl) rfl
theorem q1521 : (Jvm.Cond.privateMethod ({ cls := "CopyPrices", name := "nearestLongest", desc := "(I)I" } : Jvm.MethodName)) ∈ lw_tbl := lw_at lw_m6 184 rfl
theorem q1522 : (Jvm.Cond.instanceMethod ({ cls := "CopyPrices", name := "nearestLongest", desc := "(I)I" } : Jvm.MethodName)) ∈ lw_all := lw_g (lw_at lw_m6 185 rfl) rfl
theorem q1523 : (Jvm.Cond.code ({ cls := "CopyPrices", name := "nearestLongest", desc := "(I)I" } : Jvm.MethodName) prog_1_method_26_code (3 : Nat) (Option.some Jvm.ClassFile.FieldType.int)) ∈ lw_all := lw_g (lw_at lw_m6 186 rfl) rfl
theorem q1524 : (Jvm.Cond.methodLink "CopyPrices" (189 : Nat) ({ cls := "CopyPrices$World", name := "longestAt", desc := "(I)I" } : Jvm.MethodName)) ∈ lw_all := lw_g (lw_at lw_m6 187 rfl) rfl
theorem q1529 : (Jvm.Cond.instanceMethod ({ cls := "CopyPrices", name := "candidate", desc := "(II)I" } : Jvm.MethodName)) ∈ lw_all := lw_g (lw_at lw_m6 192 rfl) rfl
theorem q1530 : (Jvm.Cond.selects "CopyPrices" ({ cls := "CopyPrices", name := "candidate", desc := "(II)I" } : Jvm.MethodName) ({ cls := "CopyPrices", name := "candidate", desc := "(II)I" } : Jvm.MethodName)) ∈ lw_all := lw_g (lw_at lw_m6 193 rfl) rfl
theorem q1531 : (Jvm.Cond.code ({ cls := "CopyPrices", name := "candidate", desc := "(II)I" } : Jvm.MethodName) prog_1_method_28_code (3 : Nat) (Option.some Jvm.ClassFile.FieldType.int)) ∈ lw_all := lw_g (lw_at lw_m6 194 rfl) rfl
theorem q1532 : (Jvm.Cond.methodLink "CopyPrices" (215 : Nat) ({ cls := "CopyPrices$World", name := "candidate", desc := "(II)I" } : Jvm.MethodName)) ∈ lw_all := lw_g (lw_at lw_m6 195 rfl) rfl
theorem q1537 : (Jvm.Cond.instanceMethod ({ cls := "CopyPrices", name := "why", desc := "(III)I" } : Jvm.MethodName)) ∈ lw_all := lw_g (lw_at lw_m6 200 rfl) rfl
theorem q1538 : (Jvm.Cond.selects "CopyPrices" ({ cls := "CopyPrices", name := "why", desc := "(III)I" } : Jvm.MethodName) ({ cls := "CopyPrices", name := "why", desc := "(III)I" } : Jvm.MethodName)) ∈ lw_all := lw_g (lw_at lw_m6 201 rfl) rfl
theorem q1539 : (Jvm.Cond.code ({ cls := "CopyPrices", name := "why", desc := "(III)I" } : Jvm.MethodName) prog_1_method_30_code (4 : Nat) (Option.some Jvm.ClassFile.FieldType.int)) ∈ lw_all := lw_g (lw_at lw_m6 202 rfl) rfl
theorem q1540 : (Jvm.Cond.methodLink "CopyPrices" (220 : Nat) ({ cls := "CopyPrices", name := "isSpan", desc := "(I)Z" } : Jvm.MethodName)) ∈ lw_all := lw_g (lw_at lw_m6 203 rfl) rfl
theorem q1541 : (Jvm.Cond.static ({ cls := "CopyPrices", name := "isSpan", desc := "(I)Z" } : Jvm.MethodName)) ∈ lw_all := lw_g (lw_at lw_m6 204 rfl) rfl
theorem q1542 : (Jvm.Cond.code ({ cls := "CopyPrices", name := "isSpan", desc := "(I)Z" } : Jvm.MethodName) prog_1_method_29_code (1 : Nat) (Option.some Jvm.ClassFile.FieldType.boolean)) ∈ lw_all := lw_g (lw_at lw_m6 205 rfl) rfl
theorem q1543 : (Jvm.Cond.constantLong "CopyPrices" (218 : Nat) (64 : Int64)) ∈ lw_all := lw_g (lw_at lw_m6 206 rfl) rfl
theorem q1544 : (Jvm.Cond.methodLink "CopyPrices" (223 : Nat) ({ cls := "CopyPrices$World", name := "why", desc := "(III)I" } : Jvm.MethodName)) ∈ lw_all := lw_g (lw_at lw_m6 207 rfl) rfl
theorem q1558 : (Jvm.Cond.instanceMethod ({ cls := "CopyPrices", name := "same", desc := "(II)I" } : Jvm.MethodName)) ∈ lw_all := lw_g (lw_at lw_m6 221 rfl) rfl
theorem q1559 : (Jvm.Cond.selects "CopyPrices" ({ cls := "CopyPrices", name := "same", desc := "(II)I" } : Jvm.MethodName) ({ cls := "CopyPrices", name := "same", desc := "(II)I" } : Jvm.MethodName)) ∈ lw_all := lw_g (lw_at lw_m6 222 rfl) rfl
theorem q1560 : (Jvm.Cond.code ({ cls := "CopyPrices", name := "same", desc := "(II)I" } : Jvm.MethodName) prog_1_method_31_code (3 : Nat) (Option.some Jvm.ClassFile.FieldType.int)) ∈ lw_all := lw_g (lw_at lw_m6 223 rfl) rfl
theorem q1561 : (Jvm.Cond.methodLink "CopyPrices" (227 : Nat) ({ cls := "CopyPrices$World", name := "same", desc := "(II)I" } : Jvm.MethodName)) ∈ lw_all := lw_g (lw_at lw_m6 224 rfl) rfl
theorem q1566 : (Jvm.Cond.instanceMethod ({ cls := "CopyPrices", name := "copyPrice", desc := "(III)I" } : Jvm.MethodName)) ∈ lw_all := lw_g (lw_at lw_m6 229 rfl) rfl
theorem q1567 : (Jvm.Cond.selects "CopyPrices" ({ cls := "CopyPrices", name := "copyPrice", desc := "(III)I" } : Jvm.MethodName) ({ cls := "CopyPrices", name := "copyPrice", desc := "(III)I" } : Jvm.MethodName)) ∈ lw_all := lw_g (lw_at lw_m6 230 rfl) rfl
theorem q1568 : (Jvm.Cond.code ({ cls := "CopyPrices", name := "copyPrice", desc := "(III)I" } : Jvm.MethodName) prog_1_method_32_code (4 : Nat) (Option.some Jvm.ClassFile.FieldType.int)) ∈ lw_all := lw_g (lw_at lw_m6 231 rfl) rfl
theorem q1569 : (Jvm.Cond.methodLink "CopyPrices" (230 : Nat) ({ cls := "CopyPrices$World", name := "copyPrice", desc := "(III)I" } : Jvm.MethodName)) ∈ lw_all := lw_g (lw_at lw_m6 232 rfl) rfl
theorem q1574 : (Jvm.Cond.instanceMethod ({ cls := "CopyPrices", name := "steps", desc := "(I)I" } : Jvm.MethodName)) ∈ lw_all := lw_g (lw_at lw_m6 237 rfl) rfl
theorem q1575 : (Jvm.Cond.selects "CopyPrices" ({ cls := "CopyPrices", name := "steps", desc := "(I)I" } : Jvm.MethodName) ({ cls := "CopyPrices", name := "steps", desc := "(I)I" } : Jvm.MethodName)) ∈ lw_all := lw_g (lw_at lw_m6 238 rfl) rfl
theorem q1576 : (Jvm.Cond.code ({ cls := "CopyPrices", name := "steps", desc := "(I)I" } : Jvm.MethodName) prog_1_method_34_code (2 : Nat) (Option.some Jvm.ClassFile.FieldType.int)) ∈ lw_all := lw_g (lw_at lw_m6 239 rfl) rfl
theorem q1577 : (Jvm.Cond.methodLink "CopyPrices" (239 : Nat) ({ cls := "CopyPrices", name := "parseOf", desc := "(I)LCopyPrices$Step;" } : Jvm.MethodName)) ∈ lw_all := lw_g (lw_at lw_m7 0 rfl) rfl
theorem q1578 : (Jvm.Cond.privateMethod ({ cls := "CopyPrices", name := "parseOf", desc := "(I)LCopyPrices$Step;" } : Jvm.MethodName)) ∈ lw_tbl := lw_at lw_m7 1 rfl
theorem q1579 : (Jvm.Cond.instanceMethod ({ cls := "CopyPrices", name := "parseOf", desc := "(I)LCopyPrices$Step;" } : Jvm.MethodName)) ∈ lw_all := lw_g (lw_at lw_m7 2 rfl) rfl
theorem q1580 : (Jvm.Cond.code ({ cls := "CopyPrices", name := "parseOf", desc := "(I)LCopyPrices$Step;" } : Jvm.MethodName) prog_1_method_33_code (2 : Nat) (Option.some (Jvm.ClassFile.FieldType.object "CopyPrices$Step"))) ∈ lw_all := lw_g (lw_at lw_m7 3 rfl) rfl
theorem q1581 : (Jvm.Cond.constantLong "CopyPrices" (233 : Nat) (3 : Int64)) ∈ lw_all := lw_g (lw_at lw_m7 4 rfl) rfl
theorem q1582 : (Jvm.Cond.static ({ cls := "CopyPrices", name := "lambda$steps$3", desc := "(LCopyPrices$Step;)I" } : Jvm.MethodName)) ∈ lw_all := lw_g (lw_at lw_m7 5 rfl) rfl
theorem q1583 : (Jvm.Cond.code ({ cls := "CopyPrices", name := "lambda$steps$3", desc := "(LCopyPrices$Step;)I" } : Jvm.MethodName) prog_1_method_74_code (1 : Nat) (Option.some Jvm.ClassFile.FieldType.int)) ∈ lw_all := lw_g (lw_at lw_m7 6 rfl) rfl
theorem q1588 : (Jvm.Cond.instanceMethod ({ cls := "CopyPrices", name := "step", desc := "(III)I" } : Jvm.MethodName)) ∈ lw_all := lw_g (lw_at lw_m7 11 rfl) rfl
theorem q1589 : (Jvm.Cond.selects "CopyPrices" ({ cls := "CopyPrices", name := "step", desc := "(III)I" } : Jvm.MethodName) ({ cls := "CopyPrices", name := "step", desc := "(III)I" } : Jvm.MethodName)) ∈ lw_all := lw_g (lw_at lw_m7 12 rfl) rfl
theorem q1590 : (Jvm.Cond.code ({ cls := "CopyPrices", name := "step", desc := "(III)I" } : Jvm.MethodName) prog_1_method_35_code (5 : Nat) (Option.some Jvm.ClassFile.FieldType.int)) ∈ lw_all := lw_g (lw_at lw_m7 13 rfl) rfl
theorem q1591 : (Jvm.Cond.methodLink "CopyPrices" (251 : Nat) ({ cls := "CopyPrices$Step", name := "at", desc := "(I)LCopyPrices$Step;" } : Jvm.MethodName)) ∈ lw_all := lw_g (lw_at lw_m7 14 rfl) rfl
theorem q1602 : (Jvm.Cond.instanceMethod ({ cls := "CopyPrices", name := "stepAt", desc := "(II)I" } : Jvm.MethodName)) ∈ lw_all := lw_g (lw_at lw_m7 25 rfl) rfl
theorem q1603 : (Jvm.Cond.selects "CopyPrices" ({ cls := "CopyPrices", name := "stepAt", desc := "(II)I" } : Jvm.MethodName) ({ cls := "CopyPrices", name := "stepAt", desc := "(II)I" } : Jvm.MethodName)) ∈ lw_all := lw_g (lw_at lw_m7 26 rfl) rfl
theorem q1604 : (Jvm.Cond.code ({ cls := "CopyPrices", name := "stepAt", desc := "(II)I" } : Jvm.MethodName) prog_1_method_36_code (4 : Nat) (Option.some Jvm.ClassFile.FieldType.int)) ∈ lw_all := lw_g (lw_at lw_m7 27 rfl) rfl
theorem q1605 : (Jvm.Cond.static ({ cls := "CopyPrices", name := "lambda$stepAt$4", desc := "(ILCopyPrices$Step;)I" } : Jvm.MethodName)) ∈ lw_all := lw_g (lw_at lw_m7 28 rfl) rfl
theorem q1606 : (Jvm.Cond.code ({ cls := "CopyPrices", name := "lambda$stepAt$4", desc := "(ILCopyPrices$Step;)I" } : Jvm.MethodName) prog_1_method_73_code (2 : Nat) (Option.some Jvm.ClassFile.FieldType.int)) ∈ lw_all := lw_g (lw_at lw_m7 29 rfl) rfl
theorem q1611 : (Jvm.Cond.instanceMethod ({ cls := "CopyPrices", name := "parse", desc := "(II)I" } : Jvm.MethodName)) ∈ lw_all := lw_g (lw_at lw_m7 34 rfl) rfl
theorem q1612 : (Jvm.Cond.selects "CopyPrices" ({ cls := "CopyPrices", name := "parse", desc := "(II)I" } : Jvm.MethodName) ({ cls := "CopyPrices", name := "parse", desc := "(II)I" } : Jvm.MethodName)) ∈ lw_all := lw_g (lw_at lw_m7 35 rfl) rfl
theorem q1613 : (Jvm.Cond.code ({ cls := "CopyPrices", name := "parse", desc := "(II)I" } : Jvm.MethodName) prog_1_method_39_code (4 : Nat) (Option.some Jvm.ClassFile.FieldType.int)) ∈ lw_all := lw_g (lw_at lw_m7 36 rfl) rfl
theorem q1614 : (Jvm.Cond.constantLong "CopyPrices" (276 : Nat) (6 : Int64)) ∈ lw_all := lw_g (lw_at lw_m7 37 rfl) rfl
theorem q1615 : (Jvm.Cond.static ({ cls := "CopyPrices", name := "lambda$parse$5", desc := "(LCopyPrices$Step;)I" } : Jvm.MethodName)) ∈ lw_all := lw_g (lw_at lw_m7 38 rfl) rfl
theorem q1616 : (Jvm.Cond.code ({ cls := "CopyPrices", name := "lambda$parse$5", desc := "(LCopyPrices$Step;)I" } : Jvm.MethodName) prog_1_method_72_code (1 : Nat) (Option.some Jvm.ClassFile.FieldType.int)) ∈ lw_all := lw_g (lw_at lw_m7 39 rfl) rfl
theorem q1617 : (Jvm.Cond.static ({ cls := "CopyPrices", name := "lambda$parse$6", desc := "(LCopyPrices$Step;)I" } : Jvm.MethodName)) ∈ lw_all := lw_g (lw_at lw_m7 40 rfl) rfl
theorem q1618 : (Jvm.Cond.code ({ cls := "CopyPrices", name := "lambda$parse$6", desc := "(LCopyPrices$Step;)I" } : Jvm.MethodName) prog_1_method_71_code (1 : Nat) (Option.some Jvm.ClassFile.FieldType.int)) ∈ lw_all := lw_g (lw_at lw_m7 41 rfl) rfl
theorem q1619 : (Jvm.Cond.static ({ cls := "CopyPrices", name := "lambda$parse$7", desc := "(LCopyPrices$Step;)I" } : Jvm.MethodName)) ∈ lw_all := lw_g (lw_at lw_m7 42 rfl) rfl
theorem q1620 : (Jvm.Cond.code ({ cls := "CopyPrices", name := "lambda$parse$7", desc := "(LCopyPrices$Step;)I" } : Jvm.MethodName) prog_1_method_70_code (1 : Nat) (Option.some Jvm.ClassFile.FieldType.int)) ∈ lw_all := lw_g (lw_at lw_m7 43 rfl) rfl
theorem q1621 : (Jvm.Cond.methodLink "CopyPrices" (281 : Nat) ({ cls := "CopyPrices", name := "runs", desc := "(LCopyPrices$Step;)I" } : Jvm.MethodName)) ∈ lw_all := lw_g (lw_at lw_m7 44 rfl) rfl
theorem q1622 : (Jvm.Cond.static ({ cls := "CopyPrices", name := "runs", desc := "(LCopyPrices$Step;)I" } : Jvm.MethodName)) ∈ lw_all := lw_g (lw_at lw_m7 45 rfl) rfl
theorem q1623 : (Jvm.Cond.code ({ cls := "CopyPrices", name := "runs", desc := "(LCopyPrices$Step;)I" } : Jvm.MethodName) prog_1_method_37_code (5 : Nat) (Option.some Jvm.ClassFile.FieldType.int)) ∈ lw_all := lw_g (lw_at lw_m7 46 rfl) rfl
theorem q1624 : (Jvm.Cond.static ({ cls := "CopyPrices", name := "lambda$parse$8", desc := "(LCopyPrices$Step;)I" } : Jvm.MethodName)) ∈ lw_all := lw_g (lw_at lw_m7 47 rfl) rfl
theorem q1625 : (Jvm.Cond.code ({ cls := "CopyPrices", name := "lambda$parse$8", desc := "(LCopyPrices$Step;)I" } : Jvm.MethodName) prog_1_method_69_code (1 : Nat) (Option.some Jvm.ClassFile.FieldType.int)) ∈ lw_all := lw_g (lw_at lw_m7 48 rfl) rfl
theorem q1626 : (Jvm.Cond.methodLink "CopyPrices" (286 : Nat) ({ cls := "CopyPrices", name := "dearest", desc := "(LCopyPrices$Step;)I" } : Jvm.MethodName)) ∈ lw_all := lw_g (lw_at lw_m7 49 rfl) rfl
theorem q1627 : (Jvm.Cond.static ({ cls := "CopyPrices", name := "dearest", desc := "(LCopyPrices$Step;)I" } : Jvm.MethodName)) ∈ lw_all := lw_g (lw_at lw_m7 50 rfl) rfl
theorem q1628 : (Jvm.Cond.code ({ cls := "CopyPrices", name := "dearest", desc := "(LCopyPrices$Step;)I" } : Jvm.MethodName) prog_1_method_38_code (3 : Nat) (Option.some Jvm.ClassFile.FieldType.int)) ∈ lw_all := lw_g (lw_at lw_m7 51 rfl) rfl
theorem q1629 : (Jvm.Cond.static ({ cls := "CopyPrices", name := "lambda$parse$9", desc := "(LCopyPrices$Step;)I" } : Jvm.MethodName)) ∈ lw_all := lw_g (lw_at lw_m7 52 rfl) rfl
theorem q1630 : (Jvm.Cond.code ({ cls := "CopyPrices", name := "lambda$parse$9", desc := "(LCopyPrices$Step;)I" } : Jvm.MethodName) prog_1_method_68_code (1 : Nat) (Option.some Jvm.ClassFile.FieldType.int)) ∈ lw_all := lw_g (lw_at lw_m7 53 rfl) rfl
theorem q1635 : (Jvm.Cond.instanceMethod ({ cls := "CopyPrices", name := "restPrice", desc := "(IIZ)I" } : Jvm.MethodName)) ∈ lw_all := lw_g (lw_at lw_m7 58 rfl) rfl
theorem q1636 : (Jvm.Cond.selects "CopyPrices" ({ cls := "CopyPrices", name := "restPrice", desc := "(IIZ)I" } : Jvm.MethodName) ({ cls := "CopyPrices", name := "restPrice", desc := "(IIZ)I" } : Jvm.MethodName)) ∈ lw_all := lw_g (lw_at lw_m7 59 rfl) rfl
theorem q1637 : (Jvm.Cond.code ({ cls := "CopyPrices", name := "restPrice", desc := "(IIZ)I" } : Jvm.MethodName) prog_1_method_40_code (4 : Nat) (Option.some Jvm.ClassFile.FieldType.int)) ∈ lw_all := lw_g (lw_at lw_m7 60 rfl) rfl
theorem q1638 : (Jvm.Cond.constantLong "CopyPrices" (290 : Nat) (32 : Int64)) ∈ lw_all := lw_g (lw_at lw_m7 61 rfl) rfl
theorem q1639 : (Jvm.Cond.methodLink "CopyPrices" (292 : Nat) ({ cls := "CopyPrices$Table", name := "over", desc := "(LCopyPrices$World;)LCopyPrices$Table;" } : Jvm.MethodName)) ∈ lw_all := lw_g (lw_at lw_m7 62 rfl) rfl
theorem q1640 : (Jvm.Cond.methodLink "CopyPrices" (296 : Nat) ({ cls := "CopyPrices$Table", name := "rest", desc := "(IIZ)I" } : Jvm.MethodName)) ∈ lw_all := lw_g (lw_at lw_m7 63 rfl) rfl
theorem q1645 : (Jvm.Cond.instanceMethod ({ cls := "CopyPrices", name := "through", desc := "(I)I" } : Jvm.MethodName)) ∈ lw_all := lw_g (lw_at lw_m7 68 rfl) rfl
theorem q1646 : (Jvm.Cond.selects "CopyPrices" ({ cls := "CopyPrices", name := "through", desc := "(I)I" } : Jvm.MethodName) ({ cls := "CopyPrices", name := "through", desc := "(I)I" } : Jvm.MethodName)) ∈ lw_all := lw_g (lw_at lw_m7 69 rfl) rfl
theorem q1647 : (Jvm.Cond.code ({ cls := "CopyPrices", name := "through", desc := "(I)I" } : Jvm.MethodName) prog_1_method_41_code (2 : Nat) (Option.some Jvm.ClassFile.FieldType.int)) ∈ lw_all := lw_g (lw_at lw_m7 70 rfl) rfl
theorem q1652 : (Jvm.Cond.instanceMethod ({ cls := "CopyPrices", name := "worth", desc := "(III)I" } : Jvm.MethodName)) ∈ lw_all := lw_g (lw_at lw_m7 75 rfl) rfl
theorem q1653 : (Jvm.Cond.selects "CopyPrices" ({ cls := "CopyPrices", name := "worth", desc := "(III)I" } : Jvm.MethodName) ({ cls := "CopyPrices", name := "worth", desc := "(III)I" } : Jvm.MethodName)) ∈ lw_all := lw_g (lw_at lw_m7 76 rfl) rfl
theorem q1654 : (Jvm.Cond.code ({ cls := "CopyPrices", name := "worth", desc := "(III)I" } : Jvm.MethodName) prog_1_method_42_code (5 : Nat) (Option.some Jvm.ClassFile.FieldType.int)) ∈ lw_all := lw_g (lw_at lw_m7 77 rfl) rfl
theorem q1655 : (Jvm.Cond.methodLink "CopyPrices" (303 : Nat) ({ cls := "CopyPrices$Table", name := "cheapestWith", desc := "(III)I" } : Jvm.MethodName)) ∈ lw_all := lw_g (lw_at lw_m7 78 rfl) rfl
theorem q1663 : (Jvm.Cond.instanceMethod ({ cls := "CopyPrices", name := "ifLetter", desc := "(II)I" } : Jvm.MethodName)) ∈ lw_all := lw_g (lw_at lw_m7 86 rfl) rfl
theorem q1664 : (Jvm.Cond.selects "CopyPrices" ({ cls := "CopyPrices", name := "ifLetter", desc := "(II)I" } : Jvm.MethodName) ({ cls := "CopyPrices", name := "ifLetter", desc := "(II)I" } : Jvm.MethodName)) ∈ lw_all := lw_g (lw_at lw_m7 87 rfl) rfl
theorem q1665 : (Jvm.Cond.code ({ cls := "CopyPrices", name := "ifLetter", desc := "(II)I" } : Jvm.MethodName) prog_1_method_45_code (4 : Nat) (Option.some Jvm.ClassFile.FieldType.int)) ∈ lw_all := lw_g (lw_at lw_m7 88 rfl) rfl
theorem q1666 : (Jvm.Cond.constantLong "CopyPrices" (325 : Nat) (25 : Int64)) ∈ lw_all := lw_g (lw_at lw_m7 89 rfl) rfl
theorem q1671 : (Jvm.Cond.instanceMethod ({ cls := "CopyPrices", name := "pinCost", desc := "(I)I" } : Jvm.MethodName)) ∈ lw_all := lw_g (lw_at lw_m7 94 rfl) rfl
theorem q1672 : (Jvm.Cond.selects "CopyPrices" ({ cls := "CopyPrices", name := "pinCost", desc := "(I)I" } : Jvm.MethodName) ({ cls := "CopyPrices", name := "pinCost", desc := "(I)I" } : Jvm.MethodName)) ∈ lw_all := lw_g (lw_at lw_m7 95 rfl) rfl
theorem q1673 : (Jvm.Cond.code ({ cls := "CopyPrices", name := "pinCost", desc := "(I)I" } : Jvm.MethodName) prog_1_method_46_code (2 : Nat) (Option.some Jvm.ClassFile.FieldType.int)) ∈ lw_all := lw_g (lw_at lw_m7 96 rfl) rfl
theorem q1678 : (Jvm.Cond.instanceMethod ({ cls := "CopyPrices", name := "enough", desc := "(I)I" } : Jvm.MethodName)) ∈ lw_all := lw_g (lw_at lw_m7 101 rfl) rfl
theorem q1679 : (Jvm.Cond.selects "CopyPrices" ({ cls := "CopyPrices", name := "enough", desc := "(I)I" } : Jvm.MethodName) ({ cls := "CopyPrices", name := "enough", desc := "(I)I" } : Jvm.MethodName)) ∈ lw_all := lw_g (lw_at lw_m7 102 rfl) rfl
theorem q1680 : (Jvm.Cond.code ({ cls := "CopyPrices", name := "enough", desc := "(I)I" } : Jvm.MethodName) prog_1_method_48_code (7 : Nat) (Option.some Jvm.ClassFile.FieldType.int)) ∈ lw_all := lw_g (lw_at lw_m7 103 rfl) rfl
theorem q1681 : (Jvm.Cond.methodLink "CopyPrices" (330 : Nat) ({ cls := "CopyPrices", name := "mostOf", desc := "(I)I" } : Jvm.MethodName)) ∈ lw_all := lw_g (lw_at lw_m7 104 rfl) rfl
theorem q1682 : (Jvm.Cond.methodLink "CopyPrices" (333 : Nat) ({ cls := "CopyPrices", name := "leastOf", desc := "(I)I" } : Jvm.MethodName)) ∈ lw_all := lw_g (lw_at lw_m7 105 rfl) rfl
theorem q1687 : (Jvm.Cond.instanceMethod ({ cls := "CopyPrices", name := "meanLength", desc := "(I)D" } : Jvm.MethodName)) ∈ lw_all := lw_g (lw_at lw_m7 110 rfl) rfl
theorem q1688 : (Jvm.Cond.selects "CopyPrices" ({ cls := "CopyPrices", name := "meanLength", desc := "(I)D" } : Jvm.MethodName) ({ cls := "CopyPrices", name := "meanLength", desc := "(I)D" } : Jvm.MethodName)) ∈ lw_all := lw_g (lw_at lw_m7 111 rfl) rfl
theorem q1689 : (Jvm.Cond.code ({ cls := "CopyPrices", name := "meanLength", desc := "(I)D" } : Jvm.MethodName) prog_1_method_51_code (5 : Nat) (Option.some Jvm.ClassFile.FieldType.double)) ∈ lw_all := lw_g (lw_at lw_m7 112 rfl) rfl
theorem q1690 : (Jvm.Cond.static ({ cls := "CopyPrices", name := "lambda$meanLength$11", desc := "(LCopyPrices$Step;)I" } : Jvm.MethodName)) ∈ lw_all := lw_g (lw_at lw_m7 113 rfl) rfl
theorem q1691 : (Jvm.Cond.code ({ cls := "CopyPrices", name := "lambda$meanLength$11", desc := "(LCopyPrices$Step;)I" } : Jvm.MethodName) prog_1_method_66_code (1 : Nat) (Option.some Jvm.ClassFile.FieldType.int)) ∈ lw_all := lw_g (lw_at lw_m7 114 rfl) rfl
theorem q1692 : (Jvm.Cond.static ({ cls := "CopyPrices", name := "lambda$meanLength$12", desc := "(LCopyPrices$Step;)I" } : Jvm.MethodName)) ∈ lw_all := lw_g (lw_at lw_m7 115 rfl) rfl
theorem q1693 : (Jvm.Cond.code ({ cls := "CopyPrices", name := "lambda$meanLength$12", desc := "(LCopyPrices$Step;)I" } : Jvm.MethodName) prog_1_method_65_code (1 : Nat) (Option.some Jvm.ClassFile.FieldType.int)) ∈ lw_all := lw_g (lw_at lw_m7 116 rfl) rfl
theorem q1698 : (Jvm.Cond.instanceMethod ({ cls := "CopyPrices", name := "put", desc := "(II)I" } : Jvm.MethodName)) ∈ lw_all := lw_g (lw_at lw_m7 121 rfl) rfl
theorem q1699 : (Jvm.Cond.selects "CopyPrices" ({ cls := "CopyPrices", name := "put", desc := "(II)I" } : Jvm.MethodName) ({ cls := "CopyPrices", name := "put", desc := "(II)I" } : Jvm.MethodName)) ∈ lw_all := lw_g (lw_at lw_m7 122 rfl) rfl
theorem q1700 : (Jvm.Cond.code ({ cls := "CopyPrices", name := "put", desc := "(II)I" } : Jvm.MethodName) prog_1_method_52_code (5 : Nat) (Option.some Jvm.ClassFile.FieldType.int)) ∈ lw_all := lw_g (lw_at lw_m7 123 rfl) rfl
theorem q1701 : (Jvm.Cond.methodLink "CopyPrices" (342 : Nat) ({ cls := "CopyPrices", name := "remembers", desc := "(II)LCopyPrices$World;" } : Jvm.MethodName)) ∈ lw_all := lw_g (lw_at lw_m7 124 rfl) rfl
theorem q1702 : (Jvm.Cond.privateMethod ({ cls := "CopyPrices", name := "remembers", desc := "(II)LCopyPrices$World;" } : Jvm.MethodName)) ∈ lw_tbl := lw_at lw_m7 125 rfl
theorem q1703 : (Jvm.Cond.instanceMethod ({ cls := "CopyPrices", name := "remembers", desc := "(II)LCopyPrices$World;" } : Jvm.MethodName)) ∈ lw_all := lw_g (lw_at lw_m7 126 rfl) rfl
theorem q1704 : (Jvm.Cond.code ({ cls := "CopyPrices", name := "remembers", desc := "(II)LCopyPrices$World;" } : Jvm.MethodName) prog_1_method_15_code (4 : Nat) (Option.some (Jvm.ClassFile.FieldType.object "CopyPrices$World"))) ∈ lw_all := lw_g (lw_at lw_m7 127 rfl) rfl
theorem q1705 : (Jvm.Cond.methodLink "CopyPrices" (111 : Nat) ({ cls := "java/util/ArrayDeque", name := "removeFirst", desc := "()Ljava/lang/Object;" } : Jvm.MethodName)) ∈ lw_all := lw_g (lw_at lw_m7 128 rfl) rfl
theorem q1734 : (Jvm.Cond.methodLink "CopyPrices" (115 : Nat) ({ cls := "java/util/ArrayDeque", name := "addLast", desc := "(Ljava/lang/Object;)V" } : Jvm.MethodName)) ∈ lw_all := lw_g (lw_at lw_m7 157 rfl) rfl
theorem q1769 : (Jvm.Cond.selects "CopyPrices" ({ cls := "java/lang/Object", name := "getClass", desc := "()Ljava/lang/Class;" } : Jvm.MethodName) ({ cls := "java/lang/Object", name := "getClass", desc := "()Ljava/lang/Class;" } : Jvm.MethodName)) ∈ lw_all := lw_g (lw_at lw_m7 192 rfl) rfl
theorem q1800 : (Jvm.Cond.instanceMethod ({ cls := "CopyPrices", name := "add", desc := "(I)I" } : Jvm.MethodName)) ∈ lw_all := lw_g (lw_at lw_m7 223 rfl) rfl
theorem q1801 : (Jvm.Cond.selects "CopyPrices" ({ cls := "CopyPrices", name := "add", desc := "(I)I" } : Jvm.MethodName) ({ cls := "CopyPrices", name := "add", desc := "(I)I" } : Jvm.MethodName)) ∈ lw_all := lw_g (lw_at lw_m7 224 rfl) rfl
theorem q1802 : (Jvm.Cond.code ({ cls := "CopyPrices", name := "add", desc := "(I)I" } : Jvm.MethodName) prog_1_method_53_code (2 : Nat) (Option.some Jvm.ClassFile.FieldType.int)) ∈ lw_all := lw_g (lw_at lw_m7 225 rfl) rfl
theorem q1803 : (Jvm.Cond.methodLink "CopyPrices" (346 : Nat) ({ cls := "CopyPrices", name := "needState", desc := "(Z)V" } : Jvm.MethodName)) ∈ lw_all := lw_g (lw_at lw_m7 226 rfl) rfl
theorem q1804 : (Jvm.Cond.static ({ cls := "CopyPrices", name := "needState", desc := "(Z)V" } : Jvm.MethodName)) ∈ lw_all := lw_g (lw_at lw_m7 227 rfl) rfl
theorem q1805 : (Jvm.Cond.code ({ cls := "CopyPrices", name := "needState", desc := "(Z)V" } : Jvm.MethodName) prog_1_method_6_code (1 : Nat) (Option.none : Option Jvm.ClassFile.FieldType)) ∈ lw_all := lw_g (lw_at lw_m7 228 rfl) rfl
theorem q1806 : (Jvm.Cond.classLink "CopyPrices" (16 : Nat) "java/lang/IllegalStateException") ∈ lw_all := lw_g (lw_at lw_m7 229 rfl) rfl
theorem q1807 : (Jvm.Cond.methodLink "CopyPrices" (18 : Nat) ({ cls := "java/lang/IllegalStateException", name := "<init>", desc := "()V" } : Jvm.MethodName)) ∈ lw_all := lw_g (lw_at lw_m7 230 rfl) rfl
theorem q1815 : (Jvm.Cond.instanceMethod ({ cls := "CopyPrices", name := "cut", desc := "(I)I" } : Jvm.MethodName)) ∈ lw_all := lw_g (lw_at lw_m7 238 rfl) rfl
theorem q1816 : (Jvm.Cond.selects "CopyPrices" ({ cls := "CopyPrices", name := "cut", desc := "(I)I" } : Jvm.MethodName) ({ cls := "CopyPrices", name := "cut", desc := "(I)I" } : Jvm.MethodName)) ∈ lw_all := lw_g (lw_at lw_m7 239 rfl) rfl
theorem q1817 : (Jvm.Cond.code ({ cls := "CopyPrices", name := "cut", desc := "(I)I" } : Jvm.MethodName) prog_1_method_54_code (3 : Nat) (Option.some Jvm.ClassFile.FieldType.int)) ∈ lw_all := lw_g (lw_at lw_m8 0 rfl) rfl
theorem q1822 : (Jvm.Cond.instanceMethod ({ cls := "CopyPrices", name := "pin", desc := "(IZ)I" } : Jvm.MethodName)) ∈ lw_all := lw_g (lw_at lw_m8 5 rfl) rfl
theorem q1823 : (Jvm.Cond.selects "CopyPrices" ({ cls := "CopyPrices", name := "pin", desc := "(IZ)I" } : Jvm.MethodName) ({ cls := "CopyPrices", name := "pin", desc := "(IZ)I" } : Jvm.MethodName)) ∈ lw_all := lw_g (lw_at lw_m8 6 rfl) rfl
theorem q1824 : (Jvm.Cond.code ({ cls := "CopyPrices", name := "pin", desc := "(IZ)I" } : Jvm.MethodName) prog_1_method_55_code (6 : Nat) (Option.some Jvm.ClassFile.FieldType.int)) ∈ lw_all := lw_g (lw_at lw_m8 7 rfl) rfl
theorem q1825 : (Jvm.Cond.constantLong "CopyPrices" (349 : Nat) (-1 : Int64)) ∈ lw_all := lw_g (lw_at lw_m8 8 rfl) rfl
theorem q1830 : (Jvm.Cond.instanceMethod ({ cls := "CopyPrices", name := "set", desc := "(II)I" } : Jvm.MethodName)) ∈ lw_all := lw_g (lw_at lw_m8 13 rfl) rfl
theorem q1831 : (Jvm.Cond.selects "CopyPrices" ({ cls := "CopyPrices", name := "set", desc := "(II)I" } : Jvm.MethodName) ({ cls := "CopyPrices", name := "set", desc := "(II)I" } : Jvm.MethodName)) ∈ lw_all := lw_g (lw_at lw_m8 14 rfl) rfl
theorem q1832 : (Jvm.Cond.code ({ cls := "CopyPrices", name := "set", desc := "(II)I" } : Jvm.MethodName) prog_1_method_56_code (5 : Nat) (Option.some Jvm.ClassFile.FieldType.int)) ∈ lw_all := lw_g (lw_at lw_m8 15 rfl) rfl
theorem q1837 : (Jvm.Cond.instanceMethod ({ cls := "CopyPrices", name := "setPrice", desc := "(II)I" } : Jvm.MethodName)) ∈ lw_all := lw_g (lw_at lw_m8 20 rfl) rfl
theorem q1838 : (Jvm.Cond.selects "CopyPrices" ({ cls := "CopyPrices", name := "setPrice", desc := "(II)I" } : Jvm.MethodName) ({ cls := "CopyPrices", name := "setPrice", desc := "(II)I" } : Jvm.MethodName)) ∈ lw_all := lw_g (lw_at lw_m8 21 rfl) rfl
theorem q1839 : (Jvm.Cond.code ({ cls := "CopyPrices", name := "setPrice", desc := "(II)I" } : Jvm.MethodName) prog_1_method_57_code (5 : Nat) (Option.some Jvm.ClassFile.FieldType.int)) ∈ lw_all := lw_g (lw_at lw_m8 22 rfl) rfl
theorem q1840 : (Jvm.Cond.constantLong "CopyPrices" (351 : Nat) (40 : Int64)) ∈ lw_all := lw_g (lw_at lw_m8 23 rfl) rfl
theorem q1846 : (Jvm.Cond.instanceMethod ({ cls := "CopyPrices", name := "undo", desc := "()I" } : Jvm.MethodName)) ∈ lw_all := lw_g (lw_at lw_m8 29 rfl) rfl
theorem q1847 : (Jvm.Cond.selects "CopyPrices" ({ cls := "CopyPrices", name := "undo", desc := "()I" } : Jvm.MethodName) ({ cls := "CopyPrices", name := "undo", desc := "()I" } : Jvm.MethodName)) ∈ lw_all := lw_g (lw_at lw_m8 30 rfl) rfl
theorem q1848 : (Jvm.Cond.code ({ cls := "CopyPrices", name := "undo", desc := "()I" } : Jvm.MethodName) prog_1_method_58_code (1 : Nat) (Option.some Jvm.ClassFile.FieldType.int)) ∈ lw_all := lw_g (lw_at lw_m8 31 rfl) rfl
theorem q1849 : (Jvm.Cond.methodLink "CopyPrices" (353 : Nat) ({ cls := "java/util/ArrayDeque", name := "isEmpty", desc := "()Z" } : Jvm.MethodName)) ∈ lw_all := lw_g (lw_at lw_m8 32 rfl) rfl
theorem q1853 : (Jvm.Cond.classLink "CopyPrices" (357 : Nat) "java/util/NoSuchElementException") ∈ lw_all := lw_g (lw_at lw_m8 36 rfl) rfl
theorem q1854 : (Jvm.Cond.methodLink "CopyPrices" (359 : Nat) ({ cls := "java/util/NoSuchElementException", name := "<init>", desc := "()V" } : Jvm.MethodName)) ∈ lw_all := lw_g (lw_at lw_m8 37 rfl) rfl
theorem q1855 : (Jvm.Cond.methodLink "CopyPrices" (360 : Nat) ({ cls := "java/util/ArrayDeque", name := "removeLast", desc := "()Ljava/lang/Object;" } : Jvm.MethodName)) ∈ lw_all := lw_g (lw_at lw_m8 38 rfl) rfl
theorem q1870 : (Jvm.Cond.instanceMethod ({ cls := "CopyPrices", name := "printParse", desc := "(I)I" } : Jvm.MethodName)) ∈ lw_all := lw_g (lw_at lw_m8 53 rfl) rfl
theorem q1871 : (Jvm.Cond.selects "CopyPrices" ({ cls := "CopyPrices", name := "printParse", desc := "(I)I" } : Jvm.MethodName) ({ cls := "CopyPrices", name := "printParse", desc := "(I)I" } : Jvm.MethodName)) ∈ lw_all := lw_g (lw_at lw_m8 54 rfl) rfl
theorem q1872 : (Jvm.Cond.code ({ cls := "CopyPrices", name := "printParse", desc := "(I)I" } : Jvm.MethodName) prog_1_method_60_code (5 : Nat) (Option.some Jvm.ClassFile.FieldType.int)) ∈ lw_all := lw_g (lw_at lw_m8 55 rfl) rfl
theorem q1873 : (Jvm.Cond.methodLink "CopyPrices" (373 : Nat) ({ cls := "CopyPrices$Step", name := "prints", desc := "([BLjava/lang/StringBuilder;)V" } : Jvm.MethodName)) ∈ lw_all := lw_g (lw_at lw_m8 56 rfl) rfl
theorem q1889 : (Jvm.Cond.instanceMethod ({ cls := "CopyPrices", name := "restoreState", desc := "()I" } : Jvm.MethodName)) ∈ lw_all := lw_g (lw_at lw_m8 72 rfl) rfl
theorem q1890 : (Jvm.Cond.selects "CopyPrices" ({ cls := "CopyPrices", name := "restoreState", desc := "()I" } : Jvm.MethodName) ({ cls := "CopyPrices", name := "restoreState", desc := "()I" } : Jvm.MethodName)) ∈ lw_all := lw_g (lw_at lw_m8 73 rfl) rfl
theorem q1891 : (Jvm.Cond.code ({ cls := "CopyPrices", name := "restoreState", desc := "()I" } : Jvm.MethodName) prog_1_method_64_code (1 : Nat) (Option.some Jvm.ClassFile.FieldType.int)) ∈ lw_all := lw_g (lw_at lw_m8 74 rfl) rfl
theorem q2596 : (Jvm.Cond.castable "CopyPrices" "java/lang/Object") ∈ lw_tbl := lw_at lw_m11 59 rfl
theorem in_X1 : ∀ w ∈ wsX10, w ∈ lw_all := lw_in wsX10 [636, 638, 640, 642, 644, 646, 648, 650, 652] (by decide +kernel) (by decide +kernel)
/-! CopyPrices$World -/
set_option maxRecDepth 100000
def RX2 : String := "CopyPrices$World"
def TX2 : u_T := fun k => match k with
  | 0 => ("CopyPrices$World", "letters", "[B", true)
  | 1 => ("CopyPrices$World", "settings", "[I", true)
  | 2 => ("CopyPrices$World", "prices", "[I", true)
  | 3 => ("CopyPrices$World", "accounts", "[I", true)
  | 4 => ("CopyPrices$World", "many", "I", false)
  | 5 => ("CopyPrices$World", "pins", "J", false)
  | _ => ("CopyPrices$World", "chains", "[LCopyPrices$Link;", false)
def tyX2 : Nat → FieldType := fun k => match k with
  | 0 => .array .byte
  | 1 => .array .int
  | 2 => .array .int
  | 3 => .array .int
  | 4 => .int
  | 5 => .long
  | _ => .array (.object "CopyPrices$Link")
abbrev wsX20 : List Cond := u_ws RX2 TX2 7
theorem nmX2 : ∀ a, a < 7 → ∀ b, b < 7 → a ≠ b → (TX2 a).2.1 ≠ (TX2 b).2.1 := by decide +kernel
theorem tyX2_ok : ∀ k, k < 7 → parseFieldDescriptor (TX2 k).2.2.1 = some (tyX2 k) := by decide +kernel
abbrev cX2_init : ByteArray := prog_12_method_1_code
def yX2_init : MethodName := ⟨RX2, "<init>", "()V"⟩
def dkwX2_init_1 : List UInt8 := [79, 183, 0, 3, 42, 180, 0, 9, 8, 16, 31, 16, 9, 184, 0, 13, 177]
abbrev dktX2_init_1 : List UInt8 := dkwX2_init_1 ++ []
def dkwX2_init_0 : List UInt8 := [42, 8, 188, 10, 89, 3, 6, 79, 89, 4, 16, 8, 79, 89, 5, 5, 79, 89, 6, 4, 79, 89, 7, 7]
abbrev dktX2_init_0 : List UInt8 := dkwX2_init_0 ++ dktX2_init_1
theorem dksX2_init_0 : cX2_init.data.toList.drop 0 = dktX2_init_0 := by decide +kernel
theorem dksX2_init_1 : cX2_init.data.toList.drop 24 = dktX2_init_1 := dk_seg dksX2_init_0 24 rfl rfl
theorem dX2_init_0 : decode cX2_init 0 = .ok (.aload_n 0, 1) := dk_42 (dk_at dksX2_init_0 0 rfl rfl)
theorem dX2_init_1 : decode cX2_init 1 = .ok (.iconst 5, 1) := dk_8 (dk_at dksX2_init_0 1 rfl rfl)
theorem dX2_init_2 : decode cX2_init 2 = .ok (.newarray .int, 2) := dk_188_10 (dk_at dksX2_init_0 2 rfl rfl)
theorem dX2_init_4 : decode cX2_init 4 = .ok (.dup, 1) := dk_89 (dk_at dksX2_init_0 4 rfl rfl)
theorem dX2_init_5 : decode cX2_init 5 = .ok (.iconst 0, 1) := dk_3 (dk_at dksX2_init_0 5 rfl rfl)
theorem dX2_init_6 : decode cX2_init 6 = .ok (.iconst 3, 1) := dk_6 (dk_at dksX2_init_0 6 rfl rfl)
theorem dX2_init_7 : decode cX2_init 7 = .ok (.iastore, 1) := dk_79 (dk_at dksX2_init_0 7 rfl rfl)
theorem dX2_init_8 : decode cX2_init 8 = .ok (.dup, 1) := dk_89 (dk_at dksX2_init_0 8 rfl rfl)
theorem dX2_init_9 : decode cX2_init 9 = .ok (.iconst 1, 1) := dk_4 (dk_at dksX2_init_0 9 rfl rfl)
theorem dX2_init_10 : decode cX2_init 10 = .ok (.bipush 8, 2) := dk_16 8 (dk_at dksX2_init_0 10 rfl rfl)
theorem dX2_init_12 : decode cX2_init 12 = .ok (.iastore, 1) := dk_79 (dk_at dksX2_init_0 12 rfl rfl)
theorem dX2_init_13 : decode cX2_init 13 = .ok (.dup, 1) := dk_89 (dk_at dksX2_init_0 13 rfl rfl)
theorem dX2_init_14 : decode cX2_init 14 = .ok (.iconst 2, 1) := dk_5 (dk_at dksX2_init_0 14 rfl rfl)
theorem dX2_init_15 : decode cX2_init 15 = .ok (.iconst 2, 1) := dk_5 (dk_at dksX2_init_0 15 rfl rfl)
theorem dX2_init_16 : decode cX2_init 16 = .ok (.iastore, 1) := dk_79 (dk_at dksX2_init_0 16 rfl rfl)
theorem dX2_init_17 : decode cX2_init 17 = .ok (.dup, 1) := dk_89 (dk_at dksX2_init_0 17 rfl rfl)
theorem dX2_init_18 : decode cX2_init 18 = .ok (.iconst 3, 1) := dk_6 (dk_at dksX2_init_0 18 rfl rfl)
theorem dX2_init_19 : decode cX2_init 19 = .ok (.iconst 1, 1) := dk_4 (dk_at dksX2_init_0 19 rfl rfl)
theorem dX2_init_20 : decode cX2_init 20 = .ok (.iastore, 1) := dk_79 (dk_at dksX2_init_0 20 rfl rfl)
theorem dX2_init_21 : decode cX2_init 21 = .ok (.dup, 1) := dk_89 (dk_at dksX2_init_0 21 rfl rfl)
theorem dX2_init_22 : decode cX2_init 22 = .ok (.iconst 4, 1) := dk_7 (dk_at dksX2_init_0 22 rfl rfl)
theorem dX2_init_23 : decode cX2_init 23 = .ok (.iconst 4, 1) := dk_7 (dk_at dksX2_init_0 23 rfl rfl)
theorem dX2_init_24 : decode cX2_init 24 = .ok (.iastore, 1) := dk_79 (dk_at dksX2_init_1 0 rfl rfl)
theorem dX2_init_25 : decode cX2_init 25 = .ok (.invokespecial 3, 3) := dk_183 0 3 (dk_at dksX2_init_1 1 rfl rfl)
theorem dX2_init_28 : decode cX2_init 28 = .ok (.aload_n 0, 1) := dk_42 (dk_at dksX2_init_1 4 rfl rfl)
theorem dX2_init_29 : decode cX2_init 29 = .ok (.getfield 9, 3) := dk_180 0 9 (dk_at dksX2_init_1 5 rfl rfl)
theorem dX2_init_32 : decode cX2_init 32 = .ok (.iconst 5, 1) := dk_8 (dk_at dksX2_init_1 8 rfl rfl)
theorem dX2_init_33 : decode cX2_init 33 = .ok (.bipush 31, 2) := dk_16 31 (dk_at dksX2_init_1 9 rfl rfl)
theorem dX2_init_35 : decode cX2_init 35 = .ok (.bipush 9, 2) := dk_16 9 (dk_at dksX2_init_1 11 rfl rfl)
theorem dX2_init_37 : decode cX2_init 37 = .ok (.invokestatic 13, 3) := dk_184 0 13 (dk_at dksX2_init_1 13 rfl rfl)
theorem dX2_init_40 : decode cX2_init 40 = .ok (.return_, 1) := dk_177 (dk_at dksX2_init_1 16 rfl rfl)
abbrev cX2_init_2 : ByteArray := prog_12_method_2_code
def yX2_init_2 : MethodName := ⟨RX2, "<init>", "([I)V"⟩
def dkwX2_init_2_2 : List UInt8 := [181, 0, 31, 42, 16, 31, 188, 10, 181, 0, 9, 43, 3, 42, 180, 0, 9, 3, 43, 190, 184, 0, 34, 177]
abbrev dktX2_init_2_2 : List UInt8 := dkwX2_init_2_2 ++ []
def dkwX2_init_2_1 : List UInt8 := [89, 3, 16, 32, 79, 89, 4, 16, 8, 79, 89, 5, 5, 79, 89, 6, 16, 12, 79, 89, 7, 4, 79]
abbrev dktX2_init_2_1 : List UInt8 := dkwX2_init_2_1 ++ dktX2_init_2_2
def dkwX2_init_2_0 : List UInt8 := [42, 183, 0, 19, 42, 16, 64, 188, 8, 181, 0, 24, 42, 16, 6, 188, 10, 181, 0, 28, 42, 8, 188, 10]
abbrev dktX2_init_2_0 : List UInt8 := dkwX2_init_2_0 ++ dktX2_init_2_1
theorem dksX2_init_2_0 : cX2_init_2.data.toList.drop 0 = dktX2_init_2_0 := by decide +kernel
theorem dksX2_init_2_1 : cX2_init_2.data.toList.drop 24 = dktX2_init_2_1 := dk_seg dksX2_init_2_0 24 rfl rfl
theorem dksX2_init_2_2 : cX2_init_2.data.toList.drop 47 = dktX2_init_2_2 := dk_seg dksX2_init_2_1 23 rfl rfl
theorem dX2_init_2_0 : decode cX2_init_2 0 = .ok (.aload_n 0, 1) := dk_42 (dk_at dksX2_init_2_0 0 rfl rfl)
theorem dX2_init_2_1 : decode cX2_init_2 1 = .ok (.invokespecial 19, 3) := dk_183 0 19 (dk_at dksX2_init_2_0 1 rfl rfl)
theorem dX2_init_2_4 : decode cX2_init_2 4 = .ok (.aload_n 0, 1) := dk_42 (dk_at dksX2_init_2_0 4 rfl rfl)
theorem dX2_init_2_5 : decode cX2_init_2 5 = .ok (.bipush 64, 2) := dk_16 64 (dk_at dksX2_init_2_0 5 rfl rfl)
theorem dX2_init_2_7 : decode cX2_init_2 7 = .ok (.newarray .byte, 2) := dk_188_8 (dk_at dksX2_init_2_0 7 rfl rfl)
theorem dX2_init_2_9 : decode cX2_init_2 9 = .ok (.putfield 24, 3) := dk_181 0 24 (dk_at dksX2_init_2_0 9 rfl rfl)
theorem dX2_init_2_12 : decode cX2_init_2 12 = .ok (.aload_n 0, 1) := dk_42 (dk_at dksX2_init_2_0 12 rfl rfl)
theorem dX2_init_2_13 : decode cX2_init_2 13 = .ok (.bipush 6, 2) := dk_16 6 (dk_at dksX2_init_2_0 13 rfl rfl)
theorem dX2_init_2_15 : decode cX2_init_2 15 = .ok (.newarray .int, 2) := dk_188_10 (dk_at dksX2_init_2_0 15 rfl rfl)
theorem dX2_init_2_17 : decode cX2_init_2 17 = .ok (.putfield 28, 3) := dk_181 0 28 (dk_at dksX2_init_2_0 17 rfl rfl)
theorem dX2_init_2_20 : decode cX2_init_2 20 = .ok (.aload_n 0, 1) := dk_42 (dk_at dksX2_init_2_0 20 rfl rfl)
theorem dX2_init_2_21 : decode cX2_init_2 21 = .ok (.iconst 5, 1) := dk_8 (dk_at dksX2_init_2_0 21 rfl rfl)
theorem dX2_init_2_22 : decode cX2_init_2 22 = .ok (.newarray .int, 2) := dk_188_10 (dk_at dksX2_init_2_0 22 rfl rfl)
theorem dX2_init_2_24 : decode cX2_init_2 24 = .ok (.dup, 1) := dk_89 (dk_at dksX2_init_2_1 0 rfl rfl)
theorem dX2_init_2_25 : decode cX2_init_2 25 = .ok (.iconst 0, 1) := dk_3 (dk_at dksX2_init_2_1 1 rfl rfl)
theorem dX2_init_2_26 : decode cX2_init_2 26 = .ok (.bipush 32, 2) := dk_16 32 (dk_at dksX2_init_2_1 2 rfl rfl)
theorem dX2_init_2_28 : decode cX2_init_2 28 = .ok (.iastore, 1) := dk_79 (dk_at dksX2_init_2_1 4 rfl rfl)
theorem dX2_init_2_29 : decode cX2_init_2 29 = .ok (.dup, 1) := dk_89 (dk_at dksX2_init_2_1 5 rfl rfl)
theorem dX2_init_2_30 : decode cX2_init_2 30 = .ok (.iconst 1, 1) := dk_4 (dk_at dksX2_init_2_1 6 rfl rfl)
theorem dX2_init_2_31 : decode cX2_init_2 31 = .ok (.bipush 8, 2) := dk_16 8 (dk_at dksX2_init_2_1 7 rfl rfl)
theorem dX2_init_2_33 : decode cX2_init_2 33 = .ok (.iastore, 1) := dk_79 (dk_at dksX2_init_2_1 9 rfl rfl)
theorem dX2_init_2_34 : decode cX2_init_2 34 = .ok (.dup, 1) := dk_89 (dk_at dksX2_init_2_1 10 rfl rfl)
theorem dX2_init_2_35 : decode cX2_init_2 35 = .ok (.iconst 2, 1) := dk_5 (dk_at dksX2_init_2_1 11 rfl rfl)
theorem dX2_init_2_36 : decode cX2_init_2 36 = .ok (.iconst 2, 1) := dk_5 (dk_at dksX2_init_2_1 12 rfl rfl)
theorem dX2_init_2_37 : decode cX2_init_2 37 = .ok (.iastore, 1) := dk_79 (dk_at dksX2_init_2_1 13 rfl rfl)
theorem dX2_init_2_38 : decode cX2_init_2 38 = .ok (.dup, 1) := dk_89 (dk_at dksX2_init_2_1 14 rfl rfl)
theorem dX2_init_2_39 : decode cX2_init_2 39 = .ok (.iconst 3, 1) := dk_6 (dk_at dksX2_init_2_1 15 rfl rfl)
theorem dX2_init_2_40 : decode cX2_init_2 40 = .ok (.bipush 12, 2) := dk_16 12 (dk_at dksX2_init_2_1 16 rfl rfl)
theorem dX2_init_2_42 : decode cX2_init_2 42 = .ok (.iastore, 1) := dk_79 (dk_at dksX2_init_2_1 18 rfl rfl)
theorem dX2_init_2_43 : decode cX2_init_2 43 = .ok (.dup, 1) := dk_89 (dk_at dksX2_init_2_1 19 rfl rfl)
theorem dX2_init_2_44 : decode cX2_init_2 44 = .ok (.iconst 4, 1) := dk_7 (dk_at dksX2_init_2_1 20 rfl rfl)
theorem dX2_init_2_45 : decode cX2_init_2 45 = .ok (.iconst 1, 1) := dk_4 (dk_at dksX2_init_2_1 21 rfl rfl)
theorem dX2_init_2_46 : decode cX2_init_2 46 = .ok (.iastore, 1) := dk_79 (dk_at dksX2_init_2_1 22 rfl rfl)
theorem dX2_init_2_47 : decode cX2_init_2 47 = .ok (.putfield 31, 3) := dk_181 0 31 (dk_at dksX2_init_2_2 0 rfl rfl)
theorem dX2_init_2_50 : decode cX2_init_2 50 = .ok (.aload_n 0, 1) := dk_42 (dk_at dksX2_init_2_2 3 rfl rfl)
theorem dX2_init_2_51 : decode cX2_init_2 51 = .ok (.bipush 31, 2) := dk_16 31 (dk_at dksX2_init_2_2 4 rfl rfl)
theorem dX2_init_2_53 : decode cX2_init_2 53 = .ok (.newarray .int, 2) := dk_188_10 (dk_at dksX2_init_2_2 6 rfl rfl)
theorem dX2_init_2_55 : decode cX2_init_2 55 = .ok (.putfield 9, 3) := dk_181 0 9 (dk_at dksX2_init_2_2 8 rfl rfl)
theorem dX2_init_2_58 : decode cX2_init_2 58 = .ok (.aload_n 1, 1) := dk_43 (dk_at dksX2_init_2_2 11 rfl rfl)
theorem dX2_init_2_59 : decode cX2_init_2 59 = .ok (.iconst 0, 1) := dk_3 (dk_at dksX2_init_2_2 12 rfl rfl)
theorem dX2_init_2_60 : decode cX2_init_2 60 = .ok (.aload_n 0, 1) := dk_42 (dk_at dksX2_init_2_2 13 rfl rfl)
theorem dX2_init_2_61 : decode cX2_init_2 61 = .ok (.getfield 9, 3) := dk_180 0 9 (dk_at dksX2_init_2_2 14 rfl rfl)
theorem dX2_init_2_64 : decode cX2_init_2 64 = .ok (.iconst 0, 1) := dk_3 (dk_at dksX2_init_2_2 17 rfl rfl)
theorem dX2_init_2_65 : decode cX2_init_2 65 = .ok (.aload_n 1, 1) := dk_43 (dk_at dksX2_init_2_2 18 rfl rfl)
theorem dX2_init_2_66 : decode cX2_init_2 66 = .ok (.arraylength, 1) := dk_190 (dk_at dksX2_init_2_2 19 rfl rfl)
theorem dX2_init_2_67 : decode cX2_init_2 67 = .ok (.invokestatic 34, 3) := dk_184 0 34 (dk_at dksX2_init_2_2 20 rfl rfl)
theorem dX2_init_2_70 : decode cX2_init_2 70 = .ok (.return_, 1) := dk_177 (dk_at dksX2_init_2_2 23 rfl rfl)
abbrev cX2_adds : ByteArray := prog_12_method_4_code
def yX2_adds : MethodName := ⟨RX2, "adds", "(I)V"⟩
def dkwX2_adds_1 : List UInt8 := [181, 0, 49, 177]
abbrev dktX2_adds_1 : List UInt8 := dkwX2_adds_1 ++ []
def dkwX2_adds_0 : List UInt8 := [42, 180, 0, 24, 42, 180, 0, 41, 27, 145, 84, 42, 89, 180, 0, 41, 4, 96, 181, 0, 41, 42, 1]
abbrev dktX2_adds_0 : List UInt8 := dkwX2_adds_0 ++ dktX2_adds_1
theorem dksX2_adds_0 : cX2_adds.data.toList.drop 0 = dktX2_adds_0 := by decide +kernel
theorem dksX2_adds_1 : cX2_adds.data.toList.drop 23 = dktX2_adds_1 := dk_seg dksX2_adds_0 23 rfl rfl
theorem dX2_adds_0 : decode cX2_adds 0 = .ok (.aload_n 0, 1) := dk_42 (dk_at dksX2_adds_0 0 rfl rfl)
theorem dX2_adds_1 : decode cX2_adds 1 = .ok (.getfield 24, 3) := dk_180 0 24 (dk_at dksX2_adds_0 1 rfl rfl)
theorem dX2_adds_4 : decode cX2_adds 4 = .ok (.aload_n 0, 1) := dk_42 (dk_at dksX2_adds_0 4 rfl rfl)
theorem dX2_adds_5 : decode cX2_adds 5 = .ok (.getfield 41, 3) := dk_180 0 41 (dk_at dksX2_adds_0 5 rfl rfl)
theorem dX2_adds_8 : decode cX2_adds 8 = .ok (.iload_n 1, 1) := dk_27 (dk_at dksX2_adds_0 8 rfl rfl)
theorem dX2_adds_9 : decode cX2_adds 9 = .ok (.i2b, 1) := dk_145 (dk_at dksX2_adds_0 9 rfl rfl)
theorem dX2_adds_10 : decode cX2_adds 10 = .ok (.bastore, 1) := dk_84 (dk_at dksX2_adds_0 10 rfl rfl)
theorem dX2_adds_11 : decode cX2_adds 11 = .ok (.aload_n 0, 1) := dk_42 (dk_at dksX2_adds_0 11 rfl rfl)
theorem dX2_adds_12 : decode cX2_adds 12 = .ok (.dup, 1) := dk_89 (dk_at dksX2_adds_0 12 rfl rfl)
theorem dX2_adds_13 : decode cX2_adds 13 = .ok (.getfield 41, 3) := dk_180 0 41 (dk_at dksX2_adds_0 13 rfl rfl)
theorem dX2_adds_16 : decode cX2_adds 16 = .ok (.iconst 1, 1) := dk_4 (dk_at dksX2_adds_0 16 rfl rfl)
theorem dX2_adds_17 : decode cX2_adds 17 = .ok (.iadd, 1) := dk_96 (dk_at dksX2_adds_0 17 rfl rfl)
theorem dX2_adds_18 : decode cX2_adds 18 = .ok (.putfield 41, 3) := dk_181 0 41 (dk_at dksX2_adds_0 18 rfl rfl)
theorem dX2_adds_21 : decode cX2_adds 21 = .ok (.aload_n 0, 1) := dk_42 (dk_at dksX2_adds_0 21 rfl rfl)
theorem dX2_adds_22 : decode cX2_adds 22 = .ok (.aconst_null, 1) := dk_1 (dk_at dksX2_adds_0 22 rfl rfl)
theorem dX2_adds_23 : decode cX2_adds 23 = .ok (.putfield 49, 3) := dk_181 0 49 (dk_at dksX2_adds_1 0 rfl rfl)
theorem dX2_adds_26 : decode cX2_adds 26 = .ok (.return_, 1) := dk_177 (dk_at dksX2_adds_1 3 rfl rfl)
abbrev cX2_isPinned : ByteArray := prog_12_method_5_code
def yX2_isPinned : MethodName := ⟨RX2, "isPinned", "(I)Z"⟩
def dkwX2_isPinned_0 : List UInt8 := [42, 180, 0, 45, 27, 125, 10, 127, 10, 148, 154, 0, 7, 4, 167, 0, 4, 3, 172]
abbrev dktX2_isPinned_0 : List UInt8 := dkwX2_isPinned_0 ++ []
theorem dksX2_isPinned_0 : cX2_isPinned.data.toList.drop 0 = dktX2_isPinned_0 := by decide +kernel
theorem dX2_isPinned_0 : decode cX2_isPinned 0 = .ok (.aload_n 0, 1) := dk_42 (dk_at dksX2_isPinned_0 0 rfl rfl)
theorem dX2_isPinned_1 : decode cX2_isPinned 1 = .ok (.getfield 45, 3) := dk_180 0 45 (dk_at dksX2_isPinned_0 1 rfl rfl)
theorem dX2_isPinned_4 : decode cX2_isPinned 4 = .ok (.iload_n 1, 1) := dk_27 (dk_at dksX2_isPinned_0 4 rfl rfl)
theorem dX2_isPinned_5 : decode cX2_isPinned 5 = .ok (.lushr, 1) := dk_125 (dk_at dksX2_isPinned_0 5 rfl rfl)
theorem dX2_isPinned_6 : decode cX2_isPinned 6 = .ok (.lconst 1, 1) := dk_10 (dk_at dksX2_isPinned_0 6 rfl rfl)
theorem dX2_isPinned_7 : decode cX2_isPinned 7 = .ok (.land, 1) := dk_127 (dk_at dksX2_isPinned_0 7 rfl rfl)
theorem dX2_isPinned_8 : decode cX2_isPinned 8 = .ok (.lconst 1, 1) := dk_10 (dk_at dksX2_isPinned_0 8 rfl rfl)
theorem dX2_isPinned_9 : decode cX2_isPinned 9 = .ok (.lcmp, 1) := dk_148 (dk_at dksX2_isPinned_0 9 rfl rfl)
theorem dX2_isPinned_10 : decode cX2_isPinned 10 = .ok (.ifCond .ne 7, 3) := dk_154 0 7 (dk_at dksX2_isPinned_0 10 rfl rfl)
theorem dX2_isPinned_13 : decode cX2_isPinned 13 = .ok (.iconst 1, 1) := dk_4 (dk_at dksX2_isPinned_0 13 rfl rfl)
theorem dX2_isPinned_14 : decode cX2_isPinned 14 = .ok (.goto 4, 3) := dk_167 0 4 (dk_at dksX2_isPinned_0 14 rfl rfl)
theorem dX2_isPinned_17 : decode cX2_isPinned 17 = .ok (.iconst 0, 1) := dk_3 (dk_at dksX2_isPinned_0 17 rfl rfl)
theorem dX2_isPinned_18 : decode cX2_isPinned 18 = .ok (.ireturn, 1) := dk_172 (dk_at dksX2_isPinned_0 18 rfl rfl)
abbrev cX2_bestPrice : ByteArray := prog_12_method_27_code
def yX2_bestPrice : MethodName := ⟨RX2, "bestPrice", "(LCopyPrices$Table;)I"⟩
def dkwX2_bestPrice_0 : List UInt8 := [43, 42, 182, 0, 169, 3, 3, 3, 182, 0, 198, 172]
abbrev dktX2_bestPrice_0 : List UInt8 := dkwX2_bestPrice_0 ++ []
theorem dksX2_bestPrice_0 : cX2_bestPrice.data.toList.drop 0 = dktX2_bestPrice_0 := by decide +kernel
theorem dX2_bestPrice_0 : decode cX2_bestPrice 0 = .ok (.aload_n 1, 1) := dk_43 (dk_at dksX2_bestPrice_0 0 rfl rfl)
theorem dX2_bestPrice_1 : decode cX2_bestPrice 1 = .ok (.aload_n 0, 1) := dk_42 (dk_at dksX2_bestPrice_0 1 rfl rfl)
theorem dX2_bestPrice_2 : decode cX2_bestPrice 2 = .ok (.invokevirtual 169, 3) := dk_182 0 169 (dk_at dksX2_bestPrice_0 2 rfl rfl)
theorem dX2_bestPrice_5 : decode cX2_bestPrice 5 = .ok (.iconst 0, 1) := dk_3 (dk_at dksX2_bestPrice_0 5 rfl rfl)
theorem dX2_bestPrice_6 : decode cX2_bestPrice 6 = .ok (.iconst 0, 1) := dk_3 (dk_at dksX2_bestPrice_0 6 rfl rfl)
theorem dX2_bestPrice_7 : decode cX2_bestPrice 7 = .ok (.iconst 0, 1) := dk_3 (dk_at dksX2_bestPrice_0 7 rfl rfl)
theorem dX2_bestPrice_8 : decode cX2_bestPrice 8 = .ok (.invokevirtual 198, 3) := dk_182 0 198 (dk_at dksX2_bestPrice_0 8 rfl rfl)
theorem dX2_bestPrice_11 : decode cX2_bestPrice 11 = .ok (.ireturn, 1) := dk_172 (dk_at dksX2_bestPrice_0 11 rfl rfl)
abbrev cX2_candidates : ByteArray := prog_12_method_9_code
def yX2_candidates : MethodName := ⟨RX2, "candidates", "(I)I"⟩
def dkwX2_candidates_0 : List UInt8 := [42, 180, 0, 31, 4, 46, 42, 27, 182, 0, 68, 184, 0, 71, 172]
abbrev dktX2_candidates_0 : List UInt8 := dkwX2_candidates_0 ++ []
theorem dksX2_candidates_0 : cX2_candidates.data.toList.drop 0 = dktX2_candidates_0 := by decide +kernel
theorem dX2_candidates_0 : decode cX2_candidates 0 = .ok (.aload_n 0, 1) := dk_42 (dk_at dksX2_candidates_0 0 rfl rfl)
theorem dX2_candidates_1 : decode cX2_candidates 1 = .ok (.getfield 31, 3) := dk_180 0 31 (dk_at dksX2_candidates_0 1 rfl rfl)
theorem dX2_candidates_4 : decode cX2_candidates 4 = .ok (.iconst 1, 1) := dk_4 (dk_at dksX2_candidates_0 4 rfl rfl)
theorem dX2_candidates_5 : decode cX2_candidates 5 = .ok (.iaload, 1) := dk_46 (dk_at dksX2_candidates_0 5 rfl rfl)
theorem dX2_candidates_6 : decode cX2_candidates 6 = .ok (.aload_n 0, 1) := dk_42 (dk_at dksX2_candidates_0 6 rfl rfl)
theorem dX2_candidates_7 : decode cX2_candidates 7 = .ok (.iload_n 1, 1) := dk_27 (dk_at dksX2_candidates_0 7 rfl rfl)
theorem dX2_candidates_8 : decode cX2_candidates 8 = .ok (.invokevirtual 68, 3) := dk_182 0 68 (dk_at dksX2_candidates_0 8 rfl rfl)
theorem dX2_candidates_11 : decode cX2_candidates 11 = .ok (.invokestatic 71, 3) := dk_184 0 71 (dk_at dksX2_candidates_0 11 rfl rfl)
theorem dX2_candidates_14 : decode cX2_candidates 14 = .ok (.ireturn, 1) := dk_172 (dk_at dksX2_candidates_0 14 rfl rfl)
abbrev cX2_chainOf : ByteArray := prog_12_method_8_code
def yX2_chainOf : MethodName := ⟨RX2, "chainOf", "(I)I"⟩
def dkwX2_chainOf_1 : List UInt8 := [182, 0, 65, 172]
abbrev dktX2_chainOf_1 : List UInt8 := dkwX2_chainOf_1 ++ []
def dkwX2_chainOf_0 : List UInt8 := [42, 27, 182, 0, 61, 77, 44, 199, 0, 7, 3, 167, 0, 15, 44, 27, 42, 180, 0, 31, 3, 46, 100]
abbrev dktX2_chainOf_0 : List UInt8 := dkwX2_chainOf_0 ++ dktX2_chainOf_1
theorem dksX2_chainOf_0 : cX2_chainOf.data.toList.drop 0 = dktX2_chainOf_0 := by decide +kernel
theorem dksX2_chainOf_1 : cX2_chainOf.data.toList.drop 23 = dktX2_chainOf_1 := dk_seg dksX2_chainOf_0 23 rfl rfl
theorem dX2_chainOf_0 : decode cX2_chainOf 0 = .ok (.aload_n 0, 1) := dk_42 (dk_at dksX2_chainOf_0 0 rfl rfl)
theorem dX2_chainOf_1 : decode cX2_chainOf 1 = .ok (.iload_n 1, 1) := dk_27 (dk_at dksX2_chainOf_0 1 rfl rfl)
theorem dX2_chainOf_2 : decode cX2_chainOf 2 = .ok (.invokevirtual 61, 3) := dk_182 0 61 (dk_at dksX2_chainOf_0 2 rfl rfl)
theorem dX2_chainOf_5 : decode cX2_chainOf 5 = .ok (.astore_n 2, 1) := dk_77 (dk_at dksX2_chainOf_0 5 rfl rfl)
theorem dX2_chainOf_6 : decode cX2_chainOf 6 = .ok (.aload_n 2, 1) := dk_44 (dk_at dksX2_chainOf_0 6 rfl rfl)
theorem dX2_chainOf_7 : decode cX2_chainOf 7 = .ok (.ifnonnull 7, 3) := dk_199 0 7 (dk_at dksX2_chainOf_0 7 rfl rfl)
theorem dX2_chainOf_10 : decode cX2_chainOf 10 = .ok (.iconst 0, 1) := dk_3 (dk_at dksX2_chainOf_0 10 rfl rfl)
theorem dX2_chainOf_11 : decode cX2_chainOf 11 = .ok (.goto 15, 3) := dk_167 0 15 (dk_at dksX2_chainOf_0 11 rfl rfl)
theorem dX2_chainOf_14 : decode cX2_chainOf 14 = .ok (.aload_n 2, 1) := dk_44 (dk_at dksX2_chainOf_0 14 rfl rfl)
theorem dX2_chainOf_15 : decode cX2_chainOf 15 = .ok (.iload_n 1, 1) := dk_27 (dk_at dksX2_chainOf_0 15 rfl rfl)
theorem dX2_chainOf_16 : decode cX2_chainOf 16 = .ok (.aload_n 0, 1) := dk_42 (dk_at dksX2_chainOf_0 16 rfl rfl)
theorem dX2_chainOf_17 : decode cX2_chainOf 17 = .ok (.getfield 31, 3) := dk_180 0 31 (dk_at dksX2_chainOf_0 17 rfl rfl)
theorem dX2_chainOf_20 : decode cX2_chainOf 20 = .ok (.iconst 0, 1) := dk_3 (dk_at dksX2_chainOf_0 20 rfl rfl)
theorem dX2_chainOf_21 : decode cX2_chainOf 21 = .ok (.iaload, 1) := dk_46 (dk_at dksX2_chainOf_0 21 rfl rfl)
theorem dX2_chainOf_22 : decode cX2_chainOf 22 = .ok (.isub, 1) := dk_100 (dk_at dksX2_chainOf_0 22 rfl rfl)
theorem dX2_chainOf_23 : decode cX2_chainOf 23 = .ok (.invokevirtual 65, 3) := dk_182 0 65 (dk_at dksX2_chainOf_1 0 rfl rfl)
theorem dX2_chainOf_26 : decode cX2_chainOf 26 = .ok (.ireturn, 1) := dk_172 (dk_at dksX2_chainOf_1 3 rfl rfl)
abbrev cX2_chain : ByteArray := prog_12_method_7_code
def yX2_chain : MethodName := ⟨RX2, "chain", "(I)LCopyPrices$Link;"⟩
def dkwX2_chain_0 : List UInt8 := [42, 180, 0, 49, 199, 0, 7, 42, 182, 0, 58, 42, 180, 0, 49, 27, 50, 176]
abbrev dktX2_chain_0 : List UInt8 := dkwX2_chain_0 ++ []
theorem dksX2_chain_0 : cX2_chain.data.toList.drop 0 = dktX2_chain_0 := by decide +kernel
theorem dX2_chain_0 : decode cX2_chain 0 = .ok (.aload_n 0, 1) := dk_42 (dk_at dksX2_chain_0 0 rfl rfl)
theorem dX2_chain_1 : decode cX2_chain 1 = .ok (.getfield 49, 3) := dk_180 0 49 (dk_at dksX2_chain_0 1 rfl rfl)
theorem dX2_chain_4 : decode cX2_chain 4 = .ok (.ifnonnull 7, 3) := dk_199 0 7 (dk_at dksX2_chain_0 4 rfl rfl)
theorem dX2_chain_7 : decode cX2_chain 7 = .ok (.aload_n 0, 1) := dk_42 (dk_at dksX2_chain_0 7 rfl rfl)
theorem dX2_chain_8 : decode cX2_chain 8 = .ok (.invokevirtual 58, 3) := dk_182 0 58 (dk_at dksX2_chain_0 8 rfl rfl)
theorem dX2_chain_11 : decode cX2_chain 11 = .ok (.aload_n 0, 1) := dk_42 (dk_at dksX2_chain_0 11 rfl rfl)
theorem dX2_chain_12 : decode cX2_chain 12 = .ok (.getfield 49, 3) := dk_180 0 49 (dk_at dksX2_chain_0 12 rfl rfl)
theorem dX2_chain_15 : decode cX2_chain 15 = .ok (.iload_n 1, 1) := dk_27 (dk_at dksX2_chain_0 15 rfl rfl)
theorem dX2_chain_16 : decode cX2_chain 16 = .ok (.aaload, 1) := dk_50 (dk_at dksX2_chain_0 16 rfl rfl)
theorem dX2_chain_17 : decode cX2_chain 17 = .ok (.areturn, 1) := dk_176 (dk_at dksX2_chain_0 17 rfl rfl)
abbrev cX2_lays : ByteArray := prog_12_method_6_code
def yX2_lays : MethodName := ⟨RX2, "lays", "()V"⟩
def dkwX2_lays_3 : List UInt8 := [132, 2, 1, 167, 255, 201, 177]
abbrev dktX2_lays_3 : List UInt8 := dkwX2_lays_3 ++ []
def dkwX2_lays_2 : List UInt8 := [62, 42, 180, 0, 49, 28, 43, 29, 50, 83, 43, 29, 187, 0, 53, 89, 28, 43, 29, 50, 183, 0, 55, 83]
abbrev dktX2_lays_2 : List UInt8 := dkwX2_lays_2 ++ dktX2_lays_3
def dkwX2_lays_1 : List UInt8 := [180, 0, 41, 162, 0, 51, 16, 26, 42, 180, 0, 24, 28, 51, 104, 42, 180, 0, 24, 28, 4, 96, 51, 96]
abbrev dktX2_lays_1 : List UInt8 := dkwX2_lays_1 ++ dktX2_lays_2
def dkwX2_lays_0 : List UInt8 := [42, 16, 64, 189, 0, 53, 181, 0, 49, 17, 2, 164, 189, 0, 53, 76, 3, 61, 28, 4, 96, 42]
abbrev dktX2_lays_0 : List UInt8 := dkwX2_lays_0 ++ dktX2_lays_1
theorem dksX2_lays_0 : cX2_lays.data.toList.drop 0 = dktX2_lays_0 := by decide +kernel
theorem dksX2_lays_1 : cX2_lays.data.toList.drop 22 = dktX2_lays_1 := dk_seg dksX2_lays_0 22 rfl rfl
theorem dksX2_lays_2 : cX2_lays.data.toList.drop 46 = dktX2_lays_2 := dk_seg dksX2_lays_1 24 rfl rfl
theorem dksX2_lays_3 : cX2_lays.data.toList.drop 70 = dktX2_lays_3 := dk_seg dksX2_lays_2 24 rfl rfl
theorem dX2_lays_0 : decode cX2_lays 0 = .ok (.aload_n 0, 1) := dk_42 (dk_at dksX2_lays_0 0 rfl rfl)
theorem dX2_lays_1 : decode cX2_lays 1 = .ok (.bipush 64, 2) := dk_16 64 (dk_at dksX2_lays_0 1 rfl rfl)
theorem dX2_lays_3 : decode cX2_lays 3 = .ok (.anewarray 53, 3) := dk_189 0 53 (dk_at dksX2_lays_0 3 rfl rfl)
theorem dX2_lays_6 : decode cX2_lays 6 = .ok (.putfield 49, 3) := dk_181 0 49 (dk_at dksX2_lays_0 6 rfl rfl)
theorem dX2_lays_9 : decode cX2_lays 9 = .ok (.sipush 676, 3) := dk_17 2 164 (dk_at dksX2_lays_0 9 rfl rfl)
theorem dX2_lays_12 : decode cX2_lays 12 = .ok (.anewarray 53, 3) := dk_189 0 53 (dk_at dksX2_lays_0 12 rfl rfl)
theorem dX2_lays_15 : decode cX2_lays 15 = .ok (.astore_n 1, 1) := dk_76 (dk_at dksX2_lays_0 15 rfl rfl)
theorem dX2_lays_16 : decode cX2_lays 16 = .ok (.iconst 0, 1) := dk_3 (dk_at dksX2_lays_0 16 rfl rfl)
theorem dX2_lays_17 : decode cX2_lays 17 = .ok (.istore_n 2, 1) := dk_61 (dk_at dksX2_lays_0 17 rfl rfl)
theorem dX2_lays_18 : decode cX2_lays 18 = .ok (.iload_n 2, 1) := dk_28 (dk_at dksX2_lays_0 18 rfl rfl)
theorem dX2_lays_19 : decode cX2_lays 19 = .ok (.iconst 1, 1) := dk_4 (dk_at dksX2_lays_0 19 rfl rfl)
theorem dX2_lays_20 : decode cX2_lays 20 = .ok (.iadd, 1) := dk_96 (dk_at dksX2_lays_0 20 rfl rfl)
theorem dX2_lays_21 : decode cX2_lays 21 = .ok (.aload_n 0, 1) := dk_42 (dk_at dksX2_lays_0 21 rfl rfl)
theorem dX2_lays_22 : decode cX2_lays 22 = .ok (.getfield 41, 3) := dk_180 0 41 (dk_at dksX2_lays_1 0 rfl rfl)
theorem dX2_lays_25 : decode cX2_lays 25 = .ok (.if_icmp .ge 51, 3) := dk_162 0 51 (dk_at dksX2_lays_1 3 rfl rfl)
theorem dX2_lays_28 : decode cX2_lays 28 = .ok (.bipush 26, 2) := dk_16 26 (dk_at dksX2_lays_1 6 rfl rfl)
theorem dX2_lays_30 : decode cX2_lays 30 = .ok (.aload_n 0, 1) := dk_42 (dk_at dksX2_lays_1 8 rfl rfl)
theorem dX2_lays_31 : decode cX2_lays 31 = .ok (.getfield 24, 3) := dk_180 0 24 (dk_at dksX2_lays_1 9 rfl rfl)
theorem dX2_lays_34 : decode cX2_lays 34 = .ok (.iload_n 2, 1) := dk_28 (dk_at dksX2_lays_1 12 rfl rfl)
theorem dX2_lays_35 : decode cX2_lays 35 = .ok (.baload, 1) := dk_51 (dk_at dksX2_lays_1 13 rfl rfl)
theorem dX2_lays_36 : decode cX2_lays 36 = .ok (.imul, 1) := dk_104 (dk_at dksX2_lays_1 14 rfl rfl)
theorem dX2_lays_37 : decode cX2_lays 37 = .ok (.aload_n 0, 1) := dk_42 (dk_at dksX2_lays_1 15 rfl rfl)
theorem dX2_lays_38 : decode cX2_lays 38 = .ok (.getfield 24, 3) := dk_180 0 24 (dk_at dksX2_lays_1 16 rfl rfl)
theorem dX2_lays_41 : decode cX2_lays 41 = .ok (.iload_n 2, 1) := dk_28 (dk_at dksX2_lays_1 19 rfl rfl)
theorem dX2_lays_42 : decode cX2_lays 42 = .ok (.iconst 1, 1) := dk_4 (dk_at dksX2_lays_1 20 rfl rfl)
theorem dX2_lays_43 : decode cX2_lays 43 = .ok (.iadd, 1) := dk_96 (dk_at dksX2_lays_1 21 rfl rfl)
theorem dX2_lays_44 : decode cX2_lays 44 = .ok (.baload, 1) := dk_51 (dk_at dksX2_lays_1 22 rfl rfl)
theorem dX2_lays_45 : decode cX2_lays 45 = .ok (.iadd, 1) := dk_96 (dk_at dksX2_lays_1 23 rfl rfl)
theorem dX2_lays_46 : decode cX2_lays 46 = .ok (.istore_n 3, 1) := dk_62 (dk_at dksX2_lays_2 0 rfl rfl)
theorem dX2_lays_47 : decode cX2_lays 47 = .ok (.aload_n 0, 1) := dk_42 (dk_at dksX2_lays_2 1 rfl rfl)
theorem dX2_lays_48 : decode cX2_lays 48 = .ok (.getfield 49, 3) := dk_180 0 49 (dk_at dksX2_lays_2 2 rfl rfl)
theorem dX2_lays_51 : decode cX2_lays 51 = .ok (.iload_n 2, 1) := dk_28 (dk_at dksX2_lays_2 5 rfl rfl)
theorem dX2_lays_52 : decode cX2_lays 52 = .ok (.aload_n 1, 1) := dk_43 (dk_at dksX2_lays_2 6 rfl rfl)
theorem dX2_lays_53 : decode cX2_lays 53 = .ok (.iload_n 3, 1) := dk_29 (dk_at dksX2_lays_2 7 rfl rfl)
theorem dX2_lays_54 : decode cX2_lays 54 = .ok (.aaload, 1) := dk_50 (dk_at dksX2_lays_2 8 rfl rfl)
theorem dX2_lays_55 : decode cX2_lays 55 = .ok (.aastore, 1) := dk_83 (dk_at dksX2_lays_2 9 rfl rfl)
theorem dX2_lays_56 : decode cX2_lays 56 = .ok (.aload_n 1, 1) := dk_43 (dk_at dksX2_lays_2 10 rfl rfl)
theorem dX2_lays_57 : decode cX2_lays 57 = .ok (.iload_n 3, 1) := dk_29 (dk_at dksX2_lays_2 11 rfl rfl)
theorem dX2_lays_58 : decode cX2_lays 58 = .ok (.new 53, 3) := dk_187 0 53 (dk_at dksX2_lays_2 12 rfl rfl)
theorem dX2_lays_61 : decode cX2_lays 61 = .ok (.dup, 1) := dk_89 (dk_at dksX2_lays_2 15 rfl rfl)
theorem dX2_lays_62 : decode cX2_lays 62 = .ok (.iload_n 2, 1) := dk_28 (dk_at dksX2_lays_2 16 rfl rfl)
theorem dX2_lays_63 : decode cX2_lays 63 = .ok (.aload_n 1, 1) := dk_43 (dk_at dksX2_lays_2 17 rfl rfl)
theorem dX2_lays_64 : decode cX2_lays 64 = .ok (.iload_n 3, 1) := dk_29 (dk_at dksX2_lays_2 18 rfl rfl)
theorem dX2_lays_65 : decode cX2_lays 65 = .ok (.aaload, 1) := dk_50 (dk_at dksX2_lays_2 19 rfl rfl)
theorem dX2_lays_66 : decode cX2_lays 66 = .ok (.invokespecial 55, 3) := dk_183 0 55 (dk_at dksX2_lays_2 20 rfl rfl)
theorem dX2_lays_69 : decode cX2_lays 69 = .ok (.aastore, 1) := dk_83 (dk_at dksX2_lays_2 23 rfl rfl)
theorem dX2_lays_70 : decode cX2_lays 70 = .ok (.iinc 2 1, 3) := dk_132 2 1 (dk_at dksX2_lays_3 0 rfl rfl)
theorem dX2_lays_73 : decode cX2_lays 73 = .ok (.goto (-55), 3) := dk_167 255 201 (dk_at dksX2_lays_3 3 rfl rfl)
theorem dX2_lays_76 : decode cX2_lays 76 = .ok (.return_, 1) := dk_177 (dk_at dksX2_lays_3 6 rfl rfl)
abbrev cX2_candidate : ByteArray := prog_12_method_10_code
def yX2_candidate : MethodName := ⟨RX2, "candidate", "(II)I"⟩
def dkwX2_candidate_0 : List UInt8 := [42, 27, 182, 0, 61, 28, 182, 0, 77, 180, 0, 80, 172]
abbrev dktX2_candidate_0 : List UInt8 := dkwX2_candidate_0 ++ []
theorem dksX2_candidate_0 : cX2_candidate.data.toList.drop 0 = dktX2_candidate_0 := by decide +kernel
theorem dX2_candidate_0 : decode cX2_candidate 0 = .ok (.aload_n 0, 1) := dk_42 (dk_at dksX2_candidate_0 0 rfl rfl)
theorem dX2_candidate_1 : decode cX2_candidate 1 = .ok (.iload_n 1, 1) := dk_27 (dk_at dksX2_candidate_0 1 rfl rfl)
theorem dX2_candidate_2 : decode cX2_candidate 2 = .ok (.invokevirtual 61, 3) := dk_182 0 61 (dk_at dksX2_candidate_0 2 rfl rfl)
theorem dX2_candidate_5 : decode cX2_candidate 5 = .ok (.iload_n 2, 1) := dk_28 (dk_at dksX2_candidate_0 5 rfl rfl)
theorem dX2_candidate_6 : decode cX2_candidate 6 = .ok (.invokevirtual 77, 3) := dk_182 0 77 (dk_at dksX2_candidate_0 6 rfl rfl)
theorem dX2_candidate_9 : decode cX2_candidate 9 = .ok (.getfield 80, 3) := dk_180 0 80 (dk_at dksX2_candidate_0 9 rfl rfl)
theorem dX2_candidate_12 : decode cX2_candidate 12 = .ok (.ireturn, 1) := dk_172 (dk_at dksX2_candidate_0 12 rfl rfl)
abbrev cX2_longest : ByteArray := prog_12_method_12_code
def yX2_longest : MethodName := ⟨RX2, "longest", "(II)I"⟩
def dkwX2_longest_2 : List UInt8 := [180, 0, 31, 5, 46, 162, 0, 7, 3, 167, 0, 5, 21, 4, 172]
abbrev dktX2_longest_2 : List UInt8 := dkwX2_longest_2 ++ []
def dkwX2_longest_1 : List UInt8 := [162, 0, 20, 42, 27, 21, 4, 96, 182, 0, 86, 154, 0, 9, 132, 4, 1, 167, 255, 236, 21, 4, 42]
abbrev dktX2_longest_1 : List UInt8 := dkwX2_longest_1 ++ dktX2_longest_2
def dkwX2_longest_0 : List UInt8 := [42, 180, 0, 31, 6, 46, 42, 27, 28, 182, 0, 83, 184, 0, 71, 62, 3, 54, 4, 21, 4, 29]
abbrev dktX2_longest_0 : List UInt8 := dkwX2_longest_0 ++ dktX2_longest_1
theorem dksX2_longest_0 : cX2_longest.data.toList.drop 0 = dktX2_longest_0 := by decide +kernel
theorem dksX2_longest_1 : cX2_longest.data.toList.drop 22 = dktX2_longest_1 := dk_seg dksX2_longest_0 22 rfl rfl
theorem dksX2_longest_2 : cX2_longest.data.toList.drop 45 = dktX2_longest_2 := dk_seg dksX2_longest_1 23 rfl rfl
theorem dX2_longest_0 : decode cX2_longest 0 = .ok (.aload_n 0, 1) := dk_42 (dk_at dksX2_longest_0 0 rfl rfl)
theorem dX2_longest_1 : decode cX2_longest 1 = .ok (.getfield 31, 3) := dk_180 0 31 (dk_at dksX2_longest_0 1 rfl rfl)
theorem dX2_longest_4 : decode cX2_longest 4 = .ok (.iconst 3, 1) := dk_6 (dk_at dksX2_longest_0 4 rfl rfl)
theorem dX2_longest_5 : decode cX2_longest 5 = .ok (.iaload, 1) := dk_46 (dk_at dksX2_longest_0 5 rfl rfl)
theorem dX2_longest_6 : decode cX2_longest 6 = .ok (.aload_n 0, 1) := dk_42 (dk_at dksX2_longest_0 6 rfl rfl)
theorem dX2_longest_7 : decode cX2_longest 7 = .ok (.iload_n 1, 1) := dk_27 (dk_at dksX2_longest_0 7 rfl rfl)
theorem dX2_longest_8 : decode cX2_longest 8 = .ok (.iload_n 2, 1) := dk_28 (dk_at dksX2_longest_0 8 rfl rfl)
theorem dX2_longest_9 : decode cX2_longest 9 = .ok (.invokevirtual 83, 3) := dk_182 0 83 (dk_at dksX2_longest_0 9 rfl rfl)
theorem dX2_longest_12 : decode cX2_longest 12 = .ok (.invokestatic 71, 3) := dk_184 0 71 (dk_at dksX2_longest_0 12 rfl rfl)
theorem dX2_longest_15 : decode cX2_longest 15 = .ok (.istore_n 3, 1) := dk_62 (dk_at dksX2_longest_0 15 rfl rfl)
theorem dX2_longest_16 : decode cX2_longest 16 = .ok (.iconst 0, 1) := dk_3 (dk_at dksX2_longest_0 16 rfl rfl)
theorem dX2_longest_17 : decode cX2_longest 17 = .ok (.istore 4, 2) := dk_54 4 (dk_at dksX2_longest_0 17 rfl rfl)
theorem dX2_longest_19 : decode cX2_longest 19 = .ok (.iload 4, 2) := dk_21 4 (dk_at dksX2_longest_0 19 rfl rfl)
theorem dX2_longest_21 : decode cX2_longest 21 = .ok (.iload_n 3, 1) := dk_29 (dk_at dksX2_longest_0 21 rfl rfl)
theorem dX2_longest_22 : decode cX2_longest 22 = .ok (.if_icmp .ge 20, 3) := dk_162 0 20 (dk_at dksX2_longest_1 0 rfl rfl)
theorem dX2_longest_25 : decode cX2_longest 25 = .ok (.aload_n 0, 1) := dk_42 (dk_at dksX2_longest_1 3 rfl rfl)
theorem dX2_longest_26 : decode cX2_longest 26 = .ok (.iload_n 1, 1) := dk_27 (dk_at dksX2_longest_1 4 rfl rfl)
theorem dX2_longest_27 : decode cX2_longest 27 = .ok (.iload 4, 2) := dk_21 4 (dk_at dksX2_longest_1 5 rfl rfl)
theorem dX2_longest_29 : decode cX2_longest 29 = .ok (.iadd, 1) := dk_96 (dk_at dksX2_longest_1 7 rfl rfl)
theorem dX2_longest_30 : decode cX2_longest 30 = .ok (.invokevirtual 86, 3) := dk_182 0 86 (dk_at dksX2_longest_1 8 rfl rfl)
theorem dX2_longest_33 : decode cX2_longest 33 = .ok (.ifCond .ne 9, 3) := dk_154 0 9 (dk_at dksX2_longest_1 11 rfl rfl)
theorem dX2_longest_36 : decode cX2_longest 36 = .ok (.iinc 4 1, 3) := dk_132 4 1 (dk_at dksX2_longest_1 14 rfl rfl)
theorem dX2_longest_39 : decode cX2_longest 39 = .ok (.goto (-20), 3) := dk_167 255 236 (dk_at dksX2_longest_1 17 rfl rfl)
theorem dX2_longest_42 : decode cX2_longest 42 = .ok (.iload 4, 2) := dk_21 4 (dk_at dksX2_longest_1 20 rfl rfl)
theorem dX2_longest_44 : decode cX2_longest 44 = .ok (.aload_n 0, 1) := dk_42 (dk_at dksX2_longest_1 22 rfl rfl)
theorem dX2_longest_45 : decode cX2_longest 45 = .ok (.getfield 31, 3) := dk_180 0 31 (dk_at dksX2_longest_2 0 rfl rfl)
theorem dX2_longest_48 : decode cX2_longest 48 = .ok (.iconst 2, 1) := dk_5 (dk_at dksX2_longest_2 3 rfl rfl)
theorem dX2_longest_49 : decode cX2_longest 49 = .ok (.iaload, 1) := dk_46 (dk_at dksX2_longest_2 4 rfl rfl)
theorem dX2_longest_50 : decode cX2_longest 50 = .ok (.if_icmp .ge 7, 3) := dk_162 0 7 (dk_at dksX2_longest_2 5 rfl rfl)
theorem dX2_longest_53 : decode cX2_longest 53 = .ok (.iconst 0, 1) := dk_3 (dk_at dksX2_longest_2 8 rfl rfl)
theorem dX2_longest_54 : decode cX2_longest 54 = .ok (.goto 5, 3) := dk_167 0 5 (dk_at dksX2_longest_2 9 rfl rfl)
theorem dX2_longest_57 : decode cX2_longest 57 = .ok (.iload 4, 2) := dk_21 4 (dk_at dksX2_longest_2 12 rfl rfl)
theorem dX2_longest_59 : decode cX2_longest 59 = .ok (.ireturn, 1) := dk_172 (dk_at dksX2_longest_2 14 rfl rfl)
abbrev cX2_same : ByteArray := prog_12_method_11_code
def yX2_same : MethodName := ⟨RX2, "same", "(II)I"⟩
def dkwX2_same_1 : List UInt8 := [27, 29, 96, 28, 100, 51, 160, 0, 9, 132, 3, 1, 167, 255, 222, 29, 172]
abbrev dktX2_same_1 : List UInt8 := dkwX2_same_1 ++ []
def dkwX2_same_0 : List UInt8 := [3, 62, 27, 29, 96, 42, 180, 0, 41, 162, 0, 30, 42, 180, 0, 24, 27, 29, 96, 51, 42, 180, 0, 24]
abbrev dktX2_same_0 : List UInt8 := dkwX2_same_0 ++ dktX2_same_1
theorem dksX2_same_0 : cX2_same.data.toList.drop 0 = dktX2_same_0 := by decide +kernel
theorem dksX2_same_1 : cX2_same.data.toList.drop 24 = dktX2_same_1 := dk_seg dksX2_same_0 24 rfl rfl
theorem dX2_same_0 : decode cX2_same 0 = .ok (.iconst 0, 1) := dk_3 (dk_at dksX2_same_0 0 rfl rfl)
theorem dX2_same_1 : decode cX2_same 1 = .ok (.istore_n 3, 1) := dk_62 (dk_at dksX2_same_0 1 rfl rfl)
theorem dX2_same_2 : decode cX2_same 2 = .ok (.iload_n 1, 1) := dk_27 (dk_at dksX2_same_0 2 rfl rfl)
theorem dX2_same_3 : decode cX2_same 3 = .ok (.iload_n 3, 1) := dk_29 (dk_at dksX2_same_0 3 rfl rfl)
theorem dX2_same_4 : decode cX2_same 4 = .ok (.iadd, 1) := dk_96 (dk_at dksX2_same_0 4 rfl rfl)
theorem dX2_same_5 : decode cX2_same 5 = .ok (.aload_n 0, 1) := dk_42 (dk_at dksX2_same_0 5 rfl rfl)
theorem dX2_same_6 : decode cX2_same 6 = .ok (.getfield 41, 3) := dk_180 0 41 (dk_at dksX2_same_0 6 rfl rfl)
theorem dX2_same_9 : decode cX2_same 9 = .ok (.if_icmp .ge 30, 3) := dk_162 0 30 (dk_at dksX2_same_0 9 rfl rfl)
theorem dX2_same_12 : decode cX2_same 12 = .ok (.aload_n 0, 1) := dk_42 (dk_at dksX2_same_0 12 rfl rfl)
theorem dX2_same_13 : decode cX2_same 13 = .ok (.getfield 24, 3) := dk_180 0 24 (dk_at dksX2_same_0 13 rfl rfl)
theorem dX2_same_16 : decode cX2_same 16 = .ok (.iload_n 1, 1) := dk_27 (dk_at dksX2_same_0 16 rfl rfl)
theorem dX2_same_17 : decode cX2_same 17 = .ok (.iload_n 3, 1) := dk_29 (dk_at dksX2_same_0 17 rfl rfl)
theorem dX2_same_18 : decode cX2_same 18 = .ok (.iadd, 1) := dk_96 (dk_at dksX2_same_0 18 rfl rfl)
theorem dX2_same_19 : decode cX2_same 19 = .ok (.baload, 1) := dk_51 (dk_at dksX2_same_0 19 rfl rfl)
theorem dX2_same_20 : decode cX2_same 20 = .ok (.aload_n 0, 1) := dk_42 (dk_at dksX2_same_0 20 rfl rfl)
theorem dX2_same_21 : decode cX2_same 21 = .ok (.getfield 24, 3) := dk_180 0 24 (dk_at dksX2_same_0 21 rfl rfl)
theorem dX2_same_24 : decode cX2_same 24 = .ok (.iload_n 1, 1) := dk_27 (dk_at dksX2_same_1 0 rfl rfl)
theorem dX2_same_25 : decode cX2_same 25 = .ok (.iload_n 3, 1) := dk_29 (dk_at dksX2_same_1 1 rfl rfl)
theorem dX2_same_26 : decode cX2_same 26 = .ok (.iadd, 1) := dk_96 (dk_at dksX2_same_1 2 rfl rfl)
theorem dX2_same_27 : decode cX2_same 27 = .ok (.iload_n 2, 1) := dk_28 (dk_at dksX2_same_1 3 rfl rfl)
theorem dX2_same_28 : decode cX2_same 28 = .ok (.isub, 1) := dk_100 (dk_at dksX2_same_1 4 rfl rfl)
theorem dX2_same_29 : decode cX2_same 29 = .ok (.baload, 1) := dk_51 (dk_at dksX2_same_1 5 rfl rfl)
theorem dX2_same_30 : decode cX2_same 30 = .ok (.if_icmp .ne 9, 3) := dk_160 0 9 (dk_at dksX2_same_1 6 rfl rfl)
theorem dX2_same_33 : decode cX2_same 33 = .ok (.iinc 3 1, 3) := dk_132 3 1 (dk_at dksX2_same_1 9 rfl rfl)
theorem dX2_same_36 : decode cX2_same 36 = .ok (.goto (-34), 3) := dk_167 255 222 (dk_at dksX2_same_1 12 rfl rfl)
theorem dX2_same_39 : decode cX2_same 39 = .ok (.iload_n 3, 1) := dk_29 (dk_at dksX2_same_1 15 rfl rfl)
theorem dX2_same_40 : decode cX2_same 40 = .ok (.ireturn, 1) := dk_172 (dk_at dksX2_same_1 16 rfl rfl)
abbrev cX2_copyPrice : ByteArray := prog_12_method_18_code
def yX2_copyPrice : MethodName := ⟨RX2, "copyPrice", "(III)I"⟩
def dkwX2_copyPrice_2 : List UInt8 := [172]
abbrev dktX2_copyPrice_2 : List UInt8 := dkwX2_copyPrice_2 ++ []
def dkwX2_copyPrice_1 : List UInt8 := [5, 46, 28, 184, 0, 110, 104, 96, 54, 4, 42, 180, 0, 9, 6, 46, 27, 184, 0, 110, 104, 21, 4, 96]
abbrev dktX2_copyPrice_1 : List UInt8 := dkwX2_copyPrice_1 ++ dktX2_copyPrice_2
def dkwX2_copyPrice_0 : List UInt8 := [28, 29, 160, 0, 12, 42, 180, 0, 9, 7, 46, 167, 0, 21, 42, 180, 0, 9, 4, 46, 42, 180, 0, 9]
abbrev dktX2_copyPrice_0 : List UInt8 := dkwX2_copyPrice_0 ++ dktX2_copyPrice_1
theorem dksX2_copyPrice_0 : cX2_copyPrice.data.toList.drop 0 = dktX2_copyPrice_0 := by decide +kernel
theorem dksX2_copyPrice_1 : cX2_copyPrice.data.toList.drop 24 = dktX2_copyPrice_1 := dk_seg dksX2_copyPrice_0 24 rfl rfl
theorem dksX2_copyPrice_2 : cX2_copyPrice.data.toList.drop 48 = dktX2_copyPrice_2 := dk_seg dksX2_copyPrice_1 24 rfl rfl
theorem dX2_copyPrice_0 : decode cX2_copyPrice 0 = .ok (.iload_n 2, 1) := dk_28 (dk_at dksX2_copyPrice_0 0 rfl rfl)
theorem dX2_copyPrice_1 : decode cX2_copyPrice 1 = .ok (.iload_n 3, 1) := dk_29 (dk_at dksX2_copyPrice_0 1 rfl rfl)
theorem dX2_copyPrice_2 : decode cX2_copyPrice 2 = .ok (.if_icmp .ne 12, 3) := dk_160 0 12 (dk_at dksX2_copyPrice_0 2 rfl rfl)
theorem dX2_copyPrice_5 : decode cX2_copyPrice 5 = .ok (.aload_n 0, 1) := dk_42 (dk_at dksX2_copyPrice_0 5 rfl rfl)
theorem dX2_copyPrice_6 : decode cX2_copyPrice 6 = .ok (.getfield 9, 3) := dk_180 0 9 (dk_at dksX2_copyPrice_0 6 rfl rfl)
theorem dX2_copyPrice_9 : decode cX2_copyPrice 9 = .ok (.iconst 4, 1) := dk_7 (dk_at dksX2_copyPrice_0 9 rfl rfl)
theorem dX2_copyPrice_10 : decode cX2_copyPrice 10 = .ok (.iaload, 1) := dk_46 (dk_at dksX2_copyPrice_0 10 rfl rfl)
theorem dX2_copyPrice_11 : decode cX2_copyPrice 11 = .ok (.goto 21, 3) := dk_167 0 21 (dk_at dksX2_copyPrice_0 11 rfl rfl)
theorem dX2_copyPrice_14 : decode cX2_copyPrice 14 = .ok (.aload_n 0, 1) := dk_42 (dk_at dksX2_copyPrice_0 14 rfl rfl)
theorem dX2_copyPrice_15 : decode cX2_copyPrice 15 = .ok (.getfield 9, 3) := dk_180 0 9 (dk_at dksX2_copyPrice_0 15 rfl rfl)
theorem dX2_copyPrice_18 : decode cX2_copyPrice 18 = .ok (.iconst 1, 1) := dk_4 (dk_at dksX2_copyPrice_0 18 rfl rfl)
theorem dX2_copyPrice_19 : decode cX2_copyPrice 19 = .ok (.iaload, 1) := dk_46 (dk_at dksX2_copyPrice_0 19 rfl rfl)
theorem dX2_copyPrice_20 : decode cX2_copyPrice 20 = .ok (.aload_n 0, 1) := dk_42 (dk_at dksX2_copyPrice_0 20 rfl rfl)
theorem dX2_copyPrice_21 : decode cX2_copyPrice 21 = .ok (.getfield 9, 3) := dk_180 0 9 (dk_at dksX2_copyPrice_0 21 rfl rfl)
theorem dX2_copyPrice_24 : decode cX2_copyPrice 24 = .ok (.iconst 2, 1) := dk_5 (dk_at dksX2_copyPrice_1 0 rfl rfl)
theorem dX2_copyPrice_25 : decode cX2_copyPrice 25 = .ok (.iaload, 1) := dk_46 (dk_at dksX2_copyPrice_1 1 rfl rfl)
theorem dX2_copyPrice_26 : decode cX2_copyPrice 26 = .ok (.iload_n 2, 1) := dk_28 (dk_at dksX2_copyPrice_1 2 rfl rfl)
theorem dX2_copyPrice_27 : decode cX2_copyPrice 27 = .ok (.invokestatic 110, 3) := dk_184 0 110 (dk_at dksX2_copyPrice_1 3 rfl rfl)
theorem dX2_copyPrice_30 : decode cX2_copyPrice 30 = .ok (.imul, 1) := dk_104 (dk_at dksX2_copyPrice_1 6 rfl rfl)
theorem dX2_copyPrice_31 : decode cX2_copyPrice 31 = .ok (.iadd, 1) := dk_96 (dk_at dksX2_copyPrice_1 7 rfl rfl)
theorem dX2_copyPrice_32 : decode cX2_copyPrice 32 = .ok (.istore 4, 2) := dk_54 4 (dk_at dksX2_copyPrice_1 8 rfl rfl)
theorem dX2_copyPrice_34 : decode cX2_copyPrice 34 = .ok (.aload_n 0, 1) := dk_42 (dk_at dksX2_copyPrice_1 10 rfl rfl)
theorem dX2_copyPrice_35 : decode cX2_copyPrice 35 = .ok (.getfield 9, 3) := dk_180 0 9 (dk_at dksX2_copyPrice_1 11 rfl rfl)
theorem dX2_copyPrice_38 : decode cX2_copyPrice 38 = .ok (.iconst 3, 1) := dk_6 (dk_at dksX2_copyPrice_1 14 rfl rfl)
theorem dX2_copyPrice_39 : decode cX2_copyPrice 39 = .ok (.iaload, 1) := dk_46 (dk_at dksX2_copyPrice_1 15 rfl rfl)
theorem dX2_copyPrice_40 : decode cX2_copyPrice 40 = .ok (.iload_n 1, 1) := dk_27 (dk_at dksX2_copyPrice_1 16 rfl rfl)
theorem dX2_copyPrice_41 : decode cX2_copyPrice 41 = .ok (.invokestatic 110, 3) := dk_184 0 110 (dk_at dksX2_copyPrice_1 17 rfl rfl)
theorem dX2_copyPrice_44 : decode cX2_copyPrice 44 = .ok (.imul, 1) := dk_104 (dk_at dksX2_copyPrice_1 20 rfl rfl)
theorem dX2_copyPrice_45 : decode cX2_copyPrice 45 = .ok (.iload 4, 2) := dk_21 4 (dk_at dksX2_copyPrice_1 21 rfl rfl)
theorem dX2_copyPrice_47 : decode cX2_copyPrice 47 = .ok (.iadd, 1) := dk_96 (dk_at dksX2_copyPrice_1 23 rfl rfl)
theorem dX2_copyPrice_48 : decode cX2_copyPrice 48 = .ok (.ireturn, 1) := dk_172 (dk_at dksX2_copyPrice_2 0 rfl rfl)
abbrev cX2_literalPrice : ByteArray := prog_12_method_17_code
def yX2_literalPrice : MethodName := ⟨RX2, "literalPrice", "(IZ)I"⟩
def dkwX2_literalPrice_1 : List UInt8 := [180, 0, 9, 3, 46, 96, 172]
abbrev dktX2_literalPrice_1 : List UInt8 := dkwX2_literalPrice_1 ++ []
def dkwX2_literalPrice_0 : List UInt8 := [42, 180, 0, 9, 8, 42, 180, 0, 24, 27, 51, 96, 46, 28, 153, 0, 7, 3, 167, 0, 9, 42]
abbrev dktX2_literalPrice_0 : List UInt8 := dkwX2_literalPrice_0 ++ dktX2_literalPrice_1
theorem dksX2_literalPrice_0 : cX2_literalPrice.data.toList.drop 0 = dktX2_literalPrice_0 := by decide +kernel
theorem dksX2_literalPrice_1 : cX2_literalPrice.data.toList.drop 22 = dktX2_literalPrice_1 := dk_seg dksX2_literalPrice_0 22 rfl rfl
theorem dX2_literalPrice_0 : decode cX2_literalPrice 0 = .ok (.aload_n 0, 1) := dk_42 (dk_at dksX2_literalPrice_0 0 rfl rfl)
theorem dX2_literalPrice_1 : decode cX2_literalPrice 1 = .ok (.getfield 9, 3) := dk_180 0 9 (dk_at dksX2_literalPrice_0 1 rfl rfl)
theorem dX2_literalPrice_4 : decode cX2_literalPrice 4 = .ok (.iconst 5, 1) := dk_8 (dk_at dksX2_literalPrice_0 4 rfl rfl)
theorem dX2_literalPrice_5 : decode cX2_literalPrice 5 = .ok (.aload_n 0, 1) := dk_42 (dk_at dksX2_literalPrice_0 5 rfl rfl)
theorem dX2_literalPrice_6 : decode cX2_literalPrice 6 = .ok (.getfield 24, 3) := dk_180 0 24 (dk_at dksX2_literalPrice_0 6 rfl rfl)
theorem dX2_literalPrice_9 : decode cX2_literalPrice 9 = .ok (.iload_n 1, 1) := dk_27 (dk_at dksX2_literalPrice_0 9 rfl rfl)
theorem dX2_literalPrice_10 : decode cX2_literalPrice 10 = .ok (.baload, 1) := dk_51 (dk_at dksX2_literalPrice_0 10 rfl rfl)
theorem dX2_literalPrice_11 : decode cX2_literalPrice 11 = .ok (.iadd, 1) := dk_96 (dk_at dksX2_literalPrice_0 11 rfl rfl)
theorem dX2_literalPrice_12 : decode cX2_literalPrice 12 = .ok (.iaload, 1) := dk_46 (dk_at dksX2_literalPrice_0 12 rfl rfl)
theorem dX2_literalPrice_13 : decode cX2_literalPrice 13 = .ok (.iload_n 2, 1) := dk_28 (dk_at dksX2_literalPrice_0 13 rfl rfl)
theorem dX2_literalPrice_14 : decode cX2_literalPrice 14 = .ok (.ifCond .eq 7, 3) := dk_153 0 7 (dk_at dksX2_literalPrice_0 14 rfl rfl)
theorem dX2_literalPrice_17 : decode cX2_literalPrice 17 = .ok (.iconst 0, 1) := dk_3 (dk_at dksX2_literalPrice_0 17 rfl rfl)
theorem dX2_literalPrice_18 : decode cX2_literalPrice 18 = .ok (.goto 9, 3) := dk_167 0 9 (dk_at dksX2_literalPrice_0 18 rfl rfl)
theorem dX2_literalPrice_21 : decode cX2_literalPrice 21 = .ok (.aload_n 0, 1) := dk_42 (dk_at dksX2_literalPrice_0 21 rfl rfl)
theorem dX2_literalPrice_22 : decode cX2_literalPrice 22 = .ok (.getfield 9, 3) := dk_180 0 9 (dk_at dksX2_literalPrice_1 0 rfl rfl)
theorem dX2_literalPrice_25 : decode cX2_literalPrice 25 = .ok (.iconst 0, 1) := dk_3 (dk_at dksX2_literalPrice_1 3 rfl rfl)
theorem dX2_literalPrice_26 : decode cX2_literalPrice 26 = .ok (.iaload, 1) := dk_46 (dk_at dksX2_literalPrice_1 4 rfl rfl)
theorem dX2_literalPrice_27 : decode cX2_literalPrice 27 = .ok (.iadd, 1) := dk_96 (dk_at dksX2_literalPrice_1 5 rfl rfl)
theorem dX2_literalPrice_28 : decode cX2_literalPrice 28 = .ok (.ireturn, 1) := dk_172 (dk_at dksX2_literalPrice_1 6 rfl rfl)
abbrev cX2_parse : ByteArray := prog_12_method_25_code
def yX2_parse : MethodName := ⟨RX2, "parse", "(ILCopyPrices$Table;)LCopyPrices$Step;"⟩
def dkwX2_parse_0 : List UInt8 := [42, 42, 27, 44, 182, 0, 179, 3, 3, 3, 182, 0, 145, 176]
abbrev dktX2_parse_0 : List UInt8 := dkwX2_parse_0 ++ []
theorem dksX2_parse_0 : cX2_parse.data.toList.drop 0 = dktX2_parse_0 := by decide +kernel
theorem dX2_parse_0 : decode cX2_parse 0 = .ok (.aload_n 0, 1) := dk_42 (dk_at dksX2_parse_0 0 rfl rfl)
theorem dX2_parse_1 : decode cX2_parse 1 = .ok (.aload_n 0, 1) := dk_42 (dk_at dksX2_parse_0 1 rfl rfl)
theorem dX2_parse_2 : decode cX2_parse 2 = .ok (.iload_n 1, 1) := dk_27 (dk_at dksX2_parse_0 2 rfl rfl)
theorem dX2_parse_3 : decode cX2_parse 3 = .ok (.aload_n 2, 1) := dk_44 (dk_at dksX2_parse_0 3 rfl rfl)
theorem dX2_parse_4 : decode cX2_parse 4 = .ok (.invokevirtual 179, 3) := dk_182 0 179 (dk_at dksX2_parse_0 4 rfl rfl)
theorem dX2_parse_7 : decode cX2_parse 7 = .ok (.iconst 0, 1) := dk_3 (dk_at dksX2_parse_0 7 rfl rfl)
theorem dX2_parse_8 : decode cX2_parse 8 = .ok (.iconst 0, 1) := dk_3 (dk_at dksX2_parse_0 8 rfl rfl)
theorem dX2_parse_9 : decode cX2_parse 9 = .ok (.iconst 0, 1) := dk_3 (dk_at dksX2_parse_0 9 rfl rfl)
theorem dX2_parse_10 : decode cX2_parse 10 = .ok (.invokevirtual 145, 3) := dk_182 0 145 (dk_at dksX2_parse_0 10 rfl rfl)
theorem dX2_parse_13 : decode cX2_parse 13 = .ok (.areturn, 1) := dk_176 (dk_at dksX2_parse_0 13 rfl rfl)
abbrev cX2_chooser : ByteArray := prog_12_method_24_code
def yX2_chooser : MethodName := ⟨RX2, "chooser", "(ILCopyPrices$Table;)LCopyPrices$Chooser;"⟩
def dkwX2_chooser_3 : List UInt8 := [167, 0, 11, 44, 42, 182, 0, 169, 182, 0, 175, 176]
abbrev dktX2_chooser_3 : List UInt8 := dkwX2_chooser_3 ++ []
def dkwX2_chooser_2 : List UInt8 := [42, 186, 0, 164, 0, 0, 167, 0, 29, 42, 186, 0, 167, 0, 0, 167, 0, 20, 42, 186, 0, 168, 0, 0]
abbrev dktX2_chooser_2 : List UInt8 := dkwX2_chooser_2 ++ dktX2_chooser_3
def dkwX2_chooser_1 : List UInt8 := [170, 0, 0, 0, 0, 0, 54, 0, 0, 0, 0, 0, 0, 0, 2, 0, 0, 0, 27, 0, 0, 0, 36, 0, 0, 0, 45]
abbrev dktX2_chooser_1 : List UInt8 := dkwX2_chooser_1 ++ dktX2_chooser_2
def dkwX2_chooser_0 : List UInt8 := [27]
abbrev dktX2_chooser_0 : List UInt8 := dkwX2_chooser_0 ++ dktX2_chooser_1
theorem dksX2_chooser_0 : cX2_chooser.data.toList.drop 0 = dktX2_chooser_0 := by decide +kernel
theorem dksX2_chooser_1 : cX2_chooser.data.toList.drop 1 = dktX2_chooser_1 := dk_seg dksX2_chooser_0 1 rfl rfl
theorem dksX2_chooser_2 : cX2_chooser.data.toList.drop 28 = dktX2_chooser_2 := dk_seg dksX2_chooser_1 27 rfl rfl
theorem dksX2_chooser_3 : cX2_chooser.data.toList.drop 52 = dktX2_chooser_3 := dk_seg dksX2_chooser_2 24 rfl rfl
theorem dX2_chooser_0 : decode cX2_chooser 0 = .ok (.iload_n 1, 1) := dk_27 (dk_at dksX2_chooser_0 0 rfl rfl)
theorem dX2_chooser_1 : decode cX2_chooser 1 = .ok (.tableswitch 54 0 2 #[27, 36, 45], 27) := by decide +kernel
theorem dX2_chooser_28 : decode cX2_chooser 28 = .ok (.aload_n 0, 1) := dk_42 (dk_at dksX2_chooser_2 0 rfl rfl)
theorem dX2_chooser_29 : decode cX2_chooser 29 = .ok (.invokedynamic 164, 5) := by decide +kernel
theorem dX2_chooser_34 : decode cX2_chooser 34 = .ok (.goto 29, 3) := dk_167 0 29 (dk_at dksX2_chooser_2 6 rfl rfl)
theorem dX2_chooser_37 : decode cX2_chooser 37 = .ok (.aload_n 0, 1) := dk_42 (dk_at dksX2_chooser_2 9 rfl rfl)
theorem dX2_chooser_38 : decode cX2_chooser 38 = .ok (.invokedynamic 167, 5) := by decide +kernel
theorem dX2_chooser_43 : decode cX2_chooser 43 = .ok (.goto 20, 3) := dk_167 0 20 (dk_at dksX2_chooser_2 15 rfl rfl)
theorem dX2_chooser_46 : decode cX2_chooser 46 = .ok (.aload_n 0, 1) := dk_42 (dk_at dksX2_chooser_2 18 rfl rfl)
theorem dX2_chooser_47 : decode cX2_chooser 47 = .ok (.invokedynamic 168, 5) := by decide +kernel
theorem dX2_chooser_52 : decode cX2_chooser 52 = .ok (.goto 11, 3) := dk_167 0 11 (dk_at dksX2_chooser_3 0 rfl rfl)
theorem dX2_chooser_55 : decode cX2_chooser 55 = .ok (.aload_n 2, 1) := dk_44 (dk_at dksX2_chooser_3 3 rfl rfl)
theorem dX2_chooser_56 : decode cX2_chooser 56 = .ok (.aload_n 0, 1) := dk_42 (dk_at dksX2_chooser_3 4 rfl rfl)
theorem dX2_chooser_57 : decode cX2_chooser 57 = .ok (.invokevirtual 169, 3) := dk_182 0 169 (dk_at dksX2_chooser_3 5 rfl rfl)
theorem dX2_chooser_60 : decode cX2_chooser 60 = .ok (.invokevirtual 175, 3) := dk_182 0 175 (dk_at dksX2_chooser_3 8 rfl rfl)
theorem dX2_chooser_63 : decode cX2_chooser 63 = .ok (.areturn, 1) := dk_176 (dk_at dksX2_chooser_3 11 rfl rfl)
abbrev cX2_lambda_chooser_0 : ByteArray := prog_12_method_33_code
def yX2_lambda_chooser_0 : MethodName := ⟨RX2, "lambda$chooser$0", "(IIZ)LCopyPrices$Step;"⟩
def dkwX2_lambda_chooser_0_0 : List UInt8 := [42, 27, 28, 29, 182, 0, 153, 176]
abbrev dktX2_lambda_chooser_0_0 : List UInt8 := dkwX2_lambda_chooser_0_0 ++ []
theorem dksX2_lambda_chooser_0_0 : cX2_lambda_chooser_0.data.toList.drop 0 = dktX2_lambda_chooser_0_0 := by decide +kernel
theorem dX2_lambda_chooser_0_0 : decode cX2_lambda_chooser_0 0 = .ok (.aload_n 0, 1) := dk_42 (dk_at dksX2_lambda_chooser_0_0 0 rfl rfl)
theorem dX2_lambda_chooser_0_1 : decode cX2_lambda_chooser_0 1 = .ok (.iload_n 1, 1) := dk_27 (dk_at dksX2_lambda_chooser_0_0 1 rfl rfl)
theorem dX2_lambda_chooser_0_2 : decode cX2_lambda_chooser_0 2 = .ok (.iload_n 2, 1) := dk_28 (dk_at dksX2_lambda_chooser_0_0 2 rfl rfl)
theorem dX2_lambda_chooser_0_3 : decode cX2_lambda_chooser_0 3 = .ok (.iload_n 3, 1) := dk_29 (dk_at dksX2_lambda_chooser_0_0 3 rfl rfl)
theorem dX2_lambda_chooser_0_4 : decode cX2_lambda_chooser_0 4 = .ok (.invokevirtual 153, 3) := dk_182 0 153 (dk_at dksX2_lambda_chooser_0_0 4 rfl rfl)
theorem dX2_lambda_chooser_0_7 : decode cX2_lambda_chooser_0 7 = .ok (.areturn, 1) := dk_176 (dk_at dksX2_lambda_chooser_0_0 7 rfl rfl)
abbrev cX2_literal : ByteArray := prog_12_method_19_code
def yX2_literal : MethodName := ⟨RX2, "literal", "(IIZ)LCopyPrices$Literal;"⟩
def dkwX2_literal_0 : List UInt8 := [187, 0, 113, 89, 27, 28, 42, 27, 29, 182, 0, 115, 183, 0, 119, 176]
abbrev dktX2_literal_0 : List UInt8 := dkwX2_literal_0 ++ []
theorem dksX2_literal_0 : cX2_literal.data.toList.drop 0 = dktX2_literal_0 := by decide +kernel
theorem dX2_literal_0 : decode cX2_literal 0 = .ok (.new 113, 3) := dk_187 0 113 (dk_at dksX2_literal_0 0 rfl rfl)
theorem dX2_literal_3 : decode cX2_literal 3 = .ok (.dup, 1) := dk_89 (dk_at dksX2_literal_0 3 rfl rfl)
theorem dX2_literal_4 : decode cX2_literal 4 = .ok (.iload_n 1, 1) := dk_27 (dk_at dksX2_literal_0 4 rfl rfl)
theorem dX2_literal_5 : decode cX2_literal 5 = .ok (.iload_n 2, 1) := dk_28 (dk_at dksX2_literal_0 5 rfl rfl)
theorem dX2_literal_6 : decode cX2_literal 6 = .ok (.aload_n 0, 1) := dk_42 (dk_at dksX2_literal_0 6 rfl rfl)
theorem dX2_literal_7 : decode cX2_literal 7 = .ok (.iload_n 1, 1) := dk_27 (dk_at dksX2_literal_0 7 rfl rfl)
theorem dX2_literal_8 : decode cX2_literal 8 = .ok (.iload_n 3, 1) := dk_29 (dk_at dksX2_literal_0 8 rfl rfl)
theorem dX2_literal_9 : decode cX2_literal 9 = .ok (.invokevirtual 115, 3) := dk_182 0 115 (dk_at dksX2_literal_0 9 rfl rfl)
theorem dX2_literal_12 : decode cX2_literal 12 = .ok (.invokespecial 119, 3) := dk_183 0 119 (dk_at dksX2_literal_0 12 rfl rfl)
theorem dX2_literal_15 : decode cX2_literal 15 = .ok (.areturn, 1) := dk_176 (dk_at dksX2_literal_0 15 rfl rfl)
abbrev cX2_lambda_chooser_1 : ByteArray := prog_12_method_32_code
def yX2_lambda_chooser_1 : MethodName := ⟨RX2, "lambda$chooser$1", "(IIZ)LCopyPrices$Step;"⟩
def dkwX2_lambda_chooser_1_0 : List UInt8 := [42, 27, 28, 29, 182, 0, 212, 176]
abbrev dktX2_lambda_chooser_1_0 : List UInt8 := dkwX2_lambda_chooser_1_0 ++ []
theorem dksX2_lambda_chooser_1_0 : cX2_lambda_chooser_1.data.toList.drop 0 = dktX2_lambda_chooser_1_0 := by decide +kernel
theorem dX2_lambda_chooser_1_0 : decode cX2_lambda_chooser_1 0 = .ok (.aload_n 0, 1) := dk_42 (dk_at dksX2_lambda_chooser_1_0 0 rfl rfl)
theorem dX2_lambda_chooser_1_1 : decode cX2_lambda_chooser_1 1 = .ok (.iload_n 1, 1) := dk_27 (dk_at dksX2_lambda_chooser_1_0 1 rfl rfl)
theorem dX2_lambda_chooser_1_2 : decode cX2_lambda_chooser_1 2 = .ok (.iload_n 2, 1) := dk_28 (dk_at dksX2_lambda_chooser_1_0 2 rfl rfl)
theorem dX2_lambda_chooser_1_3 : decode cX2_lambda_chooser_1 3 = .ok (.iload_n 3, 1) := dk_29 (dk_at dksX2_lambda_chooser_1_0 3 rfl rfl)
theorem dX2_lambda_chooser_1_4 : decode cX2_lambda_chooser_1 4 = .ok (.invokevirtual 212, 3) := dk_182 0 212 (dk_at dksX2_lambda_chooser_1_0 4 rfl rfl)
theorem dX2_lambda_chooser_1_7 : decode cX2_lambda_chooser_1 7 = .ok (.areturn, 1) := dk_176 (dk_at dksX2_lambda_chooser_1_0 7 rfl rfl)
abbrev cX2_longestStep : ByteArray := prog_12_method_22_code
def yX2_longestStep : MethodName := ⟨RX2, "longestStep", "(IIZ)LCopyPrices$Step;"⟩
def dkwX2_longestStep_1 : List UInt8 := [27, 28, 42, 27, 27, 21, 4, 100, 182, 0, 96, 27, 21, 4, 100, 182, 0, 157, 176]
abbrev dktX2_longestStep_1 : List UInt8 := dkwX2_longestStep_1 ++ []
def dkwX2_longestStep_0 : List UInt8 := [42, 27, 182, 0, 99, 54, 4, 21, 4, 2, 160, 0, 13, 42, 27, 28, 29, 182, 0, 153, 167, 0, 22, 42]
abbrev dktX2_longestStep_0 : List UInt8 := dkwX2_longestStep_0 ++ dktX2_longestStep_1
theorem dksX2_longestStep_0 : cX2_longestStep.data.toList.drop 0 = dktX2_longestStep_0 := by decide +kernel
theorem dksX2_longestStep_1 : cX2_longestStep.data.toList.drop 24 = dktX2_longestStep_1 := dk_seg dksX2_longestStep_0 24 rfl rfl
theorem dX2_longestStep_0 : decode cX2_longestStep 0 = .ok (.aload_n 0, 1) := dk_42 (dk_at dksX2_longestStep_0 0 rfl rfl)
theorem dX2_longestStep_1 : decode cX2_longestStep 1 = .ok (.iload_n 1, 1) := dk_27 (dk_at dksX2_longestStep_0 1 rfl rfl)
theorem dX2_longestStep_2 : decode cX2_longestStep 2 = .ok (.invokevirtual 99, 3) := dk_182 0 99 (dk_at dksX2_longestStep_0 2 rfl rfl)
theorem dX2_longestStep_5 : decode cX2_longestStep 5 = .ok (.istore 4, 2) := dk_54 4 (dk_at dksX2_longestStep_0 5 rfl rfl)
theorem dX2_longestStep_7 : decode cX2_longestStep 7 = .ok (.iload 4, 2) := dk_21 4 (dk_at dksX2_longestStep_0 7 rfl rfl)
theorem dX2_longestStep_9 : decode cX2_longestStep 9 = .ok (.iconst (-1), 1) := dk_2 (dk_at dksX2_longestStep_0 9 rfl rfl)
theorem dX2_longestStep_10 : decode cX2_longestStep 10 = .ok (.if_icmp .ne 13, 3) := dk_160 0 13 (dk_at dksX2_longestStep_0 10 rfl rfl)
theorem dX2_longestStep_13 : decode cX2_longestStep 13 = .ok (.aload_n 0, 1) := dk_42 (dk_at dksX2_longestStep_0 13 rfl rfl)
theorem dX2_longestStep_14 : decode cX2_longestStep 14 = .ok (.iload_n 1, 1) := dk_27 (dk_at dksX2_longestStep_0 14 rfl rfl)
theorem dX2_longestStep_15 : decode cX2_longestStep 15 = .ok (.iload_n 2, 1) := dk_28 (dk_at dksX2_longestStep_0 15 rfl rfl)
theorem dX2_longestStep_16 : decode cX2_longestStep 16 = .ok (.iload_n 3, 1) := dk_29 (dk_at dksX2_longestStep_0 16 rfl rfl)
theorem dX2_longestStep_17 : decode cX2_longestStep 17 = .ok (.invokevirtual 153, 3) := dk_182 0 153 (dk_at dksX2_longestStep_0 17 rfl rfl)
theorem dX2_longestStep_20 : decode cX2_longestStep 20 = .ok (.goto 22, 3) := dk_167 0 22 (dk_at dksX2_longestStep_0 20 rfl rfl)
theorem dX2_longestStep_23 : decode cX2_longestStep 23 = .ok (.aload_n 0, 1) := dk_42 (dk_at dksX2_longestStep_0 23 rfl rfl)
theorem dX2_longestStep_24 : decode cX2_longestStep 24 = .ok (.iload_n 1, 1) := dk_27 (dk_at dksX2_longestStep_1 0 rfl rfl)
theorem dX2_longestStep_25 : decode cX2_longestStep 25 = .ok (.iload_n 2, 1) := dk_28 (dk_at dksX2_longestStep_1 1 rfl rfl)
theorem dX2_longestStep_26 : decode cX2_longestStep 26 = .ok (.aload_n 0, 1) := dk_42 (dk_at dksX2_longestStep_1 2 rfl rfl)
theorem dX2_longestStep_27 : decode cX2_longestStep 27 = .ok (.iload_n 1, 1) := dk_27 (dk_at dksX2_longestStep_1 3 rfl rfl)
theorem dX2_longestStep_28 : decode cX2_longestStep 28 = .ok (.iload_n 1, 1) := dk_27 (dk_at dksX2_longestStep_1 4 rfl rfl)
theorem dX2_longestStep_29 : decode cX2_longestStep 29 = .ok (.iload 4, 2) := dk_21 4 (dk_at dksX2_longestStep_1 5 rfl rfl)
theorem dX2_longestStep_31 : decode cX2_longestStep 31 = .ok (.isub, 1) := dk_100 (dk_at dksX2_longestStep_1 7 rfl rfl)
theorem dX2_longestStep_32 : decode cX2_longestStep 32 = .ok (.invokevirtual 96, 3) := dk_182 0 96 (dk_at dksX2_longestStep_1 8 rfl rfl)
theorem dX2_longestStep_35 : decode cX2_longestStep 35 = .ok (.iload_n 1, 1) := dk_27 (dk_at dksX2_longestStep_1 11 rfl rfl)
theorem dX2_longestStep_36 : decode cX2_longestStep 36 = .ok (.iload 4, 2) := dk_21 4 (dk_at dksX2_longestStep_1 12 rfl rfl)
theorem dX2_longestStep_38 : decode cX2_longestStep 38 = .ok (.isub, 1) := dk_100 (dk_at dksX2_longestStep_1 14 rfl rfl)
theorem dX2_longestStep_39 : decode cX2_longestStep 39 = .ok (.invokevirtual 157, 3) := dk_182 0 157 (dk_at dksX2_longestStep_1 15 rfl rfl)
theorem dX2_longestStep_42 : decode cX2_longestStep 42 = .ok (.areturn, 1) := dk_176 (dk_at dksX2_longestStep_1 18 rfl rfl)
abbrev cX2_longestAt : ByteArray := prog_12_method_14_code
def yX2_longestAt : MethodName := ⟨RX2, "longestAt", "(I)I"⟩
def dkwX2_longestAt_2 : List UInt8 := [21, 5, 182, 0, 93, 61, 21, 6, 62, 132, 5, 1, 167, 255, 210, 28, 172]
abbrev dktX2_longestAt_2 : List UInt8 := dkwX2_longestAt_2 ++ []
def dkwX2_longestAt_1 : List UInt8 := [42, 27, 21, 5, 182, 0, 93, 100, 182, 0, 96, 54, 6, 21, 6, 29, 163, 0, 6, 167, 0, 14, 42, 27]
abbrev dktX2_longestAt_1 : List UInt8 := dkwX2_longestAt_1 ++ dktX2_longestAt_2
def dkwX2_longestAt_0 : List UInt8 := [2, 61, 3, 62, 42, 27, 182, 0, 90, 54, 4, 3, 54, 5, 21, 5, 21, 4, 162, 0, 45, 42, 27, 27]
abbrev dktX2_longestAt_0 : List UInt8 := dkwX2_longestAt_0 ++ dktX2_longestAt_1
theorem dksX2_longestAt_0 : cX2_longestAt.data.toList.drop 0 = dktX2_longestAt_0 := by decide +kernel
theorem dksX2_longestAt_1 : cX2_longestAt.data.toList.drop 24 = dktX2_longestAt_1 := dk_seg dksX2_longestAt_0 24 rfl rfl
theorem dksX2_longestAt_2 : cX2_longestAt.data.toList.drop 48 = dktX2_longestAt_2 := dk_seg dksX2_longestAt_1 24 rfl rfl
theorem dX2_longestAt_0 : decode cX2_longestAt 0 = .ok (.iconst (-1), 1) := dk_2 (dk_at dksX2_longestAt_0 0 rfl rfl)
theorem dX2_longestAt_1 : decode cX2_longestAt 1 = .ok (.istore_n 2, 1) := dk_61 (dk_at dksX2_longestAt_0 1 rfl rfl)
theorem dX2_longestAt_2 : decode cX2_longestAt 2 = .ok (.iconst 0, 1) := dk_3 (dk_at dksX2_longestAt_0 2 rfl rfl)
theorem dX2_longestAt_3 : decode cX2_longestAt 3 = .ok (.istore_n 3, 1) := dk_62 (dk_at dksX2_longestAt_0 3 rfl rfl)
theorem dX2_longestAt_4 : decode cX2_longestAt 4 = .ok (.aload_n 0, 1) := dk_42 (dk_at dksX2_longestAt_0 4 rfl rfl)
theorem dX2_longestAt_5 : decode cX2_longestAt 5 = .ok (.iload_n 1, 1) := dk_27 (dk_at dksX2_longestAt_0 5 rfl rfl)
theorem dX2_longestAt_6 : decode cX2_longestAt 6 = .ok (.invokevirtual 90, 3) := dk_182 0 90 (dk_at dksX2_longestAt_0 6 rfl rfl)
theorem dX2_longestAt_9 : decode cX2_longestAt 9 = .ok (.istore 4, 2) := dk_54 4 (dk_at dksX2_longestAt_0 9 rfl rfl)
theorem dX2_longestAt_11 : decode cX2_longestAt 11 = .ok (.iconst 0, 1) := dk_3 (dk_at dksX2_longestAt_0 11 rfl rfl)
theorem dX2_longestAt_12 : decode cX2_longestAt 12 = .ok (.istore 5, 2) := dk_54 5 (dk_at dksX2_longestAt_0 12 rfl rfl)
theorem dX2_longestAt_14 : decode cX2_longestAt 14 = .ok (.iload 5, 2) := dk_21 5 (dk_at dksX2_longestAt_0 14 rfl rfl)
theorem dX2_longestAt_16 : decode cX2_longestAt 16 = .ok (.iload 4, 2) := dk_21 4 (dk_at dksX2_longestAt_0 16 rfl rfl)
theorem dX2_longestAt_18 : decode cX2_longestAt 18 = .ok (.if_icmp .ge 45, 3) := dk_162 0 45 (dk_at dksX2_longestAt_0 18 rfl rfl)
theorem dX2_longestAt_21 : decode cX2_longestAt 21 = .ok (.aload_n 0, 1) := dk_42 (dk_at dksX2_longestAt_0 21 rfl rfl)
theorem dX2_longestAt_22 : decode cX2_longestAt 22 = .ok (.iload_n 1, 1) := dk_27 (dk_at dksX2_longestAt_0 22 rfl rfl)
theorem dX2_longestAt_23 : decode cX2_longestAt 23 = .ok (.iload_n 1, 1) := dk_27 (dk_at dksX2_longestAt_0 23 rfl rfl)
theorem dX2_longestAt_24 : decode cX2_longestAt 24 = .ok (.aload_n 0, 1) := dk_42 (dk_at dksX2_longestAt_1 0 rfl rfl)
theorem dX2_longestAt_25 : decode cX2_longestAt 25 = .ok (.iload_n 1, 1) := dk_27 (dk_at dksX2_longestAt_1 1 rfl rfl)
theorem dX2_longestAt_26 : decode cX2_longestAt 26 = .ok (.iload 5, 2) := dk_21 5 (dk_at dksX2_longestAt_1 2 rfl rfl)
theorem dX2_longestAt_28 : decode cX2_longestAt 28 = .ok (.invokevirtual 93, 3) := dk_182 0 93 (dk_at dksX2_longestAt_1 4 rfl rfl)
theorem dX2_longestAt_31 : decode cX2_longestAt 31 = .ok (.isub, 1) := dk_100 (dk_at dksX2_longestAt_1 7 rfl rfl)
theorem dX2_longestAt_32 : decode cX2_longestAt 32 = .ok (.invokevirtual 96, 3) := dk_182 0 96 (dk_at dksX2_longestAt_1 8 rfl rfl)
theorem dX2_longestAt_35 : decode cX2_longestAt 35 = .ok (.istore 6, 2) := dk_54 6 (dk_at dksX2_longestAt_1 11 rfl rfl)
theorem dX2_longestAt_37 : decode cX2_longestAt 37 = .ok (.iload 6, 2) := dk_21 6 (dk_at dksX2_longestAt_1 13 rfl rfl)
theorem dX2_longestAt_39 : decode cX2_longestAt 39 = .ok (.iload_n 3, 1) := dk_29 (dk_at dksX2_longestAt_1 15 rfl rfl)
theorem dX2_longestAt_40 : decode cX2_longestAt 40 = .ok (.if_icmp .gt 6, 3) := dk_163 0 6 (dk_at dksX2_longestAt_1 16 rfl rfl)
theorem dX2_longestAt_43 : decode cX2_longestAt 43 = .ok (.goto 14, 3) := dk_167 0 14 (dk_at dksX2_longestAt_1 19 rfl rfl)
theorem dX2_longestAt_46 : decode cX2_longestAt 46 = .ok (.aload_n 0, 1) := dk_42 (dk_at dksX2_longestAt_1 22 rfl rfl)
theorem dX2_longestAt_47 : decode cX2_longestAt 47 = .ok (.iload_n 1, 1) := dk_27 (dk_at dksX2_longestAt_1 23 rfl rfl)
theorem dX2_longestAt_48 : decode cX2_longestAt 48 = .ok (.iload 5, 2) := dk_21 5 (dk_at dksX2_longestAt_2 0 rfl rfl)
theorem dX2_longestAt_50 : decode cX2_longestAt 50 = .ok (.invokevirtual 93, 3) := dk_182 0 93 (dk_at dksX2_longestAt_2 2 rfl rfl)
theorem dX2_longestAt_53 : decode cX2_longestAt 53 = .ok (.istore_n 2, 1) := dk_61 (dk_at dksX2_longestAt_2 5 rfl rfl)
theorem dX2_longestAt_54 : decode cX2_longestAt 54 = .ok (.iload 6, 2) := dk_21 6 (dk_at dksX2_longestAt_2 6 rfl rfl)
theorem dX2_longestAt_56 : decode cX2_longestAt 56 = .ok (.istore_n 3, 1) := dk_62 (dk_at dksX2_longestAt_2 8 rfl rfl)
theorem dX2_longestAt_57 : decode cX2_longestAt 57 = .ok (.iinc 5 1, 3) := dk_132 5 1 (dk_at dksX2_longestAt_2 9 rfl rfl)
theorem dX2_longestAt_60 : decode cX2_longestAt 60 = .ok (.goto (-46), 3) := dk_167 255 210 (dk_at dksX2_longestAt_2 12 rfl rfl)
theorem dX2_longestAt_63 : decode cX2_longestAt 63 = .ok (.iload_n 2, 1) := dk_28 (dk_at dksX2_longestAt_2 15 rfl rfl)
theorem dX2_longestAt_64 : decode cX2_longestAt 64 = .ok (.ireturn, 1) := dk_172 (dk_at dksX2_longestAt_2 16 rfl rfl)
abbrev cX2_copy : ByteArray := prog_12_method_20_code
def yX2_copy : MethodName := ⟨RX2, "copy", "(IIII)LCopyPrices$Copy;"⟩
def dkwX2_copy_1 : List UInt8 := [21, 4, 79, 183, 0, 128, 176]
abbrev dktX2_copy_1 : List UInt8 := dkwX2_copy_1 ++ []
def dkwX2_copy_0 : List UInt8 := [187, 0, 122, 89, 27, 28, 42, 29, 21, 4, 28, 182, 0, 124, 5, 188, 10, 89, 3, 29, 79, 89, 4]
abbrev dktX2_copy_0 : List UInt8 := dkwX2_copy_0 ++ dktX2_copy_1
theorem dksX2_copy_0 : cX2_copy.data.toList.drop 0 = dktX2_copy_0 := by decide +kernel
theorem dksX2_copy_1 : cX2_copy.data.toList.drop 23 = dktX2_copy_1 := dk_seg dksX2_copy_0 23 rfl rfl
theorem dX2_copy_0 : decode cX2_copy 0 = .ok (.new 122, 3) := dk_187 0 122 (dk_at dksX2_copy_0 0 rfl rfl)
theorem dX2_copy_3 : decode cX2_copy 3 = .ok (.dup, 1) := dk_89 (dk_at dksX2_copy_0 3 rfl rfl)
theorem dX2_copy_4 : decode cX2_copy 4 = .ok (.iload_n 1, 1) := dk_27 (dk_at dksX2_copy_0 4 rfl rfl)
theorem dX2_copy_5 : decode cX2_copy 5 = .ok (.iload_n 2, 1) := dk_28 (dk_at dksX2_copy_0 5 rfl rfl)
theorem dX2_copy_6 : decode cX2_copy 6 = .ok (.aload_n 0, 1) := dk_42 (dk_at dksX2_copy_0 6 rfl rfl)
theorem dX2_copy_7 : decode cX2_copy 7 = .ok (.iload_n 3, 1) := dk_29 (dk_at dksX2_copy_0 7 rfl rfl)
theorem dX2_copy_8 : decode cX2_copy 8 = .ok (.iload 4, 2) := dk_21 4 (dk_at dksX2_copy_0 8 rfl rfl)
theorem dX2_copy_10 : decode cX2_copy 10 = .ok (.iload_n 2, 1) := dk_28 (dk_at dksX2_copy_0 10 rfl rfl)
theorem dX2_copy_11 : decode cX2_copy 11 = .ok (.invokevirtual 124, 3) := dk_182 0 124 (dk_at dksX2_copy_0 11 rfl rfl)
theorem dX2_copy_14 : decode cX2_copy 14 = .ok (.iconst 2, 1) := dk_5 (dk_at dksX2_copy_0 14 rfl rfl)
theorem dX2_copy_15 : decode cX2_copy 15 = .ok (.newarray .int, 2) := dk_188_10 (dk_at dksX2_copy_0 15 rfl rfl)
theorem dX2_copy_17 : decode cX2_copy 17 = .ok (.dup, 1) := dk_89 (dk_at dksX2_copy_0 17 rfl rfl)
theorem dX2_copy_18 : decode cX2_copy 18 = .ok (.iconst 0, 1) := dk_3 (dk_at dksX2_copy_0 18 rfl rfl)
theorem dX2_copy_19 : decode cX2_copy 19 = .ok (.iload_n 3, 1) := dk_29 (dk_at dksX2_copy_0 19 rfl rfl)
theorem dX2_copy_20 : decode cX2_copy 20 = .ok (.iastore, 1) := dk_79 (dk_at dksX2_copy_0 20 rfl rfl)
theorem dX2_copy_21 : decode cX2_copy 21 = .ok (.dup, 1) := dk_89 (dk_at dksX2_copy_0 21 rfl rfl)
theorem dX2_copy_22 : decode cX2_copy 22 = .ok (.iconst 1, 1) := dk_4 (dk_at dksX2_copy_0 22 rfl rfl)
theorem dX2_copy_23 : decode cX2_copy 23 = .ok (.iload 4, 2) := dk_21 4 (dk_at dksX2_copy_1 0 rfl rfl)
theorem dX2_copy_25 : decode cX2_copy 25 = .ok (.iastore, 1) := dk_79 (dk_at dksX2_copy_1 2 rfl rfl)
theorem dX2_copy_26 : decode cX2_copy 26 = .ok (.invokespecial 128, 3) := dk_183 0 128 (dk_at dksX2_copy_1 3 rfl rfl)
theorem dX2_copy_29 : decode cX2_copy 29 = .ok (.areturn, 1) := dk_176 (dk_at dksX2_copy_1 6 rfl rfl)
abbrev cX2_lambda_chooser_2 : ByteArray := prog_12_method_31_code
def yX2_lambda_chooser_2 : MethodName := ⟨RX2, "lambda$chooser$2", "(IIZ)LCopyPrices$Step;"⟩
def dkwX2_lambda_chooser_2_1 : List UInt8 := [182, 0, 212, 176]
abbrev dktX2_lambda_chooser_2_1 : List UInt8 := dkwX2_lambda_chooser_2_1 ++ []
def dkwX2_lambda_chooser_2_0 : List UInt8 := [42, 27, 182, 0, 209, 153, 0, 13, 42, 27, 28, 29, 182, 0, 153, 167, 0, 10, 42, 27, 28, 29]
abbrev dktX2_lambda_chooser_2_0 : List UInt8 := dkwX2_lambda_chooser_2_0 ++ dktX2_lambda_chooser_2_1
theorem dksX2_lambda_chooser_2_0 : cX2_lambda_chooser_2.data.toList.drop 0 = dktX2_lambda_chooser_2_0 := by decide +kernel
theorem dksX2_lambda_chooser_2_1 : cX2_lambda_chooser_2.data.toList.drop 22 = dktX2_lambda_chooser_2_1 := dk_seg dksX2_lambda_chooser_2_0 22 rfl rfl
theorem dX2_lambda_chooser_2_0 : decode cX2_lambda_chooser_2 0 = .ok (.aload_n 0, 1) := dk_42 (dk_at dksX2_lambda_chooser_2_0 0 rfl rfl)
theorem dX2_lambda_chooser_2_1 : decode cX2_lambda_chooser_2 1 = .ok (.iload_n 1, 1) := dk_27 (dk_at dksX2_lambda_chooser_2_0 1 rfl rfl)
theorem dX2_lambda_chooser_2_2 : decode cX2_lambda_chooser_2 2 = .ok (.invokevirtual 209, 3) := dk_182 0 209 (dk_at dksX2_lambda_chooser_2_0 2 rfl rfl)
theorem dX2_lambda_chooser_2_5 : decode cX2_lambda_chooser_2 5 = .ok (.ifCond .eq 13, 3) := dk_153 0 13 (dk_at dksX2_lambda_chooser_2_0 5 rfl rfl)
theorem dX2_lambda_chooser_2_8 : decode cX2_lambda_chooser_2 8 = .ok (.aload_n 0, 1) := dk_42 (dk_at dksX2_lambda_chooser_2_0 8 rfl rfl)
theorem dX2_lambda_chooser_2_9 : decode cX2_lambda_chooser_2 9 = .ok (.iload_n 1, 1) := dk_27 (dk_at dksX2_lambda_chooser_2_0 9 rfl rfl)
theorem dX2_lambda_chooser_2_10 : decode cX2_lambda_chooser_2 10 = .ok (.iload_n 2, 1) := dk_28 (dk_at dksX2_lambda_chooser_2_0 10 rfl rfl)
theorem dX2_lambda_chooser_2_11 : decode cX2_lambda_chooser_2 11 = .ok (.iload_n 3, 1) := dk_29 (dk_at dksX2_lambda_chooser_2_0 11 rfl rfl)
theorem dX2_lambda_chooser_2_12 : decode cX2_lambda_chooser_2 12 = .ok (.invokevirtual 153, 3) := dk_182 0 153 (dk_at dksX2_lambda_chooser_2_0 12 rfl rfl)
theorem dX2_lambda_chooser_2_15 : decode cX2_lambda_chooser_2 15 = .ok (.goto 10, 3) := dk_167 0 10 (dk_at dksX2_lambda_chooser_2_0 15 rfl rfl)
theorem dX2_lambda_chooser_2_18 : decode cX2_lambda_chooser_2 18 = .ok (.aload_n 0, 1) := dk_42 (dk_at dksX2_lambda_chooser_2_0 18 rfl rfl)
theorem dX2_lambda_chooser_2_19 : decode cX2_lambda_chooser_2 19 = .ok (.iload_n 1, 1) := dk_27 (dk_at dksX2_lambda_chooser_2_0 19 rfl rfl)
theorem dX2_lambda_chooser_2_20 : decode cX2_lambda_chooser_2 20 = .ok (.iload_n 2, 1) := dk_28 (dk_at dksX2_lambda_chooser_2_0 20 rfl rfl)
theorem dX2_lambda_chooser_2_21 : decode cX2_lambda_chooser_2 21 = .ok (.iload_n 3, 1) := dk_29 (dk_at dksX2_lambda_chooser_2_0 21 rfl rfl)
theorem dX2_lambda_chooser_2_22 : decode cX2_lambda_chooser_2 22 = .ok (.invokevirtual 212, 3) := dk_182 0 212 (dk_at dksX2_lambda_chooser_2_1 0 rfl rfl)
theorem dX2_lambda_chooser_2_25 : decode cX2_lambda_chooser_2 25 = .ok (.areturn, 1) := dk_176 (dk_at dksX2_lambda_chooser_2_1 3 rfl rfl)
abbrev cX2_waits : ByteArray := prog_12_method_23_code
def yX2_waits : MethodName := ⟨RX2, "waits", "(I)Z"⟩
def dkwX2_waits_1 : List UInt8 := [167, 0, 4, 3, 172]
abbrev dktX2_waits_1 : List UInt8 := dkwX2_waits_1 ++ []
def dkwX2_waits_0 : List UInt8 := [42, 27, 4, 96, 182, 0, 161, 42, 27, 182, 0, 161, 42, 180, 0, 31, 7, 46, 96, 161, 0, 7, 4]
abbrev dktX2_waits_0 : List UInt8 := dkwX2_waits_0 ++ dktX2_waits_1
theorem dksX2_waits_0 : cX2_waits.data.toList.drop 0 = dktX2_waits_0 := by decide +kernel
theorem dksX2_waits_1 : cX2_waits.data.toList.drop 23 = dktX2_waits_1 := dk_seg dksX2_waits_0 23 rfl rfl
theorem dX2_waits_0 : decode cX2_waits 0 = .ok (.aload_n 0, 1) := dk_42 (dk_at dksX2_waits_0 0 rfl rfl)
theorem dX2_waits_1 : decode cX2_waits 1 = .ok (.iload_n 1, 1) := dk_27 (dk_at dksX2_waits_0 1 rfl rfl)
theorem dX2_waits_2 : decode cX2_waits 2 = .ok (.iconst 1, 1) := dk_4 (dk_at dksX2_waits_0 2 rfl rfl)
theorem dX2_waits_3 : decode cX2_waits 3 = .ok (.iadd, 1) := dk_96 (dk_at dksX2_waits_0 3 rfl rfl)
theorem dX2_waits_4 : decode cX2_waits 4 = .ok (.invokevirtual 161, 3) := dk_182 0 161 (dk_at dksX2_waits_0 4 rfl rfl)
theorem dX2_waits_7 : decode cX2_waits 7 = .ok (.aload_n 0, 1) := dk_42 (dk_at dksX2_waits_0 7 rfl rfl)
theorem dX2_waits_8 : decode cX2_waits 8 = .ok (.iload_n 1, 1) := dk_27 (dk_at dksX2_waits_0 8 rfl rfl)
theorem dX2_waits_9 : decode cX2_waits 9 = .ok (.invokevirtual 161, 3) := dk_182 0 161 (dk_at dksX2_waits_0 9 rfl rfl)
theorem dX2_waits_12 : decode cX2_waits 12 = .ok (.aload_n 0, 1) := dk_42 (dk_at dksX2_waits_0 12 rfl rfl)
theorem dX2_waits_13 : decode cX2_waits 13 = .ok (.getfield 31, 3) := dk_180 0 31 (dk_at dksX2_waits_0 13 rfl rfl)
theorem dX2_waits_16 : decode cX2_waits 16 = .ok (.iconst 4, 1) := dk_7 (dk_at dksX2_waits_0 16 rfl rfl)
theorem dX2_waits_17 : decode cX2_waits 17 = .ok (.iaload, 1) := dk_46 (dk_at dksX2_waits_0 17 rfl rfl)
theorem dX2_waits_18 : decode cX2_waits 18 = .ok (.iadd, 1) := dk_96 (dk_at dksX2_waits_0 18 rfl rfl)
theorem dX2_waits_19 : decode cX2_waits 19 = .ok (.if_icmp .lt 7, 3) := dk_161 0 7 (dk_at dksX2_waits_0 19 rfl rfl)
theorem dX2_waits_22 : decode cX2_waits 22 = .ok (.iconst 1, 1) := dk_4 (dk_at dksX2_waits_0 22 rfl rfl)
theorem dX2_waits_23 : decode cX2_waits 23 = .ok (.goto 4, 3) := dk_167 0 4 (dk_at dksX2_waits_1 0 rfl rfl)
theorem dX2_waits_26 : decode cX2_waits 26 = .ok (.iconst 0, 1) := dk_3 (dk_at dksX2_waits_1 3 rfl rfl)
theorem dX2_waits_27 : decode cX2_waits 27 = .ok (.ireturn, 1) := dk_172 (dk_at dksX2_waits_1 4 rfl rfl)
abbrev cX2_longestLength : ByteArray := prog_12_method_15_code
def yX2_longestLength : MethodName := ⟨RX2, "longestLength", "(I)I"⟩
def dkwX2_longestLength_1 : List UInt8 := [167, 0, 11, 42, 27, 27, 28, 100, 182, 0, 96, 172]
abbrev dktX2_longestLength_1 : List UInt8 := dkwX2_longestLength_1 ++ []
def dkwX2_longestLength_0 : List UInt8 := [27, 42, 180, 0, 41, 162, 0, 11, 42, 27, 182, 0, 99, 167, 0, 4, 2, 61, 28, 2, 160, 0, 7, 3]
abbrev dktX2_longestLength_0 : List UInt8 := dkwX2_longestLength_0 ++ dktX2_longestLength_1
theorem dksX2_longestLength_0 : cX2_longestLength.data.toList.drop 0 = dktX2_longestLength_0 := by decide +kernel
theorem dksX2_longestLength_1 : cX2_longestLength.data.toList.drop 24 = dktX2_longestLength_1 := dk_seg dksX2_longestLength_0 24 rfl rfl
theorem dX2_longestLength_0 : decode cX2_longestLength 0 = .ok (.iload_n 1, 1) := dk_27 (dk_at dksX2_longestLength_0 0 rfl rfl)
theorem dX2_longestLength_1 : decode cX2_longestLength 1 = .ok (.aload_n 0, 1) := dk_42 (dk_at dksX2_longestLength_0 1 rfl rfl)
theorem dX2_longestLength_2 : decode cX2_longestLength 2 = .ok (.getfield 41, 3) := dk_180 0 41 (dk_at dksX2_longestLength_0 2 rfl rfl)
theorem dX2_longestLength_5 : decode cX2_longestLength 5 = .ok (.if_icmp .ge 11, 3) := dk_162 0 11 (dk_at dksX2_longestLength_0 5 rfl rfl)
theorem dX2_longestLength_8 : decode cX2_longestLength 8 = .ok (.aload_n 0, 1) := dk_42 (dk_at dksX2_longestLength_0 8 rfl rfl)
theorem dX2_longestLength_9 : decode cX2_longestLength 9 = .ok (.iload_n 1, 1) := dk_27 (dk_at dksX2_longestLength_0 9 rfl rfl)
theorem dX2_longestLength_10 : decode cX2_longestLength 10 = .ok (.invokevirtual 99, 3) := dk_182 0 99 (dk_at dksX2_longestLength_0 10 rfl rfl)
theorem dX2_longestLength_13 : decode cX2_longestLength 13 = .ok (.goto 4, 3) := dk_167 0 4 (dk_at dksX2_longestLength_0 13 rfl rfl)
theorem dX2_longestLength_16 : decode cX2_longestLength 16 = .ok (.iconst (-1), 1) := dk_2 (dk_at dksX2_longestLength_0 16 rfl rfl)
theorem dX2_longestLength_17 : decode cX2_longestLength 17 = .ok (.istore_n 2, 1) := dk_61 (dk_at dksX2_longestLength_0 17 rfl rfl)
theorem dX2_longestLength_18 : decode cX2_longestLength 18 = .ok (.iload_n 2, 1) := dk_28 (dk_at dksX2_longestLength_0 18 rfl rfl)
theorem dX2_longestLength_19 : decode cX2_longestLength 19 = .ok (.iconst (-1), 1) := dk_2 (dk_at dksX2_longestLength_0 19 rfl rfl)
theorem dX2_longestLength_20 : decode cX2_longestLength 20 = .ok (.if_icmp .ne 7, 3) := dk_160 0 7 (dk_at dksX2_longestLength_0 20 rfl rfl)
theorem dX2_longestLength_23 : decode cX2_longestLength 23 = .ok (.iconst 0, 1) := dk_3 (dk_at dksX2_longestLength_0 23 rfl rfl)
theorem dX2_longestLength_24 : decode cX2_longestLength 24 = .ok (.goto 11, 3) := dk_167 0 11 (dk_at dksX2_longestLength_1 0 rfl rfl)
theorem dX2_longestLength_27 : decode cX2_longestLength 27 = .ok (.aload_n 0, 1) := dk_42 (dk_at dksX2_longestLength_1 3 rfl rfl)
theorem dX2_longestLength_28 : decode cX2_longestLength 28 = .ok (.iload_n 1, 1) := dk_27 (dk_at dksX2_longestLength_1 4 rfl rfl)
theorem dX2_longestLength_29 : decode cX2_longestLength 29 = .ok (.iload_n 1, 1) := dk_27 (dk_at dksX2_longestLength_1 5 rfl rfl)
theorem dX2_longestLength_30 : decode cX2_longestLength 30 = .ok (.iload_n 2, 1) := dk_28 (dk_at dksX2_longestLength_1 6 rfl rfl)
theorem dX2_longestLength_31 : decode cX2_longestLength 31 = .ok (.isub, 1) := dk_100 (dk_at dksX2_longestLength_1 7 rfl rfl)
theorem dX2_longestLength_32 : decode cX2_longestLength 32 = .ok (.invokevirtual 96, 3) := dk_182 0 96 (dk_at dksX2_longestLength_1 8 rfl rfl)
theorem dX2_longestLength_35 : decode cX2_longestLength 35 = .ok (.ireturn, 1) := dk_172 (dk_at dksX2_longestLength_1 11 rfl rfl)
abbrev cX2_steps : ByteArray := prog_12_method_21_code
def yX2_steps : MethodName := ⟨RX2, "steps", "(LCopyPrices$Chooser;IIZ)LCopyPrices$Step;"⟩
def dkwX2_steps_3 : List UInt8 := [176]
abbrev dktX2_steps_3 : List UInt8 := dkwX2_steps_3 ++ []
def dkwX2_steps_2 : List UInt8 := [21, 6, 153, 0, 7, 29, 167, 0, 8, 25, 5, 182, 0, 136, 21, 6, 182, 0, 145, 181, 0, 149, 25, 5]
abbrev dktX2_steps_2 : List UInt8 := dkwX2_steps_2 ++ dktX2_steps_3
def dkwX2_steps_1 : List UInt8 := [182, 0, 136, 154, 0, 7, 4, 167, 0, 4, 3, 54, 6, 25, 5, 42, 43, 28, 25, 5, 182, 0, 142, 96]
abbrev dktX2_steps_1 : List UInt8 := dkwX2_steps_1 ++ dktX2_steps_2
def dkwX2_steps_0 : List UInt8 := [28, 42, 180, 0, 41, 160, 0, 5, 1, 176, 43, 28, 29, 21, 4, 185, 0, 131, 4, 0, 58, 5, 25, 5]
abbrev dktX2_steps_0 : List UInt8 := dkwX2_steps_0 ++ dktX2_steps_1
theorem dksX2_steps_0 : cX2_steps.data.toList.drop 0 = dktX2_steps_0 := by decide +kernel
theorem dksX2_steps_1 : cX2_steps.data.toList.drop 24 = dktX2_steps_1 := dk_seg dksX2_steps_0 24 rfl rfl
theorem dksX2_steps_2 : cX2_steps.data.toList.drop 48 = dktX2_steps_2 := dk_seg dksX2_steps_1 24 rfl rfl
theorem dksX2_steps_3 : cX2_steps.data.toList.drop 72 = dktX2_steps_3 := dk_seg dksX2_steps_2 24 rfl rfl
theorem dX2_steps_0 : decode cX2_steps 0 = .ok (.iload_n 2, 1) := dk_28 (dk_at dksX2_steps_0 0 rfl rfl)
theorem dX2_steps_1 : decode cX2_steps 1 = .ok (.aload_n 0, 1) := dk_42 (dk_at dksX2_steps_0 1 rfl rfl)
theorem dX2_steps_2 : decode cX2_steps 2 = .ok (.getfield 41, 3) := dk_180 0 41 (dk_at dksX2_steps_0 2 rfl rfl)
theorem dX2_steps_5 : decode cX2_steps 5 = .ok (.if_icmp .ne 5, 3) := dk_160 0 5 (dk_at dksX2_steps_0 5 rfl rfl)
theorem dX2_steps_8 : decode cX2_steps 8 = .ok (.aconst_null, 1) := dk_1 (dk_at dksX2_steps_0 8 rfl rfl)
theorem dX2_steps_9 : decode cX2_steps 9 = .ok (.areturn, 1) := dk_176 (dk_at dksX2_steps_0 9 rfl rfl)
theorem dX2_steps_10 : decode cX2_steps 10 = .ok (.aload_n 1, 1) := dk_43 (dk_at dksX2_steps_0 10 rfl rfl)
theorem dX2_steps_11 : decode cX2_steps 11 = .ok (.iload_n 2, 1) := dk_28 (dk_at dksX2_steps_0 11 rfl rfl)
theorem dX2_steps_12 : decode cX2_steps 12 = .ok (.iload_n 3, 1) := dk_29 (dk_at dksX2_steps_0 12 rfl rfl)
theorem dX2_steps_13 : decode cX2_steps 13 = .ok (.iload 4, 2) := dk_21 4 (dk_at dksX2_steps_0 13 rfl rfl)
theorem dX2_steps_15 : decode cX2_steps 15 = .ok (.invokeinterface 131 4, 5) := by decide +kernel
theorem dX2_steps_20 : decode cX2_steps 20 = .ok (.astore 5, 2) := dk_58 5 (dk_at dksX2_steps_0 20 rfl rfl)
theorem dX2_steps_22 : decode cX2_steps 22 = .ok (.aload 5, 2) := dk_25 5 (dk_at dksX2_steps_0 22 rfl rfl)
theorem dX2_steps_24 : decode cX2_steps 24 = .ok (.invokevirtual 136, 3) := dk_182 0 136 (dk_at dksX2_steps_1 0 rfl rfl)
theorem dX2_steps_27 : decode cX2_steps 27 = .ok (.ifCond .ne 7, 3) := dk_154 0 7 (dk_at dksX2_steps_1 3 rfl rfl)
theorem dX2_steps_30 : decode cX2_steps 30 = .ok (.iconst 1, 1) := dk_4 (dk_at dksX2_steps_1 6 rfl rfl)
theorem dX2_steps_31 : decode cX2_steps 31 = .ok (.goto 4, 3) := dk_167 0 4 (dk_at dksX2_steps_1 7 rfl rfl)
theorem dX2_steps_34 : decode cX2_steps 34 = .ok (.iconst 0, 1) := dk_3 (dk_at dksX2_steps_1 10 rfl rfl)
theorem dX2_steps_35 : decode cX2_steps 35 = .ok (.istore 6, 2) := dk_54 6 (dk_at dksX2_steps_1 11 rfl rfl)
theorem dX2_steps_37 : decode cX2_steps 37 = .ok (.aload 5, 2) := dk_25 5 (dk_at dksX2_steps_1 13 rfl rfl)
theorem dX2_steps_39 : decode cX2_steps 39 = .ok (.aload_n 0, 1) := dk_42 (dk_at dksX2_steps_1 15 rfl rfl)
theorem dX2_steps_40 : decode cX2_steps 40 = .ok (.aload_n 1, 1) := dk_43 (dk_at dksX2_steps_1 16 rfl rfl)
theorem dX2_steps_41 : decode cX2_steps 41 = .ok (.iload_n 2, 1) := dk_28 (dk_at dksX2_steps_1 17 rfl rfl)
theorem dX2_steps_42 : decode cX2_steps 42 = .ok (.aload 5, 2) := dk_25 5 (dk_at dksX2_steps_1 18 rfl rfl)
theorem dX2_steps_44 : decode cX2_steps 44 = .ok (.invokevirtual 142, 3) := dk_182 0 142 (dk_at dksX2_steps_1 20 rfl rfl)
theorem dX2_steps_47 : decode cX2_steps 47 = .ok (.iadd, 1) := dk_96 (dk_at dksX2_steps_1 23 rfl rfl)
theorem dX2_steps_48 : decode cX2_steps 48 = .ok (.iload 6, 2) := dk_21 6 (dk_at dksX2_steps_2 0 rfl rfl)
theorem dX2_steps_50 : decode cX2_steps 50 = .ok (.ifCond .eq 7, 3) := dk_153 0 7 (dk_at dksX2_steps_2 2 rfl rfl)
theorem dX2_steps_53 : decode cX2_steps 53 = .ok (.iload_n 3, 1) := dk_29 (dk_at dksX2_steps_2 5 rfl rfl)
theorem dX2_steps_54 : decode cX2_steps 54 = .ok (.goto 8, 3) := dk_167 0 8 (dk_at dksX2_steps_2 6 rfl rfl)
theorem dX2_steps_57 : decode cX2_steps 57 = .ok (.aload 5, 2) := dk_25 5 (dk_at dksX2_steps_2 9 rfl rfl)
theorem dX2_steps_59 : decode cX2_steps 59 = .ok (.invokevirtual 136, 3) := dk_182 0 136 (dk_at dksX2_steps_2 11 rfl rfl)
theorem dX2_steps_62 : decode cX2_steps 62 = .ok (.iload 6, 2) := dk_21 6 (dk_at dksX2_steps_2 14 rfl rfl)
theorem dX2_steps_64 : decode cX2_steps 64 = .ok (.invokevirtual 145, 3) := dk_182 0 145 (dk_at dksX2_steps_2 16 rfl rfl)
theorem dX2_steps_67 : decode cX2_steps 67 = .ok (.putfield 149, 3) := dk_181 0 149 (dk_at dksX2_steps_2 19 rfl rfl)
theorem dX2_steps_70 : decode cX2_steps 70 = .ok (.aload 5, 2) := dk_25 5 (dk_at dksX2_steps_2 22 rfl rfl)
theorem dX2_steps_72 : decode cX2_steps 72 = .ok (.areturn, 1) := dk_176 (dk_at dksX2_steps_3 0 rfl rfl)
abbrev cX2_priceOf : ByteArray := prog_12_method_26_code
def yX2_priceOf : MethodName := ⟨RX2, "priceOf", "(ILCopyPrices$Table;)I"⟩
def dkwX2_priceOf_1 : List UInt8 := [182, 0, 194, 172]
abbrev dktX2_priceOf_1 : List UInt8 := dkwX2_priceOf_1 ++ []
def dkwX2_priceOf_0 : List UInt8 := [27, 6, 160, 0, 11, 42, 44, 182, 0, 182, 167, 0, 17, 42, 27, 44, 182, 0, 186, 186, 0, 190, 0, 0]
abbrev dktX2_priceOf_0 : List UInt8 := dkwX2_priceOf_0 ++ dktX2_priceOf_1
theorem dksX2_priceOf_0 : cX2_priceOf.data.toList.drop 0 = dktX2_priceOf_0 := by decide +kernel
theorem dksX2_priceOf_1 : cX2_priceOf.data.toList.drop 24 = dktX2_priceOf_1 := dk_seg dksX2_priceOf_0 24 rfl rfl
theorem dX2_priceOf_0 : decode cX2_priceOf 0 = .ok (.iload_n 1, 1) := dk_27 (dk_at dksX2_priceOf_0 0 rfl rfl)
theorem dX2_priceOf_1 : decode cX2_priceOf 1 = .ok (.iconst 3, 1) := dk_6 (dk_at dksX2_priceOf_0 1 rfl rfl)
theorem dX2_priceOf_2 : decode cX2_priceOf 2 = .ok (.if_icmp .ne 11, 3) := dk_160 0 11 (dk_at dksX2_priceOf_0 2 rfl rfl)
theorem dX2_priceOf_5 : decode cX2_priceOf 5 = .ok (.aload_n 0, 1) := dk_42 (dk_at dksX2_priceOf_0 5 rfl rfl)
theorem dX2_priceOf_6 : decode cX2_priceOf 6 = .ok (.aload_n 2, 1) := dk_44 (dk_at dksX2_priceOf_0 6 rfl rfl)
theorem dX2_priceOf_7 : decode cX2_priceOf 7 = .ok (.invokevirtual 182, 3) := dk_182 0 182 (dk_at dksX2_priceOf_0 7 rfl rfl)
theorem dX2_priceOf_10 : decode cX2_priceOf 10 = .ok (.goto 17, 3) := dk_167 0 17 (dk_at dksX2_priceOf_0 10 rfl rfl)
theorem dX2_priceOf_13 : decode cX2_priceOf 13 = .ok (.aload_n 0, 1) := dk_42 (dk_at dksX2_priceOf_0 13 rfl rfl)
theorem dX2_priceOf_14 : decode cX2_priceOf 14 = .ok (.iload_n 1, 1) := dk_27 (dk_at dksX2_priceOf_0 14 rfl rfl)
theorem dX2_priceOf_15 : decode cX2_priceOf 15 = .ok (.aload_n 2, 1) := dk_44 (dk_at dksX2_priceOf_0 15 rfl rfl)
theorem dX2_priceOf_16 : decode cX2_priceOf 16 = .ok (.invokevirtual 186, 3) := dk_182 0 186 (dk_at dksX2_priceOf_0 16 rfl rfl)
theorem dX2_priceOf_19 : decode cX2_priceOf 19 = .ok (.invokedynamic 190, 5) := by decide +kernel
theorem dX2_priceOf_24 : decode cX2_priceOf 24 = .ok (.invokevirtual 194, 3) := dk_182 0 194 (dk_at dksX2_priceOf_1 0 rfl rfl)
theorem dX2_priceOf_27 : decode cX2_priceOf 27 = .ok (.ireturn, 1) := dk_172 (dk_at dksX2_priceOf_1 3 rfl rfl)
abbrev cX2_lambda_priceOf_3 : ByteArray := prog_12_method_30_code
def yX2_lambda_priceOf_3 : MethodName := ⟨RX2, "lambda$priceOf$3", "(LCopyPrices$Step;)I"⟩
theorem dX2_lambda_priceOf_3_0 : decode cX2_lambda_priceOf_3 0 = .ok (.aload_n 0, 1) := by decide +kernel
theorem dX2_lambda_priceOf_3_1 : decode cX2_lambda_priceOf_3 1 = .ok (.getfield 206, 3) := by decide +kernel
theorem dX2_lambda_priceOf_3_4 : decode cX2_lambda_priceOf_3 4 = .ok (.ireturn, 1) := by decide +kernel
abbrev cX2_pinnedPrice : ByteArray := prog_12_method_28_code
def yX2_pinnedPrice : MethodName := ⟨RX2, "pinnedPrice", "(ILCopyPrices$Table;)I"⟩
def dkwX2_pinnedPrice_1 : List UInt8 := [42, 33, 181, 0, 45, 21, 5, 172, 58, 6, 42, 33, 181, 0, 45, 25, 6, 191]
abbrev dktX2_pinnedPrice_1 : List UInt8 := dkwX2_pinnedPrice_1 ++ []
def dkwX2_pinnedPrice_0 : List UInt8 := [42, 180, 0, 45, 66, 42, 89, 180, 0, 45, 10, 27, 121, 129, 181, 0, 45, 42, 44, 182, 0, 182, 54, 5]
abbrev dktX2_pinnedPrice_0 : List UInt8 := dkwX2_pinnedPrice_0 ++ dktX2_pinnedPrice_1
theorem dksX2_pinnedPrice_0 : cX2_pinnedPrice.data.toList.drop 0 = dktX2_pinnedPrice_0 := by decide +kernel
theorem dksX2_pinnedPrice_1 : cX2_pinnedPrice.data.toList.drop 24 = dktX2_pinnedPrice_1 := dk_seg dksX2_pinnedPrice_0 24 rfl rfl
theorem dX2_pinnedPrice_0 : decode cX2_pinnedPrice 0 = .ok (.aload_n 0, 1) := dk_42 (dk_at dksX2_pinnedPrice_0 0 rfl rfl)
theorem dX2_pinnedPrice_1 : decode cX2_pinnedPrice 1 = .ok (.getfield 45, 3) := dk_180 0 45 (dk_at dksX2_pinnedPrice_0 1 rfl rfl)
theorem dX2_pinnedPrice_4 : decode cX2_pinnedPrice 4 = .ok (.lstore_n 3, 1) := dk_66 (dk_at dksX2_pinnedPrice_0 4 rfl rfl)
theorem dX2_pinnedPrice_5 : decode cX2_pinnedPrice 5 = .ok (.aload_n 0, 1) := dk_42 (dk_at dksX2_pinnedPrice_0 5 rfl rfl)
theorem dX2_pinnedPrice_6 : decode cX2_pinnedPrice 6 = .ok (.dup, 1) := dk_89 (dk_at dksX2_pinnedPrice_0 6 rfl rfl)
theorem dX2_pinnedPrice_7 : decode cX2_pinnedPrice 7 = .ok (.getfield 45, 3) := dk_180 0 45 (dk_at dksX2_pinnedPrice_0 7 rfl rfl)
theorem dX2_pinnedPrice_10 : decode cX2_pinnedPrice 10 = .ok (.lconst 1, 1) := dk_10 (dk_at dksX2_pinnedPrice_0 10 rfl rfl)
theorem dX2_pinnedPrice_11 : decode cX2_pinnedPrice 11 = .ok (.iload_n 1, 1) := dk_27 (dk_at dksX2_pinnedPrice_0 11 rfl rfl)
theorem dX2_pinnedPrice_12 : decode cX2_pinnedPrice 12 = .ok (.lshl, 1) := dk_121 (dk_at dksX2_pinnedPrice_0 12 rfl rfl)
theorem dX2_pinnedPrice_13 : decode cX2_pinnedPrice 13 = .ok (.lor, 1) := dk_129 (dk_at dksX2_pinnedPrice_0 13 rfl rfl)
theorem dX2_pinnedPrice_14 : decode cX2_pinnedPrice 14 = .ok (.putfield 45, 3) := dk_181 0 45 (dk_at dksX2_pinnedPrice_0 14 rfl rfl)
theorem dX2_pinnedPrice_17 : decode cX2_pinnedPrice 17 = .ok (.aload_n 0, 1) := dk_42 (dk_at dksX2_pinnedPrice_0 17 rfl rfl)
theorem dX2_pinnedPrice_18 : decode cX2_pinnedPrice 18 = .ok (.aload_n 2, 1) := dk_44 (dk_at dksX2_pinnedPrice_0 18 rfl rfl)
theorem dX2_pinnedPrice_19 : decode cX2_pinnedPrice 19 = .ok (.invokevirtual 182, 3) := dk_182 0 182 (dk_at dksX2_pinnedPrice_0 19 rfl rfl)
theorem dX2_pinnedPrice_22 : decode cX2_pinnedPrice 22 = .ok (.istore 5, 2) := dk_54 5 (dk_at dksX2_pinnedPrice_0 22 rfl rfl)
theorem dX2_pinnedPrice_24 : decode cX2_pinnedPrice 24 = .ok (.aload_n 0, 1) := dk_42 (dk_at dksX2_pinnedPrice_1 0 rfl rfl)
theorem dX2_pinnedPrice_25 : decode cX2_pinnedPrice 25 = .ok (.lload_n 3, 1) := dk_33 (dk_at dksX2_pinnedPrice_1 1 rfl rfl)
theorem dX2_pinnedPrice_26 : decode cX2_pinnedPrice 26 = .ok (.putfield 45, 3) := dk_181 0 45 (dk_at dksX2_pinnedPrice_1 2 rfl rfl)
theorem dX2_pinnedPrice_29 : decode cX2_pinnedPrice 29 = .ok (.iload 5, 2) := dk_21 5 (dk_at dksX2_pinnedPrice_1 5 rfl rfl)
theorem dX2_pinnedPrice_31 : decode cX2_pinnedPrice 31 = .ok (.ireturn, 1) := dk_172 (dk_at dksX2_pinnedPrice_1 7 rfl rfl)
theorem dX2_pinnedPrice_32 : decode cX2_pinnedPrice 32 = .ok (.astore 6, 2) := dk_58 6 (dk_at dksX2_pinnedPrice_1 8 rfl rfl)
theorem dX2_pinnedPrice_34 : decode cX2_pinnedPrice 34 = .ok (.aload_n 0, 1) := dk_42 (dk_at dksX2_pinnedPrice_1 10 rfl rfl)
theorem dX2_pinnedPrice_35 : decode cX2_pinnedPrice 35 = .ok (.lload_n 3, 1) := dk_33 (dk_at dksX2_pinnedPrice_1 11 rfl rfl)
theorem dX2_pinnedPrice_36 : decode cX2_pinnedPrice 36 = .ok (.putfield 45, 3) := dk_181 0 45 (dk_at dksX2_pinnedPrice_1 12 rfl rfl)
theorem dX2_pinnedPrice_39 : decode cX2_pinnedPrice 39 = .ok (.aload 6, 2) := dk_25 6 (dk_at dksX2_pinnedPrice_1 15 rfl rfl)
theorem dX2_pinnedPrice_41 : decode cX2_pinnedPrice 41 = .ok (.athrow, 1) := dk_191 (dk_at dksX2_pinnedPrice_1 17 rfl rfl)
abbrev cX2_priceWith : ByteArray := prog_12_method_29_code
def yX2_priceWith : MethodName := ⟨RX2, "priceWith", "(IILCopyPrices$Table;)I"⟩
def dkwX2_priceWith_2 : List UInt8 := [58, 6, 42, 180, 0, 31, 27, 21, 4, 79, 25, 6, 191]
abbrev dktX2_priceWith_2 : List UInt8 := dkwX2_priceWith_2 ++ []
def dkwX2_priceWith_1 : List UInt8 := [182, 0, 202, 167, 0, 8, 42, 45, 182, 0, 182, 54, 5, 42, 180, 0, 31, 27, 21, 4, 79, 21, 5, 172]
abbrev dktX2_priceWith_1 : List UInt8 := dkwX2_priceWith_1 ++ dktX2_priceWith_2
def dkwX2_priceWith_0 : List UInt8 := [42, 180, 0, 31, 27, 46, 54, 4, 42, 180, 0, 31, 27, 28, 79, 27, 7, 160, 0, 12, 42, 5, 45]
abbrev dktX2_priceWith_0 : List UInt8 := dkwX2_priceWith_0 ++ dktX2_priceWith_1
theorem dksX2_priceWith_0 : cX2_priceWith.data.toList.drop 0 = dktX2_priceWith_0 := by decide +kernel
theorem dksX2_priceWith_1 : cX2_priceWith.data.toList.drop 23 = dktX2_priceWith_1 := dk_seg dksX2_priceWith_0 23 rfl rfl
theorem dksX2_priceWith_2 : cX2_priceWith.data.toList.drop 47 = dktX2_priceWith_2 := dk_seg dksX2_priceWith_1 24 rfl rfl
theorem dX2_priceWith_0 : decode cX2_priceWith 0 = .ok (.aload_n 0, 1) := dk_42 (dk_at dksX2_priceWith_0 0 rfl rfl)
theorem dX2_priceWith_1 : decode cX2_priceWith 1 = .ok (.getfield 31, 3) := dk_180 0 31 (dk_at dksX2_priceWith_0 1 rfl rfl)
theorem dX2_priceWith_4 : decode cX2_priceWith 4 = .ok (.iload_n 1, 1) := dk_27 (dk_at dksX2_priceWith_0 4 rfl rfl)
theorem dX2_priceWith_5 : decode cX2_priceWith 5 = .ok (.iaload, 1) := dk_46 (dk_at dksX2_priceWith_0 5 rfl rfl)
theorem dX2_priceWith_6 : decode cX2_priceWith 6 = .ok (.istore 4, 2) := dk_54 4 (dk_at dksX2_priceWith_0 6 rfl rfl)
theorem dX2_priceWith_8 : decode cX2_priceWith 8 = .ok (.aload_n 0, 1) := dk_42 (dk_at dksX2_priceWith_0 8 rfl rfl)
theorem dX2_priceWith_9 : decode cX2_priceWith 9 = .ok (.getfield 31, 3) := dk_180 0 31 (dk_at dksX2_priceWith_0 9 rfl rfl)
theorem dX2_priceWith_12 : decode cX2_priceWith 12 = .ok (.iload_n 1, 1) := dk_27 (dk_at dksX2_priceWith_0 12 rfl rfl)
theorem dX2_priceWith_13 : decode cX2_priceWith 13 = .ok (.iload_n 2, 1) := dk_28 (dk_at dksX2_priceWith_0 13 rfl rfl)
theorem dX2_priceWith_14 : decode cX2_priceWith 14 = .ok (.iastore, 1) := dk_79 (dk_at dksX2_priceWith_0 14 rfl rfl)
theorem dX2_priceWith_15 : decode cX2_priceWith 15 = .ok (.iload_n 1, 1) := dk_27 (dk_at dksX2_priceWith_0 15 rfl rfl)
theorem dX2_priceWith_16 : decode cX2_priceWith 16 = .ok (.iconst 4, 1) := dk_7 (dk_at dksX2_priceWith_0 16 rfl rfl)
theorem dX2_priceWith_17 : decode cX2_priceWith 17 = .ok (.if_icmp .ne 12, 3) := dk_160 0 12 (dk_at dksX2_priceWith_0 17 rfl rfl)
theorem dX2_priceWith_20 : decode cX2_priceWith 20 = .ok (.aload_n 0, 1) := dk_42 (dk_at dksX2_priceWith_0 20 rfl rfl)
theorem dX2_priceWith_21 : decode cX2_priceWith 21 = .ok (.iconst 2, 1) := dk_5 (dk_at dksX2_priceWith_0 21 rfl rfl)
theorem dX2_priceWith_22 : decode cX2_priceWith 22 = .ok (.aload_n 3, 1) := dk_45 (dk_at dksX2_priceWith_0 22 rfl rfl)
theorem dX2_priceWith_23 : decode cX2_priceWith 23 = .ok (.invokevirtual 202, 3) := dk_182 0 202 (dk_at dksX2_priceWith_1 0 rfl rfl)
theorem dX2_priceWith_26 : decode cX2_priceWith 26 = .ok (.goto 8, 3) := dk_167 0 8 (dk_at dksX2_priceWith_1 3 rfl rfl)
theorem dX2_priceWith_29 : decode cX2_priceWith 29 = .ok (.aload_n 0, 1) := dk_42 (dk_at dksX2_priceWith_1 6 rfl rfl)
theorem dX2_priceWith_30 : decode cX2_priceWith 30 = .ok (.aload_n 3, 1) := dk_45 (dk_at dksX2_priceWith_1 7 rfl rfl)
theorem dX2_priceWith_31 : decode cX2_priceWith 31 = .ok (.invokevirtual 182, 3) := dk_182 0 182 (dk_at dksX2_priceWith_1 8 rfl rfl)
theorem dX2_priceWith_34 : decode cX2_priceWith 34 = .ok (.istore 5, 2) := dk_54 5 (dk_at dksX2_priceWith_1 11 rfl rfl)
theorem dX2_priceWith_36 : decode cX2_priceWith 36 = .ok (.aload_n 0, 1) := dk_42 (dk_at dksX2_priceWith_1 13 rfl rfl)
theorem dX2_priceWith_37 : decode cX2_priceWith 37 = .ok (.getfield 31, 3) := dk_180 0 31 (dk_at dksX2_priceWith_1 14 rfl rfl)
theorem dX2_priceWith_40 : decode cX2_priceWith 40 = .ok (.iload_n 1, 1) := dk_27 (dk_at dksX2_priceWith_1 17 rfl rfl)
theorem dX2_priceWith_41 : decode cX2_priceWith 41 = .ok (.iload 4, 2) := dk_21 4 (dk_at dksX2_priceWith_1 18 rfl rfl)
theorem dX2_priceWith_43 : decode cX2_priceWith 43 = .ok (.iastore, 1) := dk_79 (dk_at dksX2_priceWith_1 20 rfl rfl)
theorem dX2_priceWith_44 : decode cX2_priceWith 44 = .ok (.iload 5, 2) := dk_21 5 (dk_at dksX2_priceWith_1 21 rfl rfl)
theorem dX2_priceWith_46 : decode cX2_priceWith 46 = .ok (.ireturn, 1) := dk_172 (dk_at dksX2_priceWith_1 23 rfl rfl)
theorem dX2_priceWith_47 : decode cX2_priceWith 47 = .ok (.astore 6, 2) := dk_58 6 (dk_at dksX2_priceWith_2 0 rfl rfl)
theorem dX2_priceWith_49 : decode cX2_priceWith 49 = .ok (.aload_n 0, 1) := dk_42 (dk_at dksX2_priceWith_2 2 rfl rfl)
theorem dX2_priceWith_50 : decode cX2_priceWith 50 = .ok (.getfield 31, 3) := dk_180 0 31 (dk_at dksX2_priceWith_2 3 rfl rfl)
theorem dX2_priceWith_53 : decode cX2_priceWith 53 = .ok (.iload_n 1, 1) := dk_27 (dk_at dksX2_priceWith_2 6 rfl rfl)
theorem dX2_priceWith_54 : decode cX2_priceWith 54 = .ok (.iload 4, 2) := dk_21 4 (dk_at dksX2_priceWith_2 7 rfl rfl)
theorem dX2_priceWith_56 : decode cX2_priceWith 56 = .ok (.iastore, 1) := dk_79 (dk_at dksX2_priceWith_2 9 rfl rfl)
theorem dX2_priceWith_57 : decode cX2_priceWith 57 = .ok (.aload 6, 2) := dk_25 6 (dk_at dksX2_priceWith_2 10 rfl rfl)
theorem dX2_priceWith_59 : decode cX2_priceWith 59 = .ok (.athrow, 1) := dk_191 (dk_at dksX2_priceWith_2 12 rfl rfl)
abbrev cX2_copy_2 : ByteArray := prog_12_method_3_code
def yX2_copy_2 : MethodName := ⟨RX2, "copy", "()LCopyPrices$World;"⟩
def dkwX2_copy_2_3 : List UInt8 := [180, 0, 41, 181, 0, 41, 43, 42, 180, 0, 45, 181, 0, 45, 43, 176]
abbrev dktX2_copy_2_3 : List UInt8 := dkwX2_copy_2_3 ++ []
def dkwX2_copy_2_2 : List UInt8 := [180, 0, 9, 190, 184, 0, 34, 42, 180, 0, 28, 3, 43, 180, 0, 28, 3, 16, 6, 184, 0, 34, 43, 42]
abbrev dktX2_copy_2_2 : List UInt8 := dkwX2_copy_2_2 ++ dktX2_copy_2_3
def dkwX2_copy_2_1 : List UInt8 := [180, 0, 31, 3, 43, 180, 0, 31, 3, 8, 184, 0, 34, 42, 180, 0, 9, 3, 43, 180, 0, 9, 3, 42]
abbrev dktX2_copy_2_1 : List UInt8 := dkwX2_copy_2_1 ++ dktX2_copy_2_2
def dkwX2_copy_2_0 : List UInt8 := [187, 0, 4, 89, 183, 0, 40, 76, 42, 180, 0, 24, 3, 43, 180, 0, 24, 3, 16, 64, 184, 0, 34, 42]
abbrev dktX2_copy_2_0 : List UInt8 := dkwX2_copy_2_0 ++ dktX2_copy_2_1
theorem dksX2_copy_2_0 : cX2_copy_2.data.toList.drop 0 = dktX2_copy_2_0 := by decide +kernel
theorem dksX2_copy_2_1 : cX2_copy_2.data.toList.drop 24 = dktX2_copy_2_1 := dk_seg dksX2_copy_2_0 24 rfl rfl
theorem dksX2_copy_2_2 : cX2_copy_2.data.toList.drop 48 = dktX2_copy_2_2 := dk_seg dksX2_copy_2_1 24 rfl rfl
theorem dksX2_copy_2_3 : cX2_copy_2.data.toList.drop 72 = dktX2_copy_2_3 := dk_seg dksX2_copy_2_2 24 rfl rfl
theorem dX2_copy_2_0 : decode cX2_copy_2 0 = .ok (.new 4, 3) := dk_187 0 4 (dk_at dksX2_copy_2_0 0 rfl rfl)
theorem dX2_copy_2_3 : decode cX2_copy_2 3 = .ok (.dup, 1) := dk_89 (dk_at dksX2_copy_2_0 3 rfl rfl)
theorem dX2_copy_2_4 : decode cX2_copy_2 4 = .ok (.invokespecial 40, 3) := dk_183 0 40 (dk_at dksX2_copy_2_0 4 rfl rfl)
theorem dX2_copy_2_7 : decode cX2_copy_2 7 = .ok (.astore_n 1, 1) := dk_76 (dk_at dksX2_copy_2_0 7 rfl rfl)
theorem dX2_copy_2_8 : decode cX2_copy_2 8 = .ok (.aload_n 0, 1) := dk_42 (dk_at dksX2_copy_2_0 8 rfl rfl)
theorem dX2_copy_2_9 : decode cX2_copy_2 9 = .ok (.getfield 24, 3) := dk_180 0 24 (dk_at dksX2_copy_2_0 9 rfl rfl)
theorem dX2_copy_2_12 : decode cX2_copy_2 12 = .ok (.iconst 0, 1) := dk_3 (dk_at dksX2_copy_2_0 12 rfl rfl)
theorem dX2_copy_2_13 : decode cX2_copy_2 13 = .ok (.aload_n 1, 1) := dk_43 (dk_at dksX2_copy_2_0 13 rfl rfl)
theorem dX2_copy_2_14 : decode cX2_copy_2 14 = .ok (.getfield 24, 3) := dk_180 0 24 (dk_at dksX2_copy_2_0 14 rfl rfl)
theorem dX2_copy_2_17 : decode cX2_copy_2 17 = .ok (.iconst 0, 1) := dk_3 (dk_at dksX2_copy_2_0 17 rfl rfl)
theorem dX2_copy_2_18 : decode cX2_copy_2 18 = .ok (.bipush 64, 2) := dk_16 64 (dk_at dksX2_copy_2_0 18 rfl rfl)
theorem dX2_copy_2_20 : decode cX2_copy_2 20 = .ok (.invokestatic 34, 3) := dk_184 0 34 (dk_at dksX2_copy_2_0 20 rfl rfl)
theorem dX2_copy_2_23 : decode cX2_copy_2 23 = .ok (.aload_n 0, 1) := dk_42 (dk_at dksX2_copy_2_0 23 rfl rfl)
theorem dX2_copy_2_24 : decode cX2_copy_2 24 = .ok (.getfield 31, 3) := dk_180 0 31 (dk_at dksX2_copy_2_1 0 rfl rfl)
theorem dX2_copy_2_27 : decode cX2_copy_2 27 = .ok (.iconst 0, 1) := dk_3 (dk_at dksX2_copy_2_1 3 rfl rfl)
theorem dX2_copy_2_28 : decode cX2_copy_2 28 = .ok (.aload_n 1, 1) := dk_43 (dk_at dksX2_copy_2_1 4 rfl rfl)
theorem dX2_copy_2_29 : decode cX2_copy_2 29 = .ok (.getfield 31, 3) := dk_180 0 31 (dk_at dksX2_copy_2_1 5 rfl rfl)
theorem dX2_copy_2_32 : decode cX2_copy_2 32 = .ok (.iconst 0, 1) := dk_3 (dk_at dksX2_copy_2_1 8 rfl rfl)
theorem dX2_copy_2_33 : decode cX2_copy_2 33 = .ok (.iconst 5, 1) := dk_8 (dk_at dksX2_copy_2_1 9 rfl rfl)
theorem dX2_copy_2_34 : decode cX2_copy_2 34 = .ok (.invokestatic 34, 3) := dk_184 0 34 (dk_at dksX2_copy_2_1 10 rfl rfl)
theorem dX2_copy_2_37 : decode cX2_copy_2 37 = .ok (.aload_n 0, 1) := dk_42 (dk_at dksX2_copy_2_1 13 rfl rfl)
theorem dX2_copy_2_38 : decode cX2_copy_2 38 = .ok (.getfield 9, 3) := dk_180 0 9 (dk_at dksX2_copy_2_1 14 rfl rfl)
theorem dX2_copy_2_41 : decode cX2_copy_2 41 = .ok (.iconst 0, 1) := dk_3 (dk_at dksX2_copy_2_1 17 rfl rfl)
theorem dX2_copy_2_42 : decode cX2_copy_2 42 = .ok (.aload_n 1, 1) := dk_43 (dk_at dksX2_copy_2_1 18 rfl rfl)
theorem dX2_copy_2_43 : decode cX2_copy_2 43 = .ok (.getfield 9, 3) := dk_180 0 9 (dk_at dksX2_copy_2_1 19 rfl rfl)
theorem dX2_copy_2_46 : decode cX2_copy_2 46 = .ok (.iconst 0, 1) := dk_3 (dk_at dksX2_copy_2_1 22 rfl rfl)
theorem dX2_copy_2_47 : decode cX2_copy_2 47 = .ok (.aload_n 0, 1) := dk_42 (dk_at dksX2_copy_2_1 23 rfl rfl)
theorem dX2_copy_2_48 : decode cX2_copy_2 48 = .ok (.getfield 9, 3) := dk_180 0 9 (dk_at dksX2_copy_2_2 0 rfl rfl)
theorem dX2_copy_2_51 : decode cX2_copy_2 51 = .ok (.arraylength, 1) := dk_190 (dk_at dksX2_copy_2_2 3 rfl rfl)
theorem dX2_copy_2_52 : decode cX2_copy_2 52 = .ok (.invokestatic 34, 3) := dk_184 0 34 (dk_at dksX2_copy_2_2 4 rfl rfl)
theorem dX2_copy_2_55 : decode cX2_copy_2 55 = .ok (.aload_n 0, 1) := dk_42 (dk_at dksX2_copy_2_2 7 rfl rfl)
theorem dX2_copy_2_56 : decode cX2_copy_2 56 = .ok (.getfield 28, 3) := dk_180 0 28 (dk_at dksX2_copy_2_2 8 rfl rfl)
theorem dX2_copy_2_59 : decode cX2_copy_2 59 = .ok (.iconst 0, 1) := dk_3 (dk_at dksX2_copy_2_2 11 rfl rfl)
theorem dX2_copy_2_60 : decode cX2_copy_2 60 = .ok (.aload_n 1, 1) := dk_43 (dk_at dksX2_copy_2_2 12 rfl rfl)
theorem dX2_copy_2_61 : decode cX2_copy_2 61 = .ok (.getfield 28, 3) := dk_180 0 28 (dk_at dksX2_copy_2_2 13 rfl rfl)
theorem dX2_copy_2_64 : decode cX2_copy_2 64 = .ok (.iconst 0, 1) := dk_3 (dk_at dksX2_copy_2_2 16 rfl rfl)
theorem dX2_copy_2_65 : decode cX2_copy_2 65 = .ok (.bipush 6, 2) := dk_16 6 (dk_at dksX2_copy_2_2 17 rfl rfl)
theorem dX2_copy_2_67 : decode cX2_copy_2 67 = .ok (.invokestatic 34, 3) := dk_184 0 34 (dk_at dksX2_copy_2_2 19 rfl rfl)
theorem dX2_copy_2_70 : decode cX2_copy_2 70 = .ok (.aload_n 1, 1) := dk_43 (dk_at dksX2_copy_2_2 22 rfl rfl)
theorem dX2_copy_2_71 : decode cX2_copy_2 71 = .ok (.aload_n 0, 1) := dk_42 (dk_at dksX2_copy_2_2 23 rfl rfl)
theorem dX2_copy_2_72 : decode cX2_copy_2 72 = .ok (.getfield 41, 3) := dk_180 0 41 (dk_at dksX2_copy_2_3 0 rfl rfl)
theorem dX2_copy_2_75 : decode cX2_copy_2 75 = .ok (.putfield 41, 3) := dk_181 0 41 (dk_at dksX2_copy_2_3 3 rfl rfl)
theorem dX2_copy_2_78 : decode cX2_copy_2 78 = .ok (.aload_n 1, 1) := dk_43 (dk_at dksX2_copy_2_3 6 rfl rfl)
theorem dX2_copy_2_79 : decode cX2_copy_2 79 = .ok (.aload_n 0, 1) := dk_42 (dk_at dksX2_copy_2_3 7 rfl rfl)
theorem dX2_copy_2_80 : decode cX2_copy_2 80 = .ok (.getfield 45, 3) := dk_180 0 45 (dk_at dksX2_copy_2_3 8 rfl rfl)
theorem dX2_copy_2_83 : decode cX2_copy_2 83 = .ok (.putfield 45, 3) := dk_181 0 45 (dk_at dksX2_copy_2_3 11 rfl rfl)
theorem dX2_copy_2_86 : decode cX2_copy_2 86 = .ok (.aload_n 1, 1) := dk_43 (dk_at dksX2_copy_2_3 14 rfl rfl)
theorem dX2_copy_2_87 : decode cX2_copy_2 87 = .ok (.areturn, 1) := dk_176 (dk_at dksX2_copy_2_3 15 rfl rfl)
abbrev cX2_copiesAt : ByteArray := prog_12_method_13_code
def yX2_copiesAt : MethodName := ⟨RX2, "copiesAt", "(I)I"⟩
def dkwX2_copiesAt_2 : List UInt8 := [180, 0, 31, 5, 46, 100, 4, 96, 96, 61, 132, 4, 1, 167, 255, 208, 28, 172]
abbrev dktX2_copiesAt_2 : List UInt8 := dkwX2_copiesAt_2 ++ []
def dkwX2_copiesAt_1 : List UInt8 := [182, 0, 93, 100, 182, 0, 96, 54, 5, 28, 21, 5, 154, 0, 7, 3, 167, 0, 14, 21, 5, 42]
abbrev dktX2_copiesAt_1 : List UInt8 := dkwX2_copiesAt_1 ++ dktX2_copiesAt_2
def dkwX2_copiesAt_0 : List UInt8 := [3, 61, 42, 27, 182, 0, 90, 62, 3, 54, 4, 21, 4, 29, 162, 0, 48, 42, 27, 27, 42, 27, 21, 4]
abbrev dktX2_copiesAt_0 : List UInt8 := dkwX2_copiesAt_0 ++ dktX2_copiesAt_1
theorem dksX2_copiesAt_0 : cX2_copiesAt.data.toList.drop 0 = dktX2_copiesAt_0 := by decide +kernel
theorem dksX2_copiesAt_1 : cX2_copiesAt.data.toList.drop 24 = dktX2_copiesAt_1 := dk_seg dksX2_copiesAt_0 24 rfl rfl
theorem dksX2_copiesAt_2 : cX2_copiesAt.data.toList.drop 46 = dktX2_copiesAt_2 := dk_seg dksX2_copiesAt_1 22 rfl rfl
theorem dX2_copiesAt_0 : decode cX2_copiesAt 0 = .ok (.iconst 0, 1) := dk_3 (dk_at dksX2_copiesAt_0 0 rfl rfl)
theorem dX2_copiesAt_1 : decode cX2_copiesAt 1 = .ok (.istore_n 2, 1) := dk_61 (dk_at dksX2_copiesAt_0 1 rfl rfl)
theorem dX2_copiesAt_2 : decode cX2_copiesAt 2 = .ok (.aload_n 0, 1) := dk_42 (dk_at dksX2_copiesAt_0 2 rfl rfl)
theorem dX2_copiesAt_3 : decode cX2_copiesAt 3 = .ok (.iload_n 1, 1) := dk_27 (dk_at dksX2_copiesAt_0 3 rfl rfl)
theorem dX2_copiesAt_4 : decode cX2_copiesAt 4 = .ok (.invokevirtual 90, 3) := dk_182 0 90 (dk_at dksX2_copiesAt_0 4 rfl rfl)
theorem dX2_copiesAt_7 : decode cX2_copiesAt 7 = .ok (.istore_n 3, 1) := dk_62 (dk_at dksX2_copiesAt_0 7 rfl rfl)
theorem dX2_copiesAt_8 : decode cX2_copiesAt 8 = .ok (.iconst 0, 1) := dk_3 (dk_at dksX2_copiesAt_0 8 rfl rfl)
theorem dX2_copiesAt_9 : decode cX2_copiesAt 9 = .ok (.istore 4, 2) := dk_54 4 (dk_at dksX2_copiesAt_0 9 rfl rfl)
theorem dX2_copiesAt_11 : decode cX2_copiesAt 11 = .ok (.iload 4, 2) := dk_21 4 (dk_at dksX2_copiesAt_0 11 rfl rfl)
theorem dX2_copiesAt_13 : decode cX2_copiesAt 13 = .ok (.iload_n 3, 1) := dk_29 (dk_at dksX2_copiesAt_0 13 rfl rfl)
theorem dX2_copiesAt_14 : decode cX2_copiesAt 14 = .ok (.if_icmp .ge 48, 3) := dk_162 0 48 (dk_at dksX2_copiesAt_0 14 rfl rfl)
theorem dX2_copiesAt_17 : decode cX2_copiesAt 17 = .ok (.aload_n 0, 1) := dk_42 (dk_at dksX2_copiesAt_0 17 rfl rfl)
theorem dX2_copiesAt_18 : decode cX2_copiesAt 18 = .ok (.iload_n 1, 1) := dk_27 (dk_at dksX2_copiesAt_0 18 rfl rfl)
theorem dX2_copiesAt_19 : decode cX2_copiesAt 19 = .ok (.iload_n 1, 1) := dk_27 (dk_at dksX2_copiesAt_0 19 rfl rfl)
theorem dX2_copiesAt_20 : decode cX2_copiesAt 20 = .ok (.aload_n 0, 1) := dk_42 (dk_at dksX2_copiesAt_0 20 rfl rfl)
theorem dX2_copiesAt_21 : decode cX2_copiesAt 21 = .ok (.iload_n 1, 1) := dk_27 (dk_at dksX2_copiesAt_0 21 rfl rfl)
theorem dX2_copiesAt_22 : decode cX2_copiesAt 22 = .ok (.iload 4, 2) := dk_21 4 (dk_at dksX2_copiesAt_0 22 rfl rfl)
theorem dX2_copiesAt_24 : decode cX2_copiesAt 24 = .ok (.invokevirtual 93, 3) := dk_182 0 93 (dk_at dksX2_copiesAt_1 0 rfl rfl)
theorem dX2_copiesAt_27 : decode cX2_copiesAt 27 = .ok (.isub, 1) := dk_100 (dk_at dksX2_copiesAt_1 3 rfl rfl)
theorem dX2_copiesAt_28 : decode cX2_copiesAt 28 = .ok (.invokevirtual 96, 3) := dk_182 0 96 (dk_at dksX2_copiesAt_1 4 rfl rfl)
theorem dX2_copiesAt_31 : decode cX2_copiesAt 31 = .ok (.istore 5, 2) := dk_54 5 (dk_at dksX2_copiesAt_1 7 rfl rfl)
theorem dX2_copiesAt_33 : decode cX2_copiesAt 33 = .ok (.iload_n 2, 1) := dk_28 (dk_at dksX2_copiesAt_1 9 rfl rfl)
theorem dX2_copiesAt_34 : decode cX2_copiesAt 34 = .ok (.iload 5, 2) := dk_21 5 (dk_at dksX2_copiesAt_1 10 rfl rfl)
theorem dX2_copiesAt_36 : decode cX2_copiesAt 36 = .ok (.ifCond .ne 7, 3) := dk_154 0 7 (dk_at dksX2_copiesAt_1 12 rfl rfl)
theorem dX2_copiesAt_39 : decode cX2_copiesAt 39 = .ok (.iconst 0, 1) := dk_3 (dk_at dksX2_copiesAt_1 15 rfl rfl)
theorem dX2_copiesAt_40 : decode cX2_copiesAt 40 = .ok (.goto 14, 3) := dk_167 0 14 (dk_at dksX2_copiesAt_1 16 rfl rfl)
theorem dX2_copiesAt_43 : decode cX2_copiesAt 43 = .ok (.iload 5, 2) := dk_21 5 (dk_at dksX2_copiesAt_1 19 rfl rfl)
theorem dX2_copiesAt_45 : decode cX2_copiesAt 45 = .ok (.aload_n 0, 1) := dk_42 (dk_at dksX2_copiesAt_1 21 rfl rfl)
theorem dX2_copiesAt_46 : decode cX2_copiesAt 46 = .ok (.getfield 31, 3) := dk_180 0 31 (dk_at dksX2_copiesAt_2 0 rfl rfl)
theorem dX2_copiesAt_49 : decode cX2_copiesAt 49 = .ok (.iconst 2, 1) := dk_5 (dk_at dksX2_copiesAt_2 3 rfl rfl)
theorem dX2_copiesAt_50 : decode cX2_copiesAt 50 = .ok (.iaload, 1) := dk_46 (dk_at dksX2_copiesAt_2 4 rfl rfl)
theorem dX2_copiesAt_51 : decode cX2_copiesAt 51 = .ok (.isub, 1) := dk_100 (dk_at dksX2_copiesAt_2 5 rfl rfl)
theorem dX2_copiesAt_52 : decode cX2_copiesAt 52 = .ok (.iconst 1, 1) := dk_4 (dk_at dksX2_copiesAt_2 6 rfl rfl)
theorem dX2_copiesAt_53 : decode cX2_copiesAt 53 = .ok (.iadd, 1) := dk_96 (dk_at dksX2_copiesAt_2 7 rfl rfl)
theorem dX2_copiesAt_54 : decode cX2_copiesAt 54 = .ok (.iadd, 1) := dk_96 (dk_at dksX2_copiesAt_2 8 rfl rfl)
theorem dX2_copiesAt_55 : decode cX2_copiesAt 55 = .ok (.istore_n 2, 1) := dk_61 (dk_at dksX2_copiesAt_2 9 rfl rfl)
theorem dX2_copiesAt_56 : decode cX2_copiesAt 56 = .ok (.iinc 4 1, 3) := dk_132 4 1 (dk_at dksX2_copiesAt_2 10 rfl rfl)
theorem dX2_copiesAt_59 : decode cX2_copiesAt 59 = .ok (.goto (-48), 3) := dk_167 255 208 (dk_at dksX2_copiesAt_2 13 rfl rfl)
theorem dX2_copiesAt_62 : decode cX2_copiesAt 62 = .ok (.iload_n 2, 1) := dk_28 (dk_at dksX2_copiesAt_2 16 rfl rfl)
theorem dX2_copiesAt_63 : decode cX2_copiesAt 63 = .ok (.ireturn, 1) := dk_172 (dk_at dksX2_copiesAt_2 17 rfl rfl)
abbrev cX2_why : ByteArray := prog_12_method_16_code
def yX2_why : MethodName := ⟨RX2, "why", "(III)I"⟩
def dkwX2_why_4 : List UInt8 := [182, 0, 96, 28, 162, 0, 8, 16, 7, 167, 0, 4, 3, 172]
abbrev dktX2_why_4 : List UInt8 := dkwX2_why_4 ++ []
def dkwX2_why_3 : List UInt8 := [182, 0, 61, 27, 29, 100, 42, 180, 0, 31, 4, 46, 182, 0, 106, 154, 0, 6, 16, 6, 172, 42, 27, 29]
abbrev dktX2_why_3 : List UInt8 := dkwX2_why_3 ++ dktX2_why_4
def dkwX2_why_2 : List UInt8 := [180, 0, 41, 164, 0, 5, 7, 172, 42, 27, 29, 182, 0, 83, 28, 162, 0, 5, 8, 172, 42, 27]
abbrev dktX2_why_2 : List UInt8 := dkwX2_why_2 ++ dktX2_why_3
def dkwX2_why_1 : List UInt8 := [29, 42, 180, 0, 31, 3, 46, 164, 0, 5, 5, 172, 29, 27, 164, 0, 5, 6, 172, 27, 28, 96, 42]
abbrev dktX2_why_1 : List UInt8 := dkwX2_why_1 ++ dktX2_why_2
def dkwX2_why_0 : List UInt8 := [28, 133, 42, 180, 0, 31, 5, 46, 133, 42, 180, 0, 31, 6, 46, 133, 184, 0, 102, 154, 0, 5, 4, 172]
abbrev dktX2_why_0 : List UInt8 := dkwX2_why_0 ++ dktX2_why_1
theorem dksX2_why_0 : cX2_why.data.toList.drop 0 = dktX2_why_0 := by decide +kernel
theorem dksX2_why_1 : cX2_why.data.toList.drop 24 = dktX2_why_1 := dk_seg dksX2_why_0 24 rfl rfl
theorem dksX2_why_2 : cX2_why.data.toList.drop 47 = dktX2_why_2 := dk_seg dksX2_why_1 23 rfl rfl
theorem dksX2_why_3 : cX2_why.data.toList.drop 69 = dktX2_why_3 := dk_seg dksX2_why_2 22 rfl rfl
theorem dksX2_why_4 : cX2_why.data.toList.drop 93 = dktX2_why_4 := dk_seg dksX2_why_3 24 rfl rfl
theorem dX2_why_0 : decode cX2_why 0 = .ok (.iload_n 2, 1) := dk_28 (dk_at dksX2_why_0 0 rfl rfl)
theorem dX2_why_1 : decode cX2_why 1 = .ok (.i2l, 1) := dk_133 (dk_at dksX2_why_0 1 rfl rfl)
theorem dX2_why_2 : decode cX2_why 2 = .ok (.aload_n 0, 1) := dk_42 (dk_at dksX2_why_0 2 rfl rfl)
theorem dX2_why_3 : decode cX2_why 3 = .ok (.getfield 31, 3) := dk_180 0 31 (dk_at dksX2_why_0 3 rfl rfl)
theorem dX2_why_6 : decode cX2_why 6 = .ok (.iconst 2, 1) := dk_5 (dk_at dksX2_why_0 6 rfl rfl)
theorem dX2_why_7 : decode cX2_why 7 = .ok (.iaload, 1) := dk_46 (dk_at dksX2_why_0 7 rfl rfl)
theorem dX2_why_8 : decode cX2_why 8 = .ok (.i2l, 1) := dk_133 (dk_at dksX2_why_0 8 rfl rfl)
theorem dX2_why_9 : decode cX2_why 9 = .ok (.aload_n 0, 1) := dk_42 (dk_at dksX2_why_0 9 rfl rfl)
theorem dX2_why_10 : decode cX2_why 10 = .ok (.getfield 31, 3) := dk_180 0 31 (dk_at dksX2_why_0 10 rfl rfl)
theorem dX2_why_13 : decode cX2_why 13 = .ok (.iconst 3, 1) := dk_6 (dk_at dksX2_why_0 13 rfl rfl)
theorem dX2_why_14 : decode cX2_why 14 = .ok (.iaload, 1) := dk_46 (dk_at dksX2_why_0 14 rfl rfl)
theorem dX2_why_15 : decode cX2_why 15 = .ok (.i2l, 1) := dk_133 (dk_at dksX2_why_0 15 rfl rfl)
theorem dX2_why_16 : decode cX2_why 16 = .ok (.invokestatic 102, 3) := dk_184 0 102 (dk_at dksX2_why_0 16 rfl rfl)
theorem dX2_why_19 : decode cX2_why 19 = .ok (.ifCond .ne 5, 3) := dk_154 0 5 (dk_at dksX2_why_0 19 rfl rfl)
theorem dX2_why_22 : decode cX2_why 22 = .ok (.iconst 1, 1) := dk_4 (dk_at dksX2_why_0 22 rfl rfl)
theorem dX2_why_23 : decode cX2_why 23 = .ok (.ireturn, 1) := dk_172 (dk_at dksX2_why_0 23 rfl rfl)
theorem dX2_why_24 : decode cX2_why 24 = .ok (.iload_n 3, 1) := dk_29 (dk_at dksX2_why_1 0 rfl rfl)
theorem dX2_why_25 : decode cX2_why 25 = .ok (.aload_n 0, 1) := dk_42 (dk_at dksX2_why_1 1 rfl rfl)
theorem dX2_why_26 : decode cX2_why 26 = .ok (.getfield 31, 3) := dk_180 0 31 (dk_at dksX2_why_1 2 rfl rfl)
theorem dX2_why_29 : decode cX2_why 29 = .ok (.iconst 0, 1) := dk_3 (dk_at dksX2_why_1 5 rfl rfl)
theorem dX2_why_30 : decode cX2_why 30 = .ok (.iaload, 1) := dk_46 (dk_at dksX2_why_1 6 rfl rfl)
theorem dX2_why_31 : decode cX2_why 31 = .ok (.if_icmp .le 5, 3) := dk_164 0 5 (dk_at dksX2_why_1 7 rfl rfl)
theorem dX2_why_34 : decode cX2_why 34 = .ok (.iconst 2, 1) := dk_5 (dk_at dksX2_why_1 10 rfl rfl)
theorem dX2_why_35 : decode cX2_why 35 = .ok (.ireturn, 1) := dk_172 (dk_at dksX2_why_1 11 rfl rfl)
theorem dX2_why_36 : decode cX2_why 36 = .ok (.iload_n 3, 1) := dk_29 (dk_at dksX2_why_1 12 rfl rfl)
theorem dX2_why_37 : decode cX2_why 37 = .ok (.iload_n 1, 1) := dk_27 (dk_at dksX2_why_1 13 rfl rfl)
theorem dX2_why_38 : decode cX2_why 38 = .ok (.if_icmp .le 5, 3) := dk_164 0 5 (dk_at dksX2_why_1 14 rfl rfl)
theorem dX2_why_41 : decode cX2_why 41 = .ok (.iconst 3, 1) := dk_6 (dk_at dksX2_why_1 17 rfl rfl)
theorem dX2_why_42 : decode cX2_why 42 = .ok (.ireturn, 1) := dk_172 (dk_at dksX2_why_1 18 rfl rfl)
theorem dX2_why_43 : decode cX2_why 43 = .ok (.iload_n 1, 1) := dk_27 (dk_at dksX2_why_1 19 rfl rfl)
theorem dX2_why_44 : decode cX2_why 44 = .ok (.iload_n 2, 1) := dk_28 (dk_at dksX2_why_1 20 rfl rfl)
theorem dX2_why_45 : decode cX2_why 45 = .ok (.iadd, 1) := dk_96 (dk_at dksX2_why_1 21 rfl rfl)
theorem dX2_why_46 : decode cX2_why 46 = .ok (.aload_n 0, 1) := dk_42 (dk_at dksX2_why_1 22 rfl rfl)
theorem dX2_why_47 : decode cX2_why 47 = .ok (.getfield 41, 3) := dk_180 0 41 (dk_at dksX2_why_2 0 rfl rfl)
theorem dX2_why_50 : decode cX2_why 50 = .ok (.if_icmp .le 5, 3) := dk_164 0 5 (dk_at dksX2_why_2 3 rfl rfl)
theorem dX2_why_53 : decode cX2_why 53 = .ok (.iconst 4, 1) := dk_7 (dk_at dksX2_why_2 6 rfl rfl)
theorem dX2_why_54 : decode cX2_why 54 = .ok (.ireturn, 1) := dk_172 (dk_at dksX2_why_2 7 rfl rfl)
theorem dX2_why_55 : decode cX2_why 55 = .ok (.aload_n 0, 1) := dk_42 (dk_at dksX2_why_2 8 rfl rfl)
theorem dX2_why_56 : decode cX2_why 56 = .ok (.iload_n 1, 1) := dk_27 (dk_at dksX2_why_2 9 rfl rfl)
theorem dX2_why_57 : decode cX2_why 57 = .ok (.iload_n 3, 1) := dk_29 (dk_at dksX2_why_2 10 rfl rfl)
theorem dX2_why_58 : decode cX2_why 58 = .ok (.invokevirtual 83, 3) := dk_182 0 83 (dk_at dksX2_why_2 11 rfl rfl)
theorem dX2_why_61 : decode cX2_why 61 = .ok (.iload_n 2, 1) := dk_28 (dk_at dksX2_why_2 14 rfl rfl)
theorem dX2_why_62 : decode cX2_why 62 = .ok (.if_icmp .ge 5, 3) := dk_162 0 5 (dk_at dksX2_why_2 15 rfl rfl)
theorem dX2_why_65 : decode cX2_why 65 = .ok (.iconst 5, 1) := dk_8 (dk_at dksX2_why_2 18 rfl rfl)
theorem dX2_why_66 : decode cX2_why 66 = .ok (.ireturn, 1) := dk_172 (dk_at dksX2_why_2 19 rfl rfl)
theorem dX2_why_67 : decode cX2_why 67 = .ok (.aload_n 0, 1) := dk_42 (dk_at dksX2_why_2 20 rfl rfl)
theorem dX2_why_68 : decode cX2_why 68 = .ok (.iload_n 1, 1) := dk_27 (dk_at dksX2_why_2 21 rfl rfl)
theorem dX2_why_69 : decode cX2_why 69 = .ok (.invokevirtual 61, 3) := dk_182 0 61 (dk_at dksX2_why_3 0 rfl rfl)
theorem dX2_why_72 : decode cX2_why 72 = .ok (.iload_n 1, 1) := dk_27 (dk_at dksX2_why_3 3 rfl rfl)
theorem dX2_why_73 : decode cX2_why 73 = .ok (.iload_n 3, 1) := dk_29 (dk_at dksX2_why_3 4 rfl rfl)
theorem dX2_why_74 : decode cX2_why 74 = .ok (.isub, 1) := dk_100 (dk_at dksX2_why_3 5 rfl rfl)
theorem dX2_why_75 : decode cX2_why 75 = .ok (.aload_n 0, 1) := dk_42 (dk_at dksX2_why_3 6 rfl rfl)
theorem dX2_why_76 : decode cX2_why 76 = .ok (.getfield 31, 3) := dk_180 0 31 (dk_at dksX2_why_3 7 rfl rfl)
theorem dX2_why_79 : decode cX2_why 79 = .ok (.iconst 1, 1) := dk_4 (dk_at dksX2_why_3 10 rfl rfl)
theorem dX2_why_80 : decode cX2_why 80 = .ok (.iaload, 1) := dk_46 (dk_at dksX2_why_3 11 rfl rfl)
theorem dX2_why_81 : decode cX2_why 81 = .ok (.invokevirtual 106, 3) := dk_182 0 106 (dk_at dksX2_why_3 12 rfl rfl)
theorem dX2_why_84 : decode cX2_why 84 = .ok (.ifCond .ne 6, 3) := dk_154 0 6 (dk_at dksX2_why_3 15 rfl rfl)
theorem dX2_why_87 : decode cX2_why 87 = .ok (.bipush 6, 2) := dk_16 6 (dk_at dksX2_why_3 18 rfl rfl)
theorem dX2_why_89 : decode cX2_why 89 = .ok (.ireturn, 1) := dk_172 (dk_at dksX2_why_3 20 rfl rfl)
theorem dX2_why_90 : decode cX2_why 90 = .ok (.aload_n 0, 1) := dk_42 (dk_at dksX2_why_3 21 rfl rfl)
theorem dX2_why_91 : decode cX2_why 91 = .ok (.iload_n 1, 1) := dk_27 (dk_at dksX2_why_3 22 rfl rfl)
theorem dX2_why_92 : decode cX2_why 92 = .ok (.iload_n 3, 1) := dk_29 (dk_at dksX2_why_3 23 rfl rfl)
theorem dX2_why_93 : decode cX2_why 93 = .ok (.invokevirtual 96, 3) := dk_182 0 96 (dk_at dksX2_why_4 0 rfl rfl)
theorem dX2_why_96 : decode cX2_why 96 = .ok (.iload_n 2, 1) := dk_28 (dk_at dksX2_why_4 3 rfl rfl)
theorem dX2_why_97 : decode cX2_why 97 = .ok (.if_icmp .ge 8, 3) := dk_162 0 8 (dk_at dksX2_why_4 4 rfl rfl)
theorem dX2_why_100 : decode cX2_why 100 = .ok (.bipush 7, 2) := dk_16 7 (dk_at dksX2_why_4 7 rfl rfl)
theorem dX2_why_102 : decode cX2_why 102 = .ok (.goto 4, 3) := dk_167 0 4 (dk_at dksX2_why_4 9 rfl rfl)
theorem dX2_why_105 : decode cX2_why 105 = .ok (.iconst 0, 1) := dk_3 (dk_at dksX2_why_4 12 rfl rfl)
theorem dX2_why_106 : decode cX2_why 106 = .ok (.ireturn, 1) := dk_172 (dk_at dksX2_why_4 13 rfl rfl)
theorem q139 : (Jvm.Cond.initialized "CopyPrices$World") ∈ lw_all := lw_g (lw_at lw_m1 2 rfl) rfl
theorem q185 : (Jvm.Cond.instantiable "CopyPrices$World" (7 : Nat)) ∈ lw_all := lw_g (lw_at lw_m1 48 rfl) rfl
theorem q187 : (Jvm.Cond.instanceMethod ({ cls := "CopyPrices$World", name := "<init>", desc := "()V" } : Jvm.MethodName)) ∈ lw_all := lw_g (lw_at lw_m1 50 rfl) rfl
theorem q188 : (Jvm.Cond.code ({ cls := "CopyPrices$World", name := "<init>", desc := "()V" } : Jvm.MethodName) prog_12_method_1_code (1 : Nat) (Option.none : Option Jvm.ClassFile.FieldType)) ∈ lw_all := lw_g (lw_at lw_m1 51 rfl) rfl
theorem q189 : (Jvm.Cond.methodLink "CopyPrices$World" (3 : Nat) ({ cls := "CopyPrices$World", name := "<init>", desc := "([I)V" } : Jvm.MethodName)) ∈ lw_all := lw_g (lw_at lw_m1 52 rfl) rfl
theorem q190 : (Jvm.Cond.instanceMethod ({ cls := "CopyPrices$World", name := "<init>", desc := "([I)V" } : Jvm.MethodName)) ∈ lw_all := lw_g (lw_at lw_m1 53 rfl) rfl
theorem q191 : (Jvm.Cond.code ({ cls := "CopyPrices$World", name := "<init>", desc := "([I)V" } : Jvm.MethodName) prog_12_method_2_code (2 : Nat) (Option.none : Option Jvm.ClassFile.FieldType)) ∈ lw_all := lw_g (lw_at lw_m1 54 rfl) rfl
theorem q192 : (Jvm.Cond.methodLink "CopyPrices$World" (19 : Nat) ({ cls := "java/lang/Object", name := "<init>", desc := "()V" } : Jvm.MethodName)) ∈ lw_all := lw_g (lw_at lw_m1 55 rfl) rfl
theorem q193 : (Jvm.Cond.methodLink "CopyPrices$World" (34 : Nat) ({ cls := "java/lang/System", name := "arraycopy", desc := "(Ljava/lang/Object;ILjava/lang/Object;II)V" } : Jvm.MethodName)) ∈ lw_all := lw_g (lw_at lw_m1 56 rfl) rfl
theorem q196 : (Jvm.Cond.fieldLink "CopyPrices$World" (24 : Nat) "CopyPrices$World" "letters" "[B") ∈ lw_all := lw_g (lw_at lw_m1 59 rfl) rfl
theorem q198 : (Jvm.Cond.fieldLink "CopyPrices$World" (31 : Nat) "CopyPrices$World" "settings" "[I") ∈ lw_all := lw_g (lw_at lw_m1 61 rfl) rfl
theorem q202 : (Jvm.Cond.fieldLink "CopyPrices$World" (9 : Nat) "CopyPrices$World" "prices" "[I") ∈ lw_all := lw_g (lw_at lw_m1 65 rfl) rfl
theorem q205 : (Jvm.Cond.fieldLink "CopyPrices$World" (28 : Nat) "CopyPrices$World" "accounts" "[I") ∈ lw_all := lw_g (lw_at lw_m1 68 rfl) rfl
theorem q208 : (Jvm.Cond.fieldLink "CopyPrices$World" (41 : Nat) "CopyPrices$World" "many" "I") ∈ lw_all := lw_g (lw_at lw_m1 71 rfl) rfl
theorem q211 : (Jvm.Cond.fieldLink "CopyPrices$World" (45 : Nat) "CopyPrices$World" "pins" "J") ∈ lw_all := lw_g (lw_at lw_m1 74 rfl) rfl
theorem q214 : (Jvm.Cond.fieldLink "CopyPrices$World" (49 : Nat) "CopyPrices$World" "chains" "[LCopyPrices$Link;") ∈ lw_all := lw_g (lw_at lw_m1 77 rfl) rfl
theorem q215 : (Jvm.Cond.laysFinal "CopyPrices$World" "CopyPrices$World" "letters" "[B") ∈ lw_all := lw_g (lw_at lw_m1 78 rfl) rfl
theorem q216 : (Jvm.Cond.soleField "CopyPrices$World" "letters") ∈ lw_all := lw_g (lw_at lw_m1 79 rfl) rfl
theorem q217 : (Jvm.Cond.laysFinal "CopyPrices$World" "CopyPrices$World" "settings" "[I") ∈ lw_all := lw_g (lw_at lw_m1 80 rfl) rfl
theorem q218 : (Jvm.Cond.soleField "CopyPrices$World" "settings") ∈ lw_all := lw_g (lw_at lw_m1 81 rfl) rfl
theorem q219 : (Jvm.Cond.laysFinal "CopyPrices$World" "CopyPrices$World" "prices" "[I") ∈ lw_all := lw_g (lw_at lw_m1 82 rfl) rfl
theorem q220 : (Jvm.Cond.soleField "CopyPrices$World" "prices") ∈ lw_all := lw_g (lw_at lw_m1 83 rfl) rfl
theorem q221 : (Jvm.Cond.laysFinal "CopyPrices$World" "CopyPrices$World" "accounts" "[I") ∈ lw_all := lw_g (lw_at lw_m1 84 rfl) rfl
theorem q222 : (Jvm.Cond.soleField "CopyPrices$World" "accounts") ∈ lw_all := lw_g (lw_at lw_m1 85 rfl) rfl
theorem q223 : (Jvm.Cond.lays "CopyPrices$World" "CopyPrices$World" "many" "I") ∈ lw_all := lw_g (lw_at lw_m1 86 rfl) rfl
theorem q224 : (Jvm.Cond.soleField "CopyPrices$World" "many") ∈ lw_all := lw_g (lw_at lw_m1 87 rfl) rfl
theorem q225 : (Jvm.Cond.lays "CopyPrices$World" "CopyPrices$World" "pins" "J") ∈ lw_all := lw_g (lw_at lw_m1 88 rfl) rfl
theorem q226 : (Jvm.Cond.soleField "CopyPrices$World" "pins") ∈ lw_all := lw_g (lw_at lw_m1 89 rfl) rfl
theorem q227 : (Jvm.Cond.lays "CopyPrices$World" "CopyPrices$World" "chains" "[LCopyPrices$Link;") ∈ lw_all := lw_g (lw_at lw_m1 90 rfl) rfl
theorem q228 : (Jvm.Cond.soleField "CopyPrices$World" "chains") ∈ lw_all := lw_g (lw_at lw_m1 91 rfl) rfl
theorem q229 : (Jvm.Cond.superclass "CopyPrices$World" "java/lang/Object") ∈ lw_all := lw_g (lw_at lw_m1 92 rfl) rfl
theorem q232 : (Jvm.Cond.methodLink "CopyPrices$World" (13 : Nat) ({ cls := "java/util/Arrays", name := "fill", desc := "([IIII)V" } : Jvm.MethodName)) ∈ lw_all := lw_g (lw_at lw_m1 95 rfl) rfl
theorem q574 : (Jvm.Cond.instanceMethod ({ cls := "CopyPrices$World", name := "adds", desc := "(I)V" } : Jvm.MethodName)) ∈ lw_all := lw_g (lw_at lw_m2 197 rfl) rfl
theorem q575 : (Jvm.Cond.selects "CopyPrices$World" ({ cls := "CopyPrices$World", name := "adds", desc := "(I)V" } : Jvm.MethodName) ({ cls := "CopyPrices$World", name := "adds", desc := "(I)V" } : Jvm.MethodName)) ∈ lw_all := lw_g (lw_at lw_m2 198 rfl) rfl
theorem q576 : (Jvm.Cond.code ({ cls := "CopyPrices$World", name := "adds", desc := "(I)V" } : Jvm.MethodName) prog_12_method_4_code (2 : Nat) (Option.none : Option Jvm.ClassFile.FieldType)) ∈ lw_all := lw_g (lw_at lw_m2 199 rfl) rfl
theorem q849 : (Jvm.Cond.instanceMethod ({ cls := "CopyPrices$World", name := "isPinned", desc := "(I)Z" } : Jvm.MethodName)) ∈ lw_all := lw_g (lw_at lw_m3 232 rfl) rfl
theorem q850 : (Jvm.Cond.selects "CopyPrices$World" ({ cls := "CopyPrices$World", name := "isPinned", desc := "(I)Z" } : Jvm.MethodName) ({ cls := "CopyPrices$World", name := "isPinned", desc := "(I)Z" } : Jvm.MethodName)) ∈ lw_all := lw_g (lw_at lw_m3 233 rfl) rfl
theorem q851 : (Jvm.Cond.code ({ cls := "CopyPrices$World", name := "isPinned", desc := "(I)Z" } : Jvm.MethodName) prog_12_method_5_code (2 : Nat) (Option.some Jvm.ClassFile.FieldType.boolean)) ∈ lw_all := lw_g (lw_at lw_m3 234 rfl) rfl
theorem q953 : (Jvm.Cond.instanceMethod ({ cls := "CopyPrices$World", name := "bestPrice", desc := "(LCopyPrices$Table;)I" } : Jvm.MethodName)) ∈ lw_all := lw_g (lw_at lw_m4 96 rfl) rfl
theorem q954 : (Jvm.Cond.selects "CopyPrices$World" ({ cls := "CopyPrices$World", name := "bestPrice", desc := "(LCopyPrices$Table;)I" } : Jvm.MethodName) ({ cls := "CopyPrices$World", name := "bestPrice", desc := "(LCopyPrices$Table;)I" } : Jvm.MethodName)) ∈ lw_all := lw_g (lw_at lw_m4 97 rfl) rfl
theorem q955 : (Jvm.Cond.code ({ cls := "CopyPrices$World", name := "bestPrice", desc := "(LCopyPrices$Table;)I" } : Jvm.MethodName) prog_12_method_27_code (2 : Nat) (Option.some Jvm.ClassFile.FieldType.int)) ∈ lw_all := lw_g (lw_at lw_m4 98 rfl) rfl
theorem q956 : (Jvm.Cond.methodLink "CopyPrices$World" (169 : Nat) ({ cls := "CopyPrices$Table", name := "over", desc := "(LCopyPrices$World;)LCopyPrices$Table;" } : Jvm.MethodName)) ∈ lw_all := lw_g (lw_at lw_m4 99 rfl) rfl
theorem q972 : (Jvm.Cond.instanceMethod ({ cls := "CopyPrices$World", name := "candidates", desc := "(I)I" } : Jvm.MethodName)) ∈ lw_all := lw_g (lw_at lw_m4 115 rfl) rfl
theorem q973 : (Jvm.Cond.selects "CopyPrices$World" ({ cls := "CopyPrices$World", name := "candidates", desc := "(I)I" } : Jvm.MethodName) ({ cls := "CopyPrices$World", name := "candidates", desc := "(I)I" } : Jvm.MethodName)) ∈ lw_all := lw_g (lw_at lw_m4 116 rfl) rfl
theorem q974 : (Jvm.Cond.code ({ cls := "CopyPrices$World", name := "candidates", desc := "(I)I" } : Jvm.MethodName) prog_12_method_9_code (2 : Nat) (Option.some Jvm.ClassFile.FieldType.int)) ∈ lw_all := lw_g (lw_at lw_m4 117 rfl) rfl
theorem q975 : (Jvm.Cond.methodLink "CopyPrices$World" (68 : Nat) ({ cls := "CopyPrices$World", name := "chainOf", desc := "(I)I" } : Jvm.MethodName)) ∈ lw_all := lw_g (lw_at lw_m4 118 rfl) rfl
theorem q976 : (Jvm.Cond.instanceMethod ({ cls := "CopyPrices$World", name := "chainOf", desc := "(I)I" } : Jvm.MethodName)) ∈ lw_all := lw_g (lw_at lw_m4 119 rfl) rfl
theorem q977 : (Jvm.Cond.selects "CopyPrices$World" ({ cls := "CopyPrices$World", name := "chainOf", desc := "(I)I" } : Jvm.MethodName) ({ cls := "CopyPrices$World", name := "chainOf", desc := "(I)I" } : Jvm.MethodName)) ∈ lw_all := lw_g (lw_at lw_m4 120 rfl) rfl
theorem q978 : (Jvm.Cond.code ({ cls := "CopyPrices$World", name := "chainOf", desc := "(I)I" } : Jvm.MethodName) prog_12_method_8_code (3 : Nat) (Option.some Jvm.ClassFile.FieldType.int)) ∈ lw_all := lw_g (lw_at lw_m4 121 rfl) rfl
theorem q979 : (Jvm.Cond.methodLink "CopyPrices$World" (61 : Nat) ({ cls := "CopyPrices$World", name := "chain", desc := "(I)LCopyPrices$Link;" } : Jvm.MethodName)) ∈ lw_all := lw_g (lw_at lw_m4 122 rfl) rfl
theorem q980 : (Jvm.Cond.instanceMethod ({ cls := "CopyPrices$World", name := "chain", desc := "(I)LCopyPrices$Link;" } : Jvm.MethodName)) ∈ lw_all := lw_g (lw_at lw_m4 123 rfl) rfl
theorem q981 : (Jvm.Cond.selects "CopyPrices$World" ({ cls := "CopyPrices$World", name := "chain", desc := "(I)LCopyPrices$Link;" } : Jvm.MethodName) ({ cls := "CopyPrices$World", name := "chain", desc := "(I)LCopyPrices$Link;" } : Jvm.MethodName)) ∈ lw_all := lw_g (lw_at lw_m4 124 rfl) rfl
theorem q982 : (Jvm.Cond.code ({ cls := "CopyPrices$World", name := "chain", desc := "(I)LCopyPrices$Link;" } : Jvm.MethodName) prog_12_method_7_code (2 : Nat) (Option.some (Jvm.ClassFile.FieldType.object "CopyPrices$Link"))) ∈ lw_all := lw_g (lw_at lw_m4 125 rfl) rfl
theorem q983 : (Jvm.Cond.methodLink "CopyPrices$World" (58 : Nat) ({ cls := "CopyPrices$World", name := "lays", desc := "()V" } : Jvm.MethodName)) ∈ lw_all := lw_g (lw_at lw_m4 126 rfl) rfl
theorem q984 : (Jvm.Cond.privateMethod ({ cls := "CopyPrices$World", name := "lays", desc := "()V" } : Jvm.MethodName)) ∈ lw_tbl := lw_at lw_m4 127 rfl
theorem q985 : (Jvm.Cond.instanceMethod ({ cls := "CopyPrices$World", name := "lays", desc := "()V" } : Jvm.MethodName)) ∈ lw_all := lw_g (lw_at lw_m4 128 rfl) rfl
theorem q986 : (Jvm.Cond.code ({ cls := "CopyPrices$World", name := "lays", desc := "()V" } : Jvm.MethodName) prog_12_method_6_code (4 : Nat) (Option.none : Option Jvm.ClassFile.FieldType)) ∈ lw_all := lw_g (lw_at lw_m4 129 rfl) rfl
theorem q987 : (Jvm.Cond.classLink "CopyPrices$World" (53 : Nat) "CopyPrices$Link") ∈ lw_all := lw_g (lw_at lw_m4 130 rfl) rfl
theorem q990 : (Jvm.Cond.methodLink "CopyPrices$World" (55 : Nat) ({ cls := "CopyPrices$Link", name := "<init>", desc := "(ILCopyPrices$Link;)V" } : Jvm.MethodName)) ∈ lw_all := lw_g (lw_at lw_m4 133 rfl) rfl
theorem q995 : (Jvm.Cond.fieldLinkNest "CopyPrices$World" (80 : Nat) "CopyPrices$Link" "place" "I" "CopyPrices") ∈ lw_tbl := lw_at lw_m4 138 rfl
theorem q1002 : (Jvm.Cond.methodLink "CopyPrices$World" (65 : Nat) ({ cls := "CopyPrices$Link", name := "many", desc := "(I)I" } : Jvm.MethodName)) ∈ lw_all := lw_g (lw_at lw_m4 145 rfl) rfl
theorem q1007 : (Jvm.Cond.methodLink "CopyPrices$World" (71 : Nat) ({ cls := "java/lang/Math", name := "min", desc := "(II)I" } : Jvm.MethodName)) ∈ lw_all := lw_g (lw_at lw_m4 150 rfl) rfl
theorem q1009 : (Jvm.Cond.instanceMethod ({ cls := "CopyPrices$World", name := "candidate", desc := "(II)I" } : Jvm.MethodName)) ∈ lw_all := lw_g (lw_at lw_m4 152 rfl) rfl
theorem q1010 : (Jvm.Cond.selects "CopyPrices$World" ({ cls := "CopyPrices$World", name := "candidate", desc := "(II)I" } : Jvm.MethodName) ({ cls := "CopyPrices$World", name := "candidate", desc := "(II)I" } : Jvm.MethodName)) ∈ lw_all := lw_g (lw_at lw_m4 153 rfl) rfl
theorem q1011 : (Jvm.Cond.code ({ cls := "CopyPrices$World", name := "candidate", desc := "(II)I" } : Jvm.MethodName) prog_12_method_10_code (3 : Nat) (Option.some Jvm.ClassFile.FieldType.int)) ∈ lw_all := lw_g (lw_at lw_m4 154 rfl) rfl
theorem q1012 : (Jvm.Cond.methodLink "CopyPrices$World" (77 : Nat) ({ cls := "CopyPrices$Link", name := "at", desc := "(I)LCopyPrices$Link;" } : Jvm.MethodName)) ∈ lw_all := lw_g (lw_at lw_m4 155 rfl) rfl
theorem q1018 : (Jvm.Cond.instanceMethod ({ cls := "CopyPrices$World", name := "longest", desc := "(II)I" } : Jvm.MethodName)) ∈ lw_all := lw_g (lw_at lw_m4 161 rfl) rfl
theorem q1019 : (Jvm.Cond.selects "CopyPrices$World" ({ cls := "CopyPrices$World", name := "longest", desc := "(II)I" } : Jvm.MethodName) ({ cls := "CopyPrices$World", name := "longest", desc := "(II)I" } : Jvm.MethodName)) ∈ lw_all := lw_g (lw_at lw_m4 162 rfl) rfl
theorem q1020 : (Jvm.Cond.code ({ cls := "CopyPrices$World", name := "longest", desc := "(II)I" } : Jvm.MethodName) prog_12_method_12_code (5 : Nat) (Option.some Jvm.ClassFile.FieldType.int)) ∈ lw_all := lw_g (lw_at lw_m4 163 rfl) rfl
theorem q1021 : (Jvm.Cond.methodLink "CopyPrices$World" (83 : Nat) ({ cls := "CopyPrices$World", name := "same", desc := "(II)I" } : Jvm.MethodName)) ∈ lw_all := lw_g (lw_at lw_m4 164 rfl) rfl
theorem q1022 : (Jvm.Cond.instanceMethod ({ cls := "CopyPrices$World", name := "same", desc := "(II)I" } : Jvm.MethodName)) ∈ lw_all := lw_g (lw_at lw_m4 165 rfl) rfl
theorem q1023 : (Jvm.Cond.selects "CopyPrices$World" ({ cls := "CopyPrices$World", name := "same", desc := "(II)I" } : Jvm.MethodName) ({ cls := "CopyPrices$World", name := "same", desc := "(II)I" } : Jvm.MethodName)) ∈ lw_all := lw_g (lw_at lw_m4 166 rfl) rfl
theorem q1024 : (Jvm.Cond.code ({ cls := "CopyPrices$World", name := "same", desc := "(II)I" } : Jvm.MethodName) prog_12_method_11_code (4 : Nat) (Option.some Jvm.ClassFile.FieldType.int)) ∈ lw_all := lw_g (lw_at lw_m4 167 rfl) rfl
theorem q1025 : (Jvm.Cond.methodLink "CopyPrices$World" (86 : Nat) ({ cls := "CopyPrices$World", name := "isPinned", desc := "(I)Z" } : Jvm.MethodName)) ∈ lw_all := lw_g (lw_at lw_m4 168 rfl) rfl
theorem q1036 : (Jvm.Cond.instanceMethod ({ cls := "CopyPrices$World", name := "copyPrice", desc := "(III)I" } : Jvm.MethodName)) ∈ lw_all := lw_g (lw_at lw_m4 179 rfl) rfl
theorem q1037 : (Jvm.Cond.selects "CopyPrices$World" ({ cls := "CopyPrices$World", name := "copyPrice", desc := "(III)I" } : Jvm.MethodName) ({ cls := "CopyPrices$World", name := "copyPrice", desc := "(III)I" } : Jvm.MethodName)) ∈ lw_all := lw_g (lw_at lw_m4 180 rfl) rfl
theorem q1038 : (Jvm.Cond.code ({ cls := "CopyPrices$World", name := "copyPrice", desc := "(III)I" } : Jvm.MethodName) prog_12_method_18_code (5 : Nat) (Option.some Jvm.ClassFile.FieldType.int)) ∈ lw_all := lw_g (lw_at lw_m4 181 rfl) rfl
theorem q1039 : (Jvm.Cond.methodLinkNest "CopyPrices$World" (110 : Nat) ({ cls := "CopyPrices", name := "bits", desc := "(I)I" } : Jvm.MethodName) "CopyPrices") ∈ lw_tbl := lw_at lw_m4 182 rfl
theorem q1056 : (Jvm.Cond.instanceMethod ({ cls := "CopyPrices$World", name := "literalPrice", desc := "(IZ)I" } : Jvm.MethodName)) ∈ lw_all := lw_g (lw_at lw_m4 199 rfl) rfl
theorem q1057 : (Jvm.Cond.selects "CopyPrices$World" ({ cls := "CopyPrices$World", name := "literalPrice", desc := "(IZ)I" } : Jvm.MethodName) ({ cls := "CopyPrices$World", name := "literalPrice", desc := "(IZ)I" } : Jvm.MethodName)) ∈ lw_all := lw_g (lw_at lw_m4 200 rfl) rfl
theorem q1058 : (Jvm.Cond.code ({ cls := "CopyPrices$World", name := "literalPrice", desc := "(IZ)I" } : Jvm.MethodName) prog_12_method_17_code (3 : Nat) (Option.some Jvm.ClassFile.FieldType.int)) ∈ lw_all := lw_g (lw_at lw_m4 201 rfl) rfl
theorem q1059 : (Jvm.Cond.methodLink "CopyPrices$World" (198 : Nat) ({ cls := "CopyPrices$Table", name := "rest", desc := "(IIZ)I" } : Jvm.MethodName)) ∈ lw_all := lw_g (lw_at lw_m4 202 rfl) rfl
theorem q1076 : (Jvm.Cond.instanceMethod ({ cls := "CopyPrices$World", name := "parse", desc := "(ILCopyPrices$Table;)LCopyPrices$Step;" } : Jvm.MethodName)) ∈ lw_all := lw_g (lw_at lw_m4 219 rfl) rfl
theorem q1077 : (Jvm.Cond.selects "CopyPrices$World" ({ cls := "CopyPrices$World", name := "parse", desc := "(ILCopyPrices$Table;)LCopyPrices$Step;" } : Jvm.MethodName) ({ cls := "CopyPrices$World", name := "parse", desc := "(ILCopyPrices$Table;)LCopyPrices$Step;" } : Jvm.MethodName)) ∈ lw_all := lw_g (lw_at lw_m4 220 rfl) rfl
theorem q1078 : (Jvm.Cond.code ({ cls := "CopyPrices$World", name := "parse", desc := "(ILCopyPrices$Table;)LCopyPrices$Step;" } : Jvm.MethodName) prog_12_method_25_code (3 : Nat) (Option.some (Jvm.ClassFile.FieldType.object "CopyPrices$Step"))) ∈ lw_all := lw_g (lw_at lw_m4 221 rfl) rfl
theorem q1079 : (Jvm.Cond.methodLink "CopyPrices$World" (179 : Nat) ({ cls := "CopyPrices$World", name := "chooser", desc := "(ILCopyPrices$Table;)LCopyPrices$Chooser;" } : Jvm.MethodName)) ∈ lw_all := lw_g (lw_at lw_m4 222 rfl) rfl
theorem q1080 : (Jvm.Cond.privateMethod ({ cls := "CopyPrices$World", name := "chooser", desc := "(ILCopyPrices$Table;)LCopyPrices$Chooser;" } : Jvm.MethodName)) ∈ lw_tbl := lw_at lw_m4 223 rfl
theorem q1081 : (Jvm.Cond.instanceMethod ({ cls := "CopyPrices$World", name := "chooser", desc := "(ILCopyPrices$Table;)LCopyPrices$Chooser;" } : Jvm.MethodName)) ∈ lw_all := lw_g (lw_at lw_m4 224 rfl) rfl
theorem q1082 : (Jvm.Cond.code ({ cls := "CopyPrices$World", name := "chooser", desc := "(ILCopyPrices$Table;)LCopyPrices$Chooser;" } : Jvm.MethodName) prog_12_method_24_code (3 : Nat) (Option.some (Jvm.ClassFile.FieldType.object "CopyPrices$Chooser"))) ∈ lw_all := lw_g (lw_at lw_m4 225 rfl) rfl
theorem q1083 : (Jvm.Cond.privateMethod ({ cls := "CopyPrices$World", name := "lambda$chooser$0", desc := "(IIZ)LCopyPrices$Step;" } : Jvm.MethodName)) ∈ lw_tbl := lw_at lw_m4 226 rfl
theorem q1084 : (Jvm.Cond.instanceMethod ({ cls := "CopyPrices$World", name := "lambda$chooser$0", desc := "(IIZ)LCopyPrices$Step;" } : Jvm.MethodName)) ∈ lw_all := lw_g (lw_at lw_m4 227 rfl) rfl
theorem q1085 : (Jvm.Cond.code ({ cls := "CopyPrices$World", name := "lambda$chooser$0", desc := "(IIZ)LCopyPrices$Step;" } : Jvm.MethodName) prog_12_method_33_code (4 : Nat) (Option.some (Jvm.ClassFile.FieldType.object "CopyPrices$Step"))) ∈ lw_all := lw_g (lw_at lw_m4 228 rfl) rfl
theorem q1086 : (Jvm.Cond.methodLink "CopyPrices$World" (153 : Nat) ({ cls := "CopyPrices$World", name := "literal", desc := "(IIZ)LCopyPrices$Literal;" } : Jvm.MethodName)) ∈ lw_all := lw_g (lw_at lw_m4 229 rfl) rfl
theorem q1087 : (Jvm.Cond.instanceMethod ({ cls := "CopyPrices$World", name := "literal", desc := "(IIZ)LCopyPrices$Literal;" } : Jvm.MethodName)) ∈ lw_all := lw_g (lw_at lw_m4 230 rfl) rfl
theorem q1088 : (Jvm.Cond.selects "CopyPrices$World" ({ cls := "CopyPrices$World", name := "literal", desc := "(IIZ)LCopyPrices$Literal;" } : Jvm.MethodName) ({ cls := "CopyPrices$World", name := "literal", desc := "(IIZ)LCopyPrices$Literal;" } : Jvm.MethodName)) ∈ lw_all := lw_g (lw_at lw_m4 231 rfl) rfl
theorem q1089 : (Jvm.Cond.code ({ cls := "CopyPrices$World", name := "literal", desc := "(IIZ)LCopyPrices$Literal;" } : Jvm.MethodName) prog_12_method_19_code (4 : Nat) (Option.some (Jvm.ClassFile.FieldType.object "CopyPrices$Literal"))) ∈ lw_all := lw_g (lw_at lw_m4 232 rfl) rfl
theorem q1090 : (Jvm.Cond.classLink "CopyPrices$World" (113 : Nat) "CopyPrices$Literal") ∈ lw_all := lw_g (lw_at lw_m4 233 rfl) rfl
theorem q1092 : (Jvm.Cond.methodLink "CopyPrices$World" (115 : Nat) ({ cls := "CopyPrices$World", name := "literalPrice", desc := "(IZ)I" } : Jvm.MethodName)) ∈ lw_all := lw_g (lw_at lw_m4 235 rfl) rfl
theorem q1093 : (Jvm.Cond.methodLink "CopyPrices$World" (119 : Nat) ({ cls := "CopyPrices$Literal", name := "<init>", desc := "(III)V" } : Jvm.MethodName)) ∈ lw_all := lw_g (lw_at lw_m4 236 rfl) rfl
theorem q1107 : (Jvm.Cond.fieldLink "CopyPrices$World" (206 : Nat) "CopyPrices$Step" "price" "I") ∈ lw_all := lw_g (lw_at lw_m5 10 rfl) rfl
theorem q1110 : (Jvm.Cond.fieldLink "CopyPrices$World" (149 : Nat) "CopyPrices$Step" "next" "LCopyPrices$Step;") ∈ lw_all := lw_g (lw_at lw_m5 13 rfl) rfl
theorem q1121 : (Jvm.Cond.privateMethod ({ cls := "CopyPrices$World", name := "lambda$chooser$1", desc := "(IIZ)LCopyPrices$Step;" } : Jvm.MethodName)) ∈ lw_tbl := lw_at lw_m5 24 rfl
theorem q1122 : (Jvm.Cond.instanceMethod ({ cls := "CopyPrices$World", name := "lambda$chooser$1", desc := "(IIZ)LCopyPrices$Step;" } : Jvm.MethodName)) ∈ lw_all := lw_g (lw_at lw_m5 25 rfl) rfl
theorem q1123 : (Jvm.Cond.code ({ cls := "CopyPrices$World", name := "lambda$chooser$1", desc := "(IIZ)LCopyPrices$Step;" } : Jvm.MethodName) prog_12_method_32_code (4 : Nat) (Option.some (Jvm.ClassFile.FieldType.object "CopyPrices$Step"))) ∈ lw_all := lw_g (lw_at lw_m5 26 rfl) rfl
theorem q1124 : (Jvm.Cond.methodLink "CopyPrices$World" (212 : Nat) ({ cls := "CopyPrices$World", name := "longestStep", desc := "(IIZ)LCopyPrices$Step;" } : Jvm.MethodName)) ∈ lw_all := lw_g (lw_at lw_m5 27 rfl) rfl
theorem q1125 : (Jvm.Cond.privateMethod ({ cls := "CopyPrices$World", name := "longestStep", desc := "(IIZ)LCopyPrices$Step;" } : Jvm.MethodName)) ∈ lw_tbl := lw_at lw_m5 28 rfl
theorem q1126 : (Jvm.Cond.instanceMethod ({ cls := "CopyPrices$World", name := "longestStep", desc := "(IIZ)LCopyPrices$Step;" } : Jvm.MethodName)) ∈ lw_all := lw_g (lw_at lw_m5 29 rfl) rfl
theorem q1127 : (Jvm.Cond.code ({ cls := "CopyPrices$World", name := "longestStep", desc := "(IIZ)LCopyPrices$Step;" } : Jvm.MethodName) prog_12_method_22_code (5 : Nat) (Option.some (Jvm.ClassFile.FieldType.object "CopyPrices$Step"))) ∈ lw_all := lw_g (lw_at lw_m5 30 rfl) rfl
theorem q1128 : (Jvm.Cond.methodLink "CopyPrices$World" (99 : Nat) ({ cls := "CopyPrices$World", name := "longestAt", desc := "(I)I" } : Jvm.MethodName)) ∈ lw_all := lw_g (lw_at lw_m5 31 rfl) rfl
theorem q1129 : (Jvm.Cond.instanceMethod ({ cls := "CopyPrices$World", name := "longestAt", desc := "(I)I" } : Jvm.MethodName)) ∈ lw_all := lw_g (lw_at lw_m5 32 rfl) rfl
theorem q1130 : (Jvm.Cond.selects "CopyPrices$World" ({ cls := "CopyPrices$World", name := "longestAt", desc := "(I)I" } : Jvm.MethodName) ({ cls := "CopyPrices$World", name := "longestAt", desc := "(I)I" } : Jvm.MethodName)) ∈ lw_all := lw_g (lw_at lw_m5 33 rfl) rfl
theorem q1131 : (Jvm.Cond.code ({ cls := "CopyPrices$World", name := "longestAt", desc := "(I)I" } : Jvm.MethodName) prog_12_method_14_code (7 : Nat) (Option.some Jvm.ClassFile.FieldType.int)) ∈ lw_all := lw_g (lw_at lw_m5 34 rfl) rfl
theorem q1132 : (Jvm.Cond.methodLink "CopyPrices$World" (90 : Nat) ({ cls := "CopyPrices$World", name := "candidates", desc := "(I)I" } : Jvm.MethodName)) ∈ lw_all := lw_g (lw_at lw_m5 35 rfl) rfl
theorem q1133 : (Jvm.Cond.methodLink "CopyPrices$World" (93 : Nat) ({ cls := "CopyPrices$World", name := "candidate", desc := "(II)I" } : Jvm.MethodName)) ∈ lw_all := lw_g (lw_at lw_m5 36 rfl) rfl
theorem q1134 : (Jvm.Cond.methodLink "CopyPrices$World" (96 : Nat) ({ cls := "CopyPrices$World", name := "longest", desc := "(II)I" } : Jvm.MethodName)) ∈ lw_all := lw_g (lw_at lw_m5 37 rfl) rfl
theorem q1135 : (Jvm.Cond.methodLink "CopyPrices$World" (157 : Nat) ({ cls := "CopyPrices$World", name := "copy", desc := "(IIII)LCopyPrices$Copy;" } : Jvm.MethodName)) ∈ lw_all := lw_g (lw_at lw_m5 38 rfl) rfl
theorem q1136 : (Jvm.Cond.instanceMethod ({ cls := "CopyPrices$World", name := "copy", desc := "(IIII)LCopyPrices$Copy;" } : Jvm.MethodName)) ∈ lw_all := lw_g (lw_at lw_m5 39 rfl) rfl
theorem q1137 : (Jvm.Cond.selects "CopyPrices$World" ({ cls := "CopyPrices$World", name := "copy", desc := "(IIII)LCopyPrices$Copy;" } : Jvm.MethodName) ({ cls := "CopyPrices$World", name := "copy", desc := "(IIII)LCopyPrices$Copy;" } : Jvm.MethodName)) ∈ lw_all := lw_g (lw_at lw_m5 40 rfl) rfl
theorem q1138 : (Jvm.Cond.code ({ cls := "CopyPrices$World", name := "copy", desc := "(IIII)LCopyPrices$Copy;" } : Jvm.MethodName) prog_12_method_20_code (5 : Nat) (Option.some (Jvm.ClassFile.FieldType.object "CopyPrices$Copy"))) ∈ lw_all := lw_g (lw_at lw_m5 41 rfl) rfl
theorem q1139 : (Jvm.Cond.classLink "CopyPrices$World" (122 : Nat) "CopyPrices$Copy") ∈ lw_all := lw_g (lw_at lw_m5 42 rfl) rfl
theorem q1141 : (Jvm.Cond.methodLink "CopyPrices$World" (124 : Nat) ({ cls := "CopyPrices$World", name := "copyPrice", desc := "(III)I" } : Jvm.MethodName)) ∈ lw_all := lw_g (lw_at lw_m5 44 rfl) rfl
theorem q1142 : (Jvm.Cond.methodLink "CopyPrices$World" (128 : Nat) ({ cls := "CopyPrices$Copy", name := "<init>", desc := "(III[I)V" } : Jvm.MethodName)) ∈ lw_all := lw_g (lw_at lw_m5 45 rfl) rfl
theorem q1157 : (Jvm.Cond.privateMethod ({ cls := "CopyPrices$World", name := "lambda$chooser$2", desc := "(IIZ)LCopyPrices$Step;" } : Jvm.MethodName)) ∈ lw_tbl := lw_at lw_m5 60 rfl
theorem q1158 : (Jvm.Cond.instanceMethod ({ cls := "CopyPrices$World", name := "lambda$chooser$2", desc := "(IIZ)LCopyPrices$Step;" } : Jvm.MethodName)) ∈ lw_all := lw_g (lw_at lw_m5 61 rfl) rfl
theorem q1159 : (Jvm.Cond.code ({ cls := "CopyPrices$World", name := "lambda$chooser$2", desc := "(IIZ)LCopyPrices$Step;" } : Jvm.MethodName) prog_12_method_31_code (4 : Nat) (Option.some (Jvm.ClassFile.FieldType.object "CopyPrices$Step"))) ∈ lw_all := lw_g (lw_at lw_m5 62 rfl) rfl
theorem q1160 : (Jvm.Cond.methodLink "CopyPrices$World" (209 : Nat) ({ cls := "CopyPrices$World", name := "waits", desc := "(I)Z" } : Jvm.MethodName)) ∈ lw_all := lw_g (lw_at lw_m5 63 rfl) rfl
theorem q1161 : (Jvm.Cond.privateMethod ({ cls := "CopyPrices$World", name := "waits", desc := "(I)Z" } : Jvm.MethodName)) ∈ lw_tbl := lw_at lw_m5 64 rfl
theorem q1162 : (Jvm.Cond.instanceMethod ({ cls := "CopyPrices$World", name := "waits", desc := "(I)Z" } : Jvm.MethodName)) ∈ lw_all := lw_g (lw_at lw_m5 65 rfl) rfl
theorem q1163 : (Jvm.Cond.code ({ cls := "CopyPrices$World", name := "waits", desc := "(I)Z" } : Jvm.MethodName) prog_12_method_23_code (2 : Nat) (Option.some Jvm.ClassFile.FieldType.boolean)) ∈ lw_all := lw_g (lw_at lw_m5 66 rfl) rfl
theorem q1164 : (Jvm.Cond.methodLink "CopyPrices$World" (161 : Nat) ({ cls := "CopyPrices$World", name := "longestLength", desc := "(I)I" } : Jvm.MethodName)) ∈ lw_all := lw_g (lw_at lw_m5 67 rfl) rfl
theorem q1165 : (Jvm.Cond.instanceMethod ({ cls := "CopyPrices$World", name := "longestLength", desc := "(I)I" } : Jvm.MethodName)) ∈ lw_all := lw_g (lw_at lw_m5 68 rfl) rfl
theorem q1166 : (Jvm.Cond.selects "CopyPrices$World" ({ cls := "CopyPrices$World", name := "longestLength", desc := "(I)I" } : Jvm.MethodName) ({ cls := "CopyPrices$World", name := "longestLength", desc := "(I)I" } : Jvm.MethodName)) ∈ lw_all := lw_g (lw_at lw_m5 69 rfl) rfl
theorem q1167 : (Jvm.Cond.code ({ cls := "CopyPrices$World", name := "longestLength", desc := "(I)I" } : Jvm.MethodName) prog_12_method_15_code (3 : Nat) (Option.some Jvm.ClassFile.FieldType.int)) ∈ lw_all := lw_g (lw_at lw_m5 70 rfl) rfl
theorem q1168 : (Jvm.Cond.methodLink "CopyPrices$World" (175 : Nat) ({ cls := "CopyPrices$Table", name := "chooser", desc := "()LCopyPrices$Chooser;" } : Jvm.MethodName)) ∈ lw_all := lw_g (lw_at lw_m5 71 rfl) rfl
theorem q1181 : (Jvm.Cond.methodLink "CopyPrices$World" (145 : Nat) ({ cls := "CopyPrices$World", name := "steps", desc := "(LCopyPrices$Chooser;IIZ)LCopyPrices$Step;" } : Jvm.MethodName)) ∈ lw_all := lw_g (lw_at lw_m5 84 rfl) rfl
theorem q1182 : (Jvm.Cond.instanceMethod ({ cls := "CopyPrices$World", name := "steps", desc := "(LCopyPrices$Chooser;IIZ)LCopyPrices$Step;" } : Jvm.MethodName)) ∈ lw_all := lw_g (lw_at lw_m5 85 rfl) rfl
theorem q1183 : (Jvm.Cond.selects "CopyPrices$World" ({ cls := "CopyPrices$World", name := "steps", desc := "(LCopyPrices$Chooser;IIZ)LCopyPrices$Step;" } : Jvm.MethodName) ({ cls := "CopyPrices$World", name := "steps", desc := "(LCopyPrices$Chooser;IIZ)LCopyPrices$Step;" } : Jvm.MethodName)) ∈ lw_all := lw_g (lw_at lw_m5 86 rfl) rfl
theorem q1184 : (Jvm.Cond.code ({ cls := "CopyPrices$World", name := "steps", desc := "(LCopyPrices$Chooser;IIZ)LCopyPrices$Step;" } : Jvm.MethodName) prog_12_method_21_code (7 : Nat) (Option.some (Jvm.ClassFile.FieldType.object "CopyPrices$Step"))) ∈ lw_all := lw_g (lw_at lw_m5 87 rfl) rfl
theorem q1185 : (Jvm.Cond.interfaceEntry "CopyPrices$World" (131 : Nat)) ∈ lw_tbl := lw_at lw_m5 88 rfl
theorem q1186 : (Jvm.Cond.methodLink "CopyPrices$World" (131 : Nat) ({ cls := "CopyPrices$Chooser", name := "at", desc := "(IIZ)LCopyPrices$Step;" } : Jvm.MethodName)) ∈ lw_all := lw_g (lw_at lw_m5 89 rfl) rfl
theorem q1189 : (Jvm.Cond.methodLink "CopyPrices$World" (136 : Nat) ({ cls := "CopyPrices$Step", name := "distance", desc := "()I" } : Jvm.MethodName)) ∈ lw_all := lw_g (lw_at lw_m5 92 rfl) rfl
theorem q1198 : (Jvm.Cond.methodLink "CopyPrices$World" (142 : Nat) ({ cls := "CopyPrices$Step", name := "length", desc := "()I" } : Jvm.MethodName)) ∈ lw_all := lw_g (lw_at lw_m5 101 rfl) rfl
theorem q1221 : (Jvm.Cond.instanceMethod ({ cls := "CopyPrices$World", name := "priceOf", desc := "(ILCopyPrices$Table;)I" } : Jvm.MethodName)) ∈ lw_all := lw_g (lw_at lw_m5 124 rfl) rfl
theorem q1222 : (Jvm.Cond.selects "CopyPrices$World" ({ cls := "CopyPrices$World", name := "priceOf", desc := "(ILCopyPrices$Table;)I" } : Jvm.MethodName) ({ cls := "CopyPrices$World", name := "priceOf", desc := "(ILCopyPrices$Table;)I" } : Jvm.MethodName)) ∈ lw_all := lw_g (lw_at lw_m5 125 rfl) rfl
theorem q1223 : (Jvm.Cond.code ({ cls := "CopyPrices$World", name := "priceOf", desc := "(ILCopyPrices$Table;)I" } : Jvm.MethodName) prog_12_method_26_code (3 : Nat) (Option.some Jvm.ClassFile.FieldType.int)) ∈ lw_all := lw_g (lw_at lw_m5 126 rfl) rfl
theorem q1224 : (Jvm.Cond.methodLink "CopyPrices$World" (182 : Nat) ({ cls := "CopyPrices$World", name := "bestPrice", desc := "(LCopyPrices$Table;)I" } : Jvm.MethodName)) ∈ lw_all := lw_g (lw_at lw_m5 127 rfl) rfl
theorem q1225 : (Jvm.Cond.methodLink "CopyPrices$World" (186 : Nat) ({ cls := "CopyPrices$World", name := "parse", desc := "(ILCopyPrices$Table;)LCopyPrices$Step;" } : Jvm.MethodName)) ∈ lw_all := lw_g (lw_at lw_m5 128 rfl) rfl
theorem q1226 : (Jvm.Cond.static ({ cls := "CopyPrices$World", name := "lambda$priceOf$3", desc := "(LCopyPrices$Step;)I" } : Jvm.MethodName)) ∈ lw_all := lw_g (lw_at lw_m5 129 rfl) rfl
theorem q1227 : (Jvm.Cond.code ({ cls := "CopyPrices$World", name := "lambda$priceOf$3", desc := "(LCopyPrices$Step;)I" } : Jvm.MethodName) prog_12_method_30_code (1 : Nat) (Option.some Jvm.ClassFile.FieldType.int)) ∈ lw_all := lw_g (lw_at lw_m5 130 rfl) rfl
theorem q1228 : (Jvm.Cond.methodLink "CopyPrices$World" (194 : Nat) ({ cls := "CopyPrices$Step", name := "sum", desc := "(LCopyPrices$Asked;)I" } : Jvm.MethodName)) ∈ lw_all := lw_g (lw_at lw_m5 131 rfl) rfl
theorem q1344 : (Jvm.Cond.instanceMethod ({ cls := "CopyPrices$World", name := "pinnedPrice", desc := "(ILCopyPrices$Table;)I" } : Jvm.MethodName)) ∈ lw_all := lw_g (lw_at lw_m6 7 rfl) rfl
theorem q1345 : (Jvm.Cond.selects "CopyPrices$World" ({ cls := "CopyPrices$World", name := "pinnedPrice", desc := "(ILCopyPrices$Table;)I" } : Jvm.MethodName) ({ cls := "CopyPrices$World", name := "pinnedPrice", desc := "(ILCopyPrices$Table;)I" } : Jvm.MethodName)) ∈ lw_all := lw_g (lw_at lw_m6 8 rfl) rfl
theorem q1346 : (Jvm.Cond.codeWith ({ cls := "CopyPrices$World", name := "pinnedPrice", desc := "(ILCopyPrices$Table;)I" } : Jvm.MethodName) prog_12_method_28_code (7 : Nat) (Option.some Jvm.ClassFile.FieldType.int) [((17 : Nat), (24 : Nat), (32 : Nat), (0 : Nat)), ((32 : Nat), (34 : Nat), (32 : Nat), (0 : Nat))]) ∈ lw_all := lw_g (lw_at lw_m6 9 rfl) rfl
theorem q1352 : (Jvm.Cond.instanceMethod ({ cls := "CopyPrices$World", name := "priceWith", desc := "(IILCopyPrices$Table;)I" } : Jvm.MethodName)) ∈ lw_all := lw_g (lw_at lw_m6 15 rfl) rfl
theorem q1353 : (Jvm.Cond.selects "CopyPrices$World" ({ cls := "CopyPrices$World", name := "priceWith", desc := "(IILCopyPrices$Table;)I" } : Jvm.MethodName) ({ cls := "CopyPrices$World", name := "priceWith", desc := "(IILCopyPrices$Table;)I" } : Jvm.MethodName)) ∈ lw_all := lw_g (lw_at lw_m6 16 rfl) rfl
theorem q1354 : (Jvm.Cond.codeWith ({ cls := "CopyPrices$World", name := "priceWith", desc := "(IILCopyPrices$Table;)I" } : Jvm.MethodName) prog_12_method_29_code (7 : Nat) (Option.some Jvm.ClassFile.FieldType.int) [((15 : Nat), (36 : Nat), (47 : Nat), (0 : Nat)), ((47 : Nat), (49 : Nat), (47 : Nat), (0 : Nat))]) ∈ lw_all := lw_g (lw_at lw_m6 17 rfl) rfl
theorem q1355 : (Jvm.Cond.methodLink "CopyPrices$World" (202 : Nat) ({ cls := "CopyPrices$World", name := "priceOf", desc := "(ILCopyPrices$Table;)I" } : Jvm.MethodName)) ∈ lw_all := lw_g (lw_at lw_m6 18 rfl) rfl
theorem q1384 : (Jvm.Cond.instanceMethod ({ cls := "CopyPrices$World", name := "copy", desc := "()LCopyPrices$World;" } : Jvm.MethodName)) ∈ lw_all := lw_g (lw_at lw_m6 47 rfl) rfl
theorem q1385 : (Jvm.Cond.selects "CopyPrices$World" ({ cls := "CopyPrices$World", name := "copy", desc := "()LCopyPrices$World;" } : Jvm.MethodName) ({ cls := "CopyPrices$World", name := "copy", desc := "()LCopyPrices$World;" } : Jvm.MethodName)) ∈ lw_all := lw_g (lw_at lw_m6 48 rfl) rfl
theorem q1386 : (Jvm.Cond.code ({ cls := "CopyPrices$World", name := "copy", desc := "()LCopyPrices$World;" } : Jvm.MethodName) prog_12_method_3_code (2 : Nat) (Option.some (Jvm.ClassFile.FieldType.object "CopyPrices$World"))) ∈ lw_all := lw_g (lw_at lw_m6 49 rfl) rfl
theorem q1387 : (Jvm.Cond.classLink "CopyPrices$World" (4 : Nat) "CopyPrices$World") ∈ lw_all := lw_g (lw_at lw_m6 50 rfl) rfl
theorem q1388 : (Jvm.Cond.methodLink "CopyPrices$World" (40 : Nat) ({ cls := "CopyPrices$World", name := "<init>", desc := "()V" } : Jvm.MethodName)) ∈ lw_all := lw_g (lw_at lw_m6 51 rfl) rfl
theorem q1420 : (Jvm.Cond.instanceMethod ({ cls := "CopyPrices$World", name := "copiesAt", desc := "(I)I" } : Jvm.MethodName)) ∈ lw_all := lw_g (lw_at lw_m6 83 rfl) rfl
theorem q1421 : (Jvm.Cond.selects "CopyPrices$World" ({ cls := "CopyPrices$World", name := "copiesAt", desc := "(I)I" } : Jvm.MethodName) ({ cls := "CopyPrices$World", name := "copiesAt", desc := "(I)I" } : Jvm.MethodName)) ∈ lw_all := lw_g (lw_at lw_m6 84 rfl) rfl
theorem q1422 : (Jvm.Cond.code ({ cls := "CopyPrices$World", name := "copiesAt", desc := "(I)I" } : Jvm.MethodName) prog_12_method_13_code (6 : Nat) (Option.some Jvm.ClassFile.FieldType.int)) ∈ lw_all := lw_g (lw_at lw_m6 85 rfl) rfl
theorem q1545 : (Jvm.Cond.instanceMethod ({ cls := "CopyPrices$World", name := "why", desc := "(III)I" } : Jvm.MethodName)) ∈ lw_all := lw_g (lw_at lw_m6 208 rfl) rfl
theorem q1546 : (Jvm.Cond.selects "CopyPrices$World" ({ cls := "CopyPrices$World", name := "why", desc := "(III)I" } : Jvm.MethodName) ({ cls := "CopyPrices$World", name := "why", desc := "(III)I" } : Jvm.MethodName)) ∈ lw_all := lw_g (lw_at lw_m6 209 rfl) rfl
theorem q1547 : (Jvm.Cond.code ({ cls := "CopyPrices$World", name := "why", desc := "(III)I" } : Jvm.MethodName) prog_12_method_16_code (4 : Nat) (Option.some Jvm.ClassFile.FieldType.int)) ∈ lw_all := lw_g (lw_at lw_m6 210 rfl) rfl
theorem q1548 : (Jvm.Cond.methodLinkNest "CopyPrices$World" (102 : Nat) ({ cls := "CopyPrices", name := "in", desc := "(JJJ)Z" } : Jvm.MethodName) "CopyPrices") ∈ lw_tbl := lw_at lw_m6 211 rfl
theorem q1549 : (Jvm.Cond.methodLink "CopyPrices$World" (106 : Nat) ({ cls := "CopyPrices$Link", name := "has", desc := "(II)Z" } : Jvm.MethodName)) ∈ lw_all := lw_g (lw_at lw_m6 212 rfl) rfl
theorem q1776 : (Jvm.Cond.selects "CopyPrices$World" ({ cls := "java/lang/Object", name := "getClass", desc := "()Ljava/lang/Class;" } : Jvm.MethodName) ({ cls := "java/lang/Object", name := "getClass", desc := "()Ljava/lang/Class;" } : Jvm.MethodName)) ∈ lw_all := lw_g (lw_at lw_m7 199 rfl) rfl
theorem q2597 : (Jvm.Cond.castable "CopyPrices$World" "java/lang/Object") ∈ lw_tbl := lw_at lw_m11 60 rfl
theorem in_X2 : ∀ w ∈ wsX20, w ∈ lw_all := lw_in wsX20 [215, 217, 219, 221, 223, 225, 227] (by decide +kernel) (by decide +kernel)
