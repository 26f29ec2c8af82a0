/-! java/util/AbstractCollection -/
set_option maxRecDepth 100000
def RJ16 : String := "java/util/AbstractCollection"
abbrev cJ16_init : ByteArray := prog_41_method_1_code
def yJ16_init : MethodName := ⟨RJ16, "<init>", "()V"⟩
theorem dJ16_init_0 : decode cJ16_init 0 = .ok (.aload_n 0, 1) := by decide +kernel
theorem dJ16_init_1 : decode cJ16_init 1 = .ok (.invokespecial 1, 3) := by decide +kernel
theorem dJ16_init_4 : decode cJ16_init 4 = .ok (.return_, 1) := by decide +kernel
theorem q159 : (Jvm.Cond.initialized "java/util/AbstractCollection") ∈ lw_all := lw_g (lw_at lw_m1 22 rfl) rfl
theorem q608 : (Jvm.Cond.instanceMethod ({ cls := "java/util/AbstractCollection", name := "<init>", desc := "()V" } : Jvm.MethodName)) ∈ lw_all := lw_g (lw_at lw_m2 231 rfl) rfl
theorem q609 : (Jvm.Cond.code ({ cls := "java/util/AbstractCollection", name := "<init>", desc := "()V" } : Jvm.MethodName) prog_41_method_1_code (1 : Nat) (Option.none : Option Jvm.ClassFile.FieldType)) ∈ lw_all := lw_g (lw_at lw_m2 232 rfl) rfl
theorem q610 : (Jvm.Cond.methodLink "java/util/AbstractCollection" (1 : Nat) ({ cls := "java/lang/Object", name := "<init>", desc := "()V" } : Jvm.MethodName)) ∈ lw_all := lw_g (lw_at lw_m2 233 rfl) rfl
/-! java/util/ArrayDeque -/
set_option maxRecDepth 100000
def RJ17 : String := "java/util/ArrayDeque"
def TJ17 : u_T := fun k => match k with
  | 0 => ("java/util/ArrayDeque", "elements", "[Ljava/lang/Object;", false)
  | 1 => ("java/util/ArrayDeque", "head", "I", false)
  | _ => ("java/util/ArrayDeque", "tail", "I", false)
def tyJ17 : Nat → FieldType := fun k => match k with
  | 0 => .array (.object "java/lang/Object")
  | 1 => .int
  | _ => .int
abbrev wsJ170 : List Cond := u_ws RJ17 TJ17 3
theorem nmJ17 : ∀ a, a < 3 → ∀ b, b < 3 → a ≠ b → (TJ17 a).2.1 ≠ (TJ17 b).2.1 := by decide +kernel
theorem tyJ17_ok : ∀ k, k < 3 → parseFieldDescriptor (TJ17 k).2.2.1 = some (tyJ17 k) := by decide +kernel
abbrev cJ17_init : ByteArray := prog_42_method_4_code
def yJ17_init : MethodName := ⟨RJ17, "<init>", "(I)V"⟩
def dkwJ17_init_1 : List UInt8 := [167, 0, 6, 27, 4, 96, 189, 0, 47, 181, 0, 3, 177]
abbrev dktJ17_init_1 : List UInt8 := dkwJ17_init_1 ++ []
def dkwJ17_init_0 : List UInt8 := [42, 183, 0, 42, 42, 27, 4, 162, 0, 7, 4, 167, 0, 17, 27, 18, 41, 160, 0, 8, 18, 41]
abbrev dktJ17_init_0 : List UInt8 := dkwJ17_init_0 ++ dktJ17_init_1
theorem dksJ17_init_0 : cJ17_init.data.toList.drop 0 = dktJ17_init_0 := by decide +kernel
theorem dksJ17_init_1 : cJ17_init.data.toList.drop 22 = dktJ17_init_1 := dk_seg dksJ17_init_0 22 rfl rfl
theorem dJ17_init_0 : decode cJ17_init 0 = .ok (.aload_n 0, 1) := dk_42 (dk_at dksJ17_init_0 0 rfl rfl)
theorem dJ17_init_1 : decode cJ17_init 1 = .ok (.invokespecial 42, 3) := dk_183 0 42 (dk_at dksJ17_init_0 1 rfl rfl)
theorem dJ17_init_4 : decode cJ17_init 4 = .ok (.aload_n 0, 1) := dk_42 (dk_at dksJ17_init_0 4 rfl rfl)
theorem dJ17_init_5 : decode cJ17_init 5 = .ok (.iload_n 1, 1) := dk_27 (dk_at dksJ17_init_0 5 rfl rfl)
theorem dJ17_init_6 : decode cJ17_init 6 = .ok (.iconst 1, 1) := dk_4 (dk_at dksJ17_init_0 6 rfl rfl)
theorem dJ17_init_7 : decode cJ17_init 7 = .ok (.if_icmp .ge 7, 3) := dk_162 0 7 (dk_at dksJ17_init_0 7 rfl rfl)
theorem dJ17_init_10 : decode cJ17_init 10 = .ok (.iconst 1, 1) := dk_4 (dk_at dksJ17_init_0 10 rfl rfl)
theorem dJ17_init_11 : decode cJ17_init 11 = .ok (.goto 17, 3) := dk_167 0 17 (dk_at dksJ17_init_0 11 rfl rfl)
theorem dJ17_init_14 : decode cJ17_init 14 = .ok (.iload_n 1, 1) := dk_27 (dk_at dksJ17_init_0 14 rfl rfl)
theorem dJ17_init_15 : decode cJ17_init 15 = .ok (.ldc 41, 2) := dk_18 41 (dk_at dksJ17_init_0 15 rfl rfl)
theorem dJ17_init_17 : decode cJ17_init 17 = .ok (.if_icmp .ne 8, 3) := dk_160 0 8 (dk_at dksJ17_init_0 17 rfl rfl)
theorem dJ17_init_20 : decode cJ17_init 20 = .ok (.ldc 41, 2) := dk_18 41 (dk_at dksJ17_init_0 20 rfl rfl)
theorem dJ17_init_22 : decode cJ17_init 22 = .ok (.goto 6, 3) := dk_167 0 6 (dk_at dksJ17_init_1 0 rfl rfl)
theorem dJ17_init_25 : decode cJ17_init 25 = .ok (.iload_n 1, 1) := dk_27 (dk_at dksJ17_init_1 3 rfl rfl)
theorem dJ17_init_26 : decode cJ17_init 26 = .ok (.iconst 1, 1) := dk_4 (dk_at dksJ17_init_1 4 rfl rfl)
theorem dJ17_init_27 : decode cJ17_init 27 = .ok (.iadd, 1) := dk_96 (dk_at dksJ17_init_1 5 rfl rfl)
theorem dJ17_init_28 : decode cJ17_init 28 = .ok (.anewarray 47, 3) := dk_189 0 47 (dk_at dksJ17_init_1 6 rfl rfl)
theorem dJ17_init_31 : decode cJ17_init 31 = .ok (.putfield 3, 3) := dk_181 0 3 (dk_at dksJ17_init_1 9 rfl rfl)
theorem dJ17_init_34 : decode cJ17_init 34 = .ok (.return_, 1) := dk_177 (dk_at dksJ17_init_1 12 rfl rfl)
abbrev cJ17_clear : ByteArray := prog_42_method_53_code
def yJ17_clear : MethodName := ⟨RJ17, "clear", "()V"⟩
def dkwJ17_clear_1 : List UInt8 := [181, 0, 24, 177]
abbrev dktJ17_clear_1 : List UInt8 := dkwJ17_clear_1 ++ []
def dkwJ17_clear_0 : List UInt8 := [42, 180, 0, 3, 42, 180, 0, 24, 42, 180, 0, 20, 184, 0, 181, 42, 42, 3, 90, 181, 0, 20]
abbrev dktJ17_clear_0 : List UInt8 := dkwJ17_clear_0 ++ dktJ17_clear_1
theorem dksJ17_clear_0 : cJ17_clear.data.toList.drop 0 = dktJ17_clear_0 := by decide +kernel
theorem dksJ17_clear_1 : cJ17_clear.data.toList.drop 22 = dktJ17_clear_1 := dk_seg dksJ17_clear_0 22 rfl rfl
theorem dJ17_clear_0 : decode cJ17_clear 0 = .ok (.aload_n 0, 1) := dk_42 (dk_at dksJ17_clear_0 0 rfl rfl)
theorem dJ17_clear_1 : decode cJ17_clear 1 = .ok (.getfield 3, 3) := dk_180 0 3 (dk_at dksJ17_clear_0 1 rfl rfl)
theorem dJ17_clear_4 : decode cJ17_clear 4 = .ok (.aload_n 0, 1) := dk_42 (dk_at dksJ17_clear_0 4 rfl rfl)
theorem dJ17_clear_5 : decode cJ17_clear 5 = .ok (.getfield 24, 3) := dk_180 0 24 (dk_at dksJ17_clear_0 5 rfl rfl)
theorem dJ17_clear_8 : decode cJ17_clear 8 = .ok (.aload_n 0, 1) := dk_42 (dk_at dksJ17_clear_0 8 rfl rfl)
theorem dJ17_clear_9 : decode cJ17_clear 9 = .ok (.getfield 20, 3) := dk_180 0 20 (dk_at dksJ17_clear_0 9 rfl rfl)
theorem dJ17_clear_12 : decode cJ17_clear 12 = .ok (.invokestatic 181, 3) := dk_184 0 181 (dk_at dksJ17_clear_0 12 rfl rfl)
theorem dJ17_clear_15 : decode cJ17_clear 15 = .ok (.aload_n 0, 1) := dk_42 (dk_at dksJ17_clear_0 15 rfl rfl)
theorem dJ17_clear_16 : decode cJ17_clear 16 = .ok (.aload_n 0, 1) := dk_42 (dk_at dksJ17_clear_0 16 rfl rfl)
theorem dJ17_clear_17 : decode cJ17_clear 17 = .ok (.iconst 0, 1) := dk_3 (dk_at dksJ17_clear_0 17 rfl rfl)
theorem dJ17_clear_18 : decode cJ17_clear 18 = .ok (.dup_x1, 1) := dk_90 (dk_at dksJ17_clear_0 18 rfl rfl)
theorem dJ17_clear_19 : decode cJ17_clear 19 = .ok (.putfield 20, 3) := dk_181 0 20 (dk_at dksJ17_clear_0 19 rfl rfl)
theorem dJ17_clear_22 : decode cJ17_clear 22 = .ok (.putfield 24, 3) := dk_181 0 24 (dk_at dksJ17_clear_1 0 rfl rfl)
theorem dJ17_clear_25 : decode cJ17_clear 25 = .ok (.return_, 1) := dk_177 (dk_at dksJ17_clear_1 3 rfl rfl)
abbrev cJ17_circularClear : ByteArray := prog_42_method_54_code
def yJ17_circularClear : MethodName := ⟨RJ17, "circularClear", "([Ljava/lang/Object;II)V"⟩
def dkwJ17_circularClear_1 : List UInt8 := [167, 255, 244, 29, 28, 160, 0, 6, 167, 0, 10, 3, 60, 28, 62, 167, 255, 229, 177]
abbrev dktJ17_circularClear_1 : List UInt8 := dkwJ17_circularClear_1 ++ []
def dkwJ17_circularClear_0 : List UInt8 := [27, 28, 163, 0, 7, 28, 167, 0, 5, 42, 190, 62, 27, 29, 162, 0, 13, 42, 27, 1, 83, 132, 1, 1]
abbrev dktJ17_circularClear_0 : List UInt8 := dkwJ17_circularClear_0 ++ dktJ17_circularClear_1
theorem dksJ17_circularClear_0 : cJ17_circularClear.data.toList.drop 0 = dktJ17_circularClear_0 := by decide +kernel
theorem dksJ17_circularClear_1 : cJ17_circularClear.data.toList.drop 24 = dktJ17_circularClear_1 := dk_seg dksJ17_circularClear_0 24 rfl rfl
theorem dJ17_circularClear_0 : decode cJ17_circularClear 0 = .ok (.iload_n 1, 1) := dk_27 (dk_at dksJ17_circularClear_0 0 rfl rfl)
theorem dJ17_circularClear_1 : decode cJ17_circularClear 1 = .ok (.iload_n 2, 1) := dk_28 (dk_at dksJ17_circularClear_0 1 rfl rfl)
theorem dJ17_circularClear_2 : decode cJ17_circularClear 2 = .ok (.if_icmp .gt 7, 3) := dk_163 0 7 (dk_at dksJ17_circularClear_0 2 rfl rfl)
theorem dJ17_circularClear_5 : decode cJ17_circularClear 5 = .ok (.iload_n 2, 1) := dk_28 (dk_at dksJ17_circularClear_0 5 rfl rfl)
theorem dJ17_circularClear_6 : decode cJ17_circularClear 6 = .ok (.goto 5, 3) := dk_167 0 5 (dk_at dksJ17_circularClear_0 6 rfl rfl)
theorem dJ17_circularClear_9 : decode cJ17_circularClear 9 = .ok (.aload_n 0, 1) := dk_42 (dk_at dksJ17_circularClear_0 9 rfl rfl)
theorem dJ17_circularClear_10 : decode cJ17_circularClear 10 = .ok (.arraylength, 1) := dk_190 (dk_at dksJ17_circularClear_0 10 rfl rfl)
theorem dJ17_circularClear_11 : decode cJ17_circularClear 11 = .ok (.istore_n 3, 1) := dk_62 (dk_at dksJ17_circularClear_0 11 rfl rfl)
theorem dJ17_circularClear_12 : decode cJ17_circularClear 12 = .ok (.iload_n 1, 1) := dk_27 (dk_at dksJ17_circularClear_0 12 rfl rfl)
theorem dJ17_circularClear_13 : decode cJ17_circularClear 13 = .ok (.iload_n 3, 1) := dk_29 (dk_at dksJ17_circularClear_0 13 rfl rfl)
theorem dJ17_circularClear_14 : decode cJ17_circularClear 14 = .ok (.if_icmp .ge 13, 3) := dk_162 0 13 (dk_at dksJ17_circularClear_0 14 rfl rfl)
theorem dJ17_circularClear_17 : decode cJ17_circularClear 17 = .ok (.aload_n 0, 1) := dk_42 (dk_at dksJ17_circularClear_0 17 rfl rfl)
theorem dJ17_circularClear_18 : decode cJ17_circularClear 18 = .ok (.iload_n 1, 1) := dk_27 (dk_at dksJ17_circularClear_0 18 rfl rfl)
theorem dJ17_circularClear_19 : decode cJ17_circularClear 19 = .ok (.aconst_null, 1) := dk_1 (dk_at dksJ17_circularClear_0 19 rfl rfl)
theorem dJ17_circularClear_20 : decode cJ17_circularClear 20 = .ok (.aastore, 1) := dk_83 (dk_at dksJ17_circularClear_0 20 rfl rfl)
theorem dJ17_circularClear_21 : decode cJ17_circularClear 21 = .ok (.iinc 1 1, 3) := dk_132 1 1 (dk_at dksJ17_circularClear_0 21 rfl rfl)
theorem dJ17_circularClear_24 : decode cJ17_circularClear 24 = .ok (.goto (-12), 3) := dk_167 255 244 (dk_at dksJ17_circularClear_1 0 rfl rfl)
theorem dJ17_circularClear_27 : decode cJ17_circularClear 27 = .ok (.iload_n 3, 1) := dk_29 (dk_at dksJ17_circularClear_1 3 rfl rfl)
theorem dJ17_circularClear_28 : decode cJ17_circularClear 28 = .ok (.iload_n 2, 1) := dk_28 (dk_at dksJ17_circularClear_1 4 rfl rfl)
theorem dJ17_circularClear_29 : decode cJ17_circularClear 29 = .ok (.if_icmp .ne 6, 3) := dk_160 0 6 (dk_at dksJ17_circularClear_1 5 rfl rfl)
theorem dJ17_circularClear_32 : decode cJ17_circularClear 32 = .ok (.goto 10, 3) := dk_167 0 10 (dk_at dksJ17_circularClear_1 8 rfl rfl)
theorem dJ17_circularClear_35 : decode cJ17_circularClear 35 = .ok (.iconst 0, 1) := dk_3 (dk_at dksJ17_circularClear_1 11 rfl rfl)
theorem dJ17_circularClear_36 : decode cJ17_circularClear 36 = .ok (.istore_n 1, 1) := dk_60 (dk_at dksJ17_circularClear_1 12 rfl rfl)
theorem dJ17_circularClear_37 : decode cJ17_circularClear 37 = .ok (.iload_n 2, 1) := dk_28 (dk_at dksJ17_circularClear_1 13 rfl rfl)
theorem dJ17_circularClear_38 : decode cJ17_circularClear 38 = .ok (.istore_n 3, 1) := dk_62 (dk_at dksJ17_circularClear_1 14 rfl rfl)
theorem dJ17_circularClear_39 : decode cJ17_circularClear 39 = .ok (.goto (-27), 3) := dk_167 255 229 (dk_at dksJ17_circularClear_1 15 rfl rfl)
theorem dJ17_circularClear_42 : decode cJ17_circularClear 42 = .ok (.return_, 1) := dk_177 (dk_at dksJ17_circularClear_1 18 rfl rfl)
abbrev cJ17_size : ByteArray := prog_42_method_37_code
def yJ17_size : MethodName := ⟨RJ17, "size", "()I"⟩
def dkwJ17_size_0 : List UInt8 := [42, 180, 0, 20, 42, 180, 0, 24, 42, 180, 0, 3, 190, 184, 0, 127, 172]
abbrev dktJ17_size_0 : List UInt8 := dkwJ17_size_0 ++ []
theorem dksJ17_size_0 : cJ17_size.data.toList.drop 0 = dktJ17_size_0 := by decide +kernel
theorem dJ17_size_0 : decode cJ17_size 0 = .ok (.aload_n 0, 1) := dk_42 (dk_at dksJ17_size_0 0 rfl rfl)
theorem dJ17_size_1 : decode cJ17_size 1 = .ok (.getfield 20, 3) := dk_180 0 20 (dk_at dksJ17_size_0 1 rfl rfl)
theorem dJ17_size_4 : decode cJ17_size 4 = .ok (.aload_n 0, 1) := dk_42 (dk_at dksJ17_size_0 4 rfl rfl)
theorem dJ17_size_5 : decode cJ17_size 5 = .ok (.getfield 24, 3) := dk_180 0 24 (dk_at dksJ17_size_0 5 rfl rfl)
theorem dJ17_size_8 : decode cJ17_size 8 = .ok (.aload_n 0, 1) := dk_42 (dk_at dksJ17_size_0 8 rfl rfl)
theorem dJ17_size_9 : decode cJ17_size 9 = .ok (.getfield 3, 3) := dk_180 0 3 (dk_at dksJ17_size_0 9 rfl rfl)
theorem dJ17_size_12 : decode cJ17_size 12 = .ok (.arraylength, 1) := dk_190 (dk_at dksJ17_size_0 12 rfl rfl)
theorem dJ17_size_13 : decode cJ17_size 13 = .ok (.invokestatic 127, 3) := dk_184 0 127 (dk_at dksJ17_size_0 13 rfl rfl)
theorem dJ17_size_16 : decode cJ17_size 16 = .ok (.ireturn, 1) := dk_172 (dk_at dksJ17_size_0 16 rfl rfl)
abbrev cJ17_sub : ByteArray := prog_42_method_9_code
def yJ17_sub : MethodName := ⟨RJ17, "sub", "(III)I"⟩
def dkwJ17_sub_0 : List UInt8 := [26, 27, 100, 89, 59, 156, 0, 7, 26, 28, 96, 59, 26, 172]
abbrev dktJ17_sub_0 : List UInt8 := dkwJ17_sub_0 ++ []
theorem dksJ17_sub_0 : cJ17_sub.data.toList.drop 0 = dktJ17_sub_0 := by decide +kernel
theorem dJ17_sub_0 : decode cJ17_sub 0 = .ok (.iload_n 0, 1) := dk_26 (dk_at dksJ17_sub_0 0 rfl rfl)
theorem dJ17_sub_1 : decode cJ17_sub 1 = .ok (.iload_n 1, 1) := dk_27 (dk_at dksJ17_sub_0 1 rfl rfl)
theorem dJ17_sub_2 : decode cJ17_sub 2 = .ok (.isub, 1) := dk_100 (dk_at dksJ17_sub_0 2 rfl rfl)
theorem dJ17_sub_3 : decode cJ17_sub 3 = .ok (.dup, 1) := dk_89 (dk_at dksJ17_sub_0 3 rfl rfl)
theorem dJ17_sub_4 : decode cJ17_sub 4 = .ok (.istore_n 0, 1) := dk_59 (dk_at dksJ17_sub_0 4 rfl rfl)
theorem dJ17_sub_5 : decode cJ17_sub 5 = .ok (.ifCond .ge 7, 3) := dk_156 0 7 (dk_at dksJ17_sub_0 5 rfl rfl)
theorem dJ17_sub_8 : decode cJ17_sub 8 = .ok (.iload_n 0, 1) := dk_26 (dk_at dksJ17_sub_0 8 rfl rfl)
theorem dJ17_sub_9 : decode cJ17_sub 9 = .ok (.iload_n 2, 1) := dk_28 (dk_at dksJ17_sub_0 9 rfl rfl)
theorem dJ17_sub_10 : decode cJ17_sub 10 = .ok (.iadd, 1) := dk_96 (dk_at dksJ17_sub_0 10 rfl rfl)
theorem dJ17_sub_11 : decode cJ17_sub 11 = .ok (.istore_n 0, 1) := dk_59 (dk_at dksJ17_sub_0 11 rfl rfl)
theorem dJ17_sub_12 : decode cJ17_sub 12 = .ok (.iload_n 0, 1) := dk_26 (dk_at dksJ17_sub_0 12 rfl rfl)
theorem dJ17_sub_13 : decode cJ17_sub 13 = .ok (.ireturn, 1) := dk_172 (dk_at dksJ17_sub_0 13 rfl rfl)
abbrev cJ17_removeFirst : ByteArray := prog_42_method_18_code
def yJ17_removeFirst : MethodName := ⟨RJ17, "removeFirst", "()Ljava/lang/Object;"⟩
def dkwJ17_removeFirst_0 : List UInt8 := [42, 182, 0, 93, 76, 43, 199, 0, 11, 187, 0, 97, 89, 183, 0, 99, 191, 43, 176]
abbrev dktJ17_removeFirst_0 : List UInt8 := dkwJ17_removeFirst_0 ++ []
theorem dksJ17_removeFirst_0 : cJ17_removeFirst.data.toList.drop 0 = dktJ17_removeFirst_0 := by decide +kernel
theorem dJ17_removeFirst_0 : decode cJ17_removeFirst 0 = .ok (.aload_n 0, 1) := dk_42 (dk_at dksJ17_removeFirst_0 0 rfl rfl)
theorem dJ17_removeFirst_1 : decode cJ17_removeFirst 1 = .ok (.invokevirtual 93, 3) := dk_182 0 93 (dk_at dksJ17_removeFirst_0 1 rfl rfl)
theorem dJ17_removeFirst_4 : decode cJ17_removeFirst 4 = .ok (.astore_n 1, 1) := dk_76 (dk_at dksJ17_removeFirst_0 4 rfl rfl)
theorem dJ17_removeFirst_5 : decode cJ17_removeFirst 5 = .ok (.aload_n 1, 1) := dk_43 (dk_at dksJ17_removeFirst_0 5 rfl rfl)
theorem dJ17_removeFirst_6 : decode cJ17_removeFirst 6 = .ok (.ifnonnull 11, 3) := dk_199 0 11 (dk_at dksJ17_removeFirst_0 6 rfl rfl)
theorem dJ17_removeFirst_9 : decode cJ17_removeFirst 9 = .ok (.new 97, 3) := dk_187 0 97 (dk_at dksJ17_removeFirst_0 9 rfl rfl)
theorem dJ17_removeFirst_12 : decode cJ17_removeFirst 12 = .ok (.dup, 1) := dk_89 (dk_at dksJ17_removeFirst_0 12 rfl rfl)
theorem dJ17_removeFirst_13 : decode cJ17_removeFirst 13 = .ok (.invokespecial 99, 3) := dk_183 0 99 (dk_at dksJ17_removeFirst_0 13 rfl rfl)
theorem dJ17_removeFirst_16 : decode cJ17_removeFirst 16 = .ok (.athrow, 1) := dk_191 (dk_at dksJ17_removeFirst_0 16 rfl rfl)
theorem dJ17_removeFirst_17 : decode cJ17_removeFirst 17 = .ok (.aload_n 1, 1) := dk_43 (dk_at dksJ17_removeFirst_0 17 rfl rfl)
theorem dJ17_removeFirst_18 : decode cJ17_removeFirst 18 = .ok (.areturn, 1) := dk_176 (dk_at dksJ17_removeFirst_0 18 rfl rfl)
abbrev cJ17_pollFirst : ByteArray := prog_42_method_20_code
def yJ17_pollFirst : MethodName := ⟨RJ17, "pollFirst", "()Ljava/lang/Object;"⟩
def dkwJ17_pollFirst_1 : List UInt8 := [42, 28, 43, 190, 184, 0, 74, 181, 0, 24, 45, 176]
abbrev dktJ17_pollFirst_1 : List UInt8 := dkwJ17_pollFirst_1 ++ []
def dkwJ17_pollFirst_0 : List UInt8 := [42, 180, 0, 3, 89, 76, 42, 180, 0, 24, 89, 61, 184, 0, 103, 78, 45, 198, 0, 17, 43, 28, 1, 83]
abbrev dktJ17_pollFirst_0 : List UInt8 := dkwJ17_pollFirst_0 ++ dktJ17_pollFirst_1
theorem dksJ17_pollFirst_0 : cJ17_pollFirst.data.toList.drop 0 = dktJ17_pollFirst_0 := by decide +kernel
theorem dksJ17_pollFirst_1 : cJ17_pollFirst.data.toList.drop 24 = dktJ17_pollFirst_1 := dk_seg dksJ17_pollFirst_0 24 rfl rfl
theorem dJ17_pollFirst_0 : decode cJ17_pollFirst 0 = .ok (.aload_n 0, 1) := dk_42 (dk_at dksJ17_pollFirst_0 0 rfl rfl)
theorem dJ17_pollFirst_1 : decode cJ17_pollFirst 1 = .ok (.getfield 3, 3) := dk_180 0 3 (dk_at dksJ17_pollFirst_0 1 rfl rfl)
theorem dJ17_pollFirst_4 : decode cJ17_pollFirst 4 = .ok (.dup, 1) := dk_89 (dk_at dksJ17_pollFirst_0 4 rfl rfl)
theorem dJ17_pollFirst_5 : decode cJ17_pollFirst 5 = .ok (.astore_n 1, 1) := dk_76 (dk_at dksJ17_pollFirst_0 5 rfl rfl)
theorem dJ17_pollFirst_6 : decode cJ17_pollFirst 6 = .ok (.aload_n 0, 1) := dk_42 (dk_at dksJ17_pollFirst_0 6 rfl rfl)
theorem dJ17_pollFirst_7 : decode cJ17_pollFirst 7 = .ok (.getfield 24, 3) := dk_180 0 24 (dk_at dksJ17_pollFirst_0 7 rfl rfl)
theorem dJ17_pollFirst_10 : decode cJ17_pollFirst 10 = .ok (.dup, 1) := dk_89 (dk_at dksJ17_pollFirst_0 10 rfl rfl)
theorem dJ17_pollFirst_11 : decode cJ17_pollFirst 11 = .ok (.istore_n 2, 1) := dk_61 (dk_at dksJ17_pollFirst_0 11 rfl rfl)
theorem dJ17_pollFirst_12 : decode cJ17_pollFirst 12 = .ok (.invokestatic 103, 3) := dk_184 0 103 (dk_at dksJ17_pollFirst_0 12 rfl rfl)
theorem dJ17_pollFirst_15 : decode cJ17_pollFirst 15 = .ok (.astore_n 3, 1) := dk_78 (dk_at dksJ17_pollFirst_0 15 rfl rfl)
theorem dJ17_pollFirst_16 : decode cJ17_pollFirst 16 = .ok (.aload_n 3, 1) := dk_45 (dk_at dksJ17_pollFirst_0 16 rfl rfl)
theorem dJ17_pollFirst_17 : decode cJ17_pollFirst 17 = .ok (.ifnull 17, 3) := dk_198 0 17 (dk_at dksJ17_pollFirst_0 17 rfl rfl)
theorem dJ17_pollFirst_20 : decode cJ17_pollFirst 20 = .ok (.aload_n 1, 1) := dk_43 (dk_at dksJ17_pollFirst_0 20 rfl rfl)
theorem dJ17_pollFirst_21 : decode cJ17_pollFirst 21 = .ok (.iload_n 2, 1) := dk_28 (dk_at dksJ17_pollFirst_0 21 rfl rfl)
theorem dJ17_pollFirst_22 : decode cJ17_pollFirst 22 = .ok (.aconst_null, 1) := dk_1 (dk_at dksJ17_pollFirst_0 22 rfl rfl)
theorem dJ17_pollFirst_23 : decode cJ17_pollFirst 23 = .ok (.aastore, 1) := dk_83 (dk_at dksJ17_pollFirst_0 23 rfl rfl)
theorem dJ17_pollFirst_24 : decode cJ17_pollFirst 24 = .ok (.aload_n 0, 1) := dk_42 (dk_at dksJ17_pollFirst_1 0 rfl rfl)
theorem dJ17_pollFirst_25 : decode cJ17_pollFirst 25 = .ok (.iload_n 2, 1) := dk_28 (dk_at dksJ17_pollFirst_1 1 rfl rfl)
theorem dJ17_pollFirst_26 : decode cJ17_pollFirst 26 = .ok (.aload_n 1, 1) := dk_43 (dk_at dksJ17_pollFirst_1 2 rfl rfl)
theorem dJ17_pollFirst_27 : decode cJ17_pollFirst 27 = .ok (.arraylength, 1) := dk_190 (dk_at dksJ17_pollFirst_1 3 rfl rfl)
theorem dJ17_pollFirst_28 : decode cJ17_pollFirst 28 = .ok (.invokestatic 74, 3) := dk_184 0 74 (dk_at dksJ17_pollFirst_1 4 rfl rfl)
theorem dJ17_pollFirst_31 : decode cJ17_pollFirst 31 = .ok (.putfield 24, 3) := dk_181 0 24 (dk_at dksJ17_pollFirst_1 7 rfl rfl)
theorem dJ17_pollFirst_34 : decode cJ17_pollFirst 34 = .ok (.aload_n 3, 1) := dk_45 (dk_at dksJ17_pollFirst_1 10 rfl rfl)
theorem dJ17_pollFirst_35 : decode cJ17_pollFirst 35 = .ok (.areturn, 1) := dk_176 (dk_at dksJ17_pollFirst_1 11 rfl rfl)
abbrev cJ17_elementAt : ByteArray := prog_42_method_10_code
def yJ17_elementAt : MethodName := ⟨RJ17, "elementAt", "([Ljava/lang/Object;I)Ljava/lang/Object;"⟩
def dkwJ17_elementAt_0 : List UInt8 := [42, 27, 50, 176]
abbrev dktJ17_elementAt_0 : List UInt8 := dkwJ17_elementAt_0 ++ []
theorem dksJ17_elementAt_0 : cJ17_elementAt.data.toList.drop 0 = dktJ17_elementAt_0 := by decide +kernel
theorem dJ17_elementAt_0 : decode cJ17_elementAt 0 = .ok (.aload_n 0, 1) := dk_42 (dk_at dksJ17_elementAt_0 0 rfl rfl)
theorem dJ17_elementAt_1 : decode cJ17_elementAt 1 = .ok (.iload_n 1, 1) := dk_27 (dk_at dksJ17_elementAt_0 1 rfl rfl)
theorem dJ17_elementAt_2 : decode cJ17_elementAt 2 = .ok (.aaload, 1) := dk_50 (dk_at dksJ17_elementAt_0 2 rfl rfl)
theorem dJ17_elementAt_3 : decode cJ17_elementAt 3 = .ok (.areturn, 1) := dk_176 (dk_at dksJ17_elementAt_0 3 rfl rfl)
abbrev cJ17_inc : ByteArray := prog_42_method_6_code
def yJ17_inc : MethodName := ⟨RJ17, "inc", "(II)I"⟩
def dkwJ17_inc_0 : List UInt8 := [132, 0, 1, 26, 27, 161, 0, 5, 3, 59, 26, 172]
abbrev dktJ17_inc_0 : List UInt8 := dkwJ17_inc_0 ++ []
theorem dksJ17_inc_0 : cJ17_inc.data.toList.drop 0 = dktJ17_inc_0 := by decide +kernel
theorem dJ17_inc_0 : decode cJ17_inc 0 = .ok (.iinc 0 1, 3) := dk_132 0 1 (dk_at dksJ17_inc_0 0 rfl rfl)
theorem dJ17_inc_3 : decode cJ17_inc 3 = .ok (.iload_n 0, 1) := dk_26 (dk_at dksJ17_inc_0 3 rfl rfl)
theorem dJ17_inc_4 : decode cJ17_inc 4 = .ok (.iload_n 1, 1) := dk_27 (dk_at dksJ17_inc_0 4 rfl rfl)
theorem dJ17_inc_5 : decode cJ17_inc 5 = .ok (.if_icmp .lt 5, 3) := dk_161 0 5 (dk_at dksJ17_inc_0 5 rfl rfl)
theorem dJ17_inc_8 : decode cJ17_inc 8 = .ok (.iconst 0, 1) := dk_3 (dk_at dksJ17_inc_0 8 rfl rfl)
theorem dJ17_inc_9 : decode cJ17_inc 9 = .ok (.istore_n 0, 1) := dk_59 (dk_at dksJ17_inc_0 9 rfl rfl)
theorem dJ17_inc_10 : decode cJ17_inc 10 = .ok (.iload_n 0, 1) := dk_26 (dk_at dksJ17_inc_0 10 rfl rfl)
theorem dJ17_inc_11 : decode cJ17_inc 11 = .ok (.ireturn, 1) := dk_172 (dk_at dksJ17_inc_0 11 rfl rfl)
abbrev cJ17_addLast : ByteArray := prog_42_method_13_code
def yJ17_addLast : MethodName := ⟨RJ17, "addLast", "(Ljava/lang/Object;)V"⟩
def dkwJ17_addLast_2 : List UInt8 := [182, 0, 71, 177]
abbrev dktJ17_addLast_2 : List UInt8 := dkwJ17_addLast_2 ++ []
def dkwJ17_addLast_1 : List UInt8 := [42, 180, 0, 24, 42, 42, 180, 0, 20, 44, 190, 184, 0, 74, 90, 181, 0, 20, 160, 0, 8, 42, 4]
abbrev dktJ17_addLast_1 : List UInt8 := dkwJ17_addLast_1 ++ dktJ17_addLast_2
def dkwJ17_addLast_0 : List UInt8 := [43, 199, 0, 11, 187, 0, 65, 89, 183, 0, 67, 191, 42, 180, 0, 3, 77, 44, 42, 180, 0, 20, 43, 83]
abbrev dktJ17_addLast_0 : List UInt8 := dkwJ17_addLast_0 ++ dktJ17_addLast_1
theorem dksJ17_addLast_0 : cJ17_addLast.data.toList.drop 0 = dktJ17_addLast_0 := by decide +kernel
theorem dksJ17_addLast_1 : cJ17_addLast.data.toList.drop 24 = dktJ17_addLast_1 := dk_seg dksJ17_addLast_0 24 rfl rfl
theorem dksJ17_addLast_2 : cJ17_addLast.data.toList.drop 47 = dktJ17_addLast_2 := dk_seg dksJ17_addLast_1 23 rfl rfl
theorem dJ17_addLast_0 : decode cJ17_addLast 0 = .ok (.aload_n 1, 1) := dk_43 (dk_at dksJ17_addLast_0 0 rfl rfl)
theorem dJ17_addLast_1 : decode cJ17_addLast 1 = .ok (.ifnonnull 11, 3) := dk_199 0 11 (dk_at dksJ17_addLast_0 1 rfl rfl)
theorem dJ17_addLast_4 : decode cJ17_addLast 4 = .ok (.new 65, 3) := dk_187 0 65 (dk_at dksJ17_addLast_0 4 rfl rfl)
theorem dJ17_addLast_7 : decode cJ17_addLast 7 = .ok (.dup, 1) := dk_89 (dk_at dksJ17_addLast_0 7 rfl rfl)
theorem dJ17_addLast_8 : decode cJ17_addLast 8 = .ok (.invokespecial 67, 3) := dk_183 0 67 (dk_at dksJ17_addLast_0 8 rfl rfl)
theorem dJ17_addLast_11 : decode cJ17_addLast 11 = .ok (.athrow, 1) := dk_191 (dk_at dksJ17_addLast_0 11 rfl rfl)
theorem dJ17_addLast_12 : decode cJ17_addLast 12 = .ok (.aload_n 0, 1) := dk_42 (dk_at dksJ17_addLast_0 12 rfl rfl)
theorem dJ17_addLast_13 : decode cJ17_addLast 13 = .ok (.getfield 3, 3) := dk_180 0 3 (dk_at dksJ17_addLast_0 13 rfl rfl)
theorem dJ17_addLast_16 : decode cJ17_addLast 16 = .ok (.astore_n 2, 1) := dk_77 (dk_at dksJ17_addLast_0 16 rfl rfl)
theorem dJ17_addLast_17 : decode cJ17_addLast 17 = .ok (.aload_n 2, 1) := dk_44 (dk_at dksJ17_addLast_0 17 rfl rfl)
theorem dJ17_addLast_18 : decode cJ17_addLast 18 = .ok (.aload_n 0, 1) := dk_42 (dk_at dksJ17_addLast_0 18 rfl rfl)
theorem dJ17_addLast_19 : decode cJ17_addLast 19 = .ok (.getfield 20, 3) := dk_180 0 20 (dk_at dksJ17_addLast_0 19 rfl rfl)
theorem dJ17_addLast_22 : decode cJ17_addLast 22 = .ok (.aload_n 1, 1) := dk_43 (dk_at dksJ17_addLast_0 22 rfl rfl)
theorem dJ17_addLast_23 : decode cJ17_addLast 23 = .ok (.aastore, 1) := dk_83 (dk_at dksJ17_addLast_0 23 rfl rfl)
theorem dJ17_addLast_24 : decode cJ17_addLast 24 = .ok (.aload_n 0, 1) := dk_42 (dk_at dksJ17_addLast_1 0 rfl rfl)
theorem dJ17_addLast_25 : decode cJ17_addLast 25 = .ok (.getfield 24, 3) := dk_180 0 24 (dk_at dksJ17_addLast_1 1 rfl rfl)
theorem dJ17_addLast_28 : decode cJ17_addLast 28 = .ok (.aload_n 0, 1) := dk_42 (dk_at dksJ17_addLast_1 4 rfl rfl)
theorem dJ17_addLast_29 : decode cJ17_addLast 29 = .ok (.aload_n 0, 1) := dk_42 (dk_at dksJ17_addLast_1 5 rfl rfl)
theorem dJ17_addLast_30 : decode cJ17_addLast 30 = .ok (.getfield 20, 3) := dk_180 0 20 (dk_at dksJ17_addLast_1 6 rfl rfl)
theorem dJ17_addLast_33 : decode cJ17_addLast 33 = .ok (.aload_n 2, 1) := dk_44 (dk_at dksJ17_addLast_1 9 rfl rfl)
theorem dJ17_addLast_34 : decode cJ17_addLast 34 = .ok (.arraylength, 1) := dk_190 (dk_at dksJ17_addLast_1 10 rfl rfl)
theorem dJ17_addLast_35 : decode cJ17_addLast 35 = .ok (.invokestatic 74, 3) := dk_184 0 74 (dk_at dksJ17_addLast_1 11 rfl rfl)
theorem dJ17_addLast_38 : decode cJ17_addLast 38 = .ok (.dup_x1, 1) := dk_90 (dk_at dksJ17_addLast_1 14 rfl rfl)
theorem dJ17_addLast_39 : decode cJ17_addLast 39 = .ok (.putfield 20, 3) := dk_181 0 20 (dk_at dksJ17_addLast_1 15 rfl rfl)
theorem dJ17_addLast_42 : decode cJ17_addLast 42 = .ok (.if_icmp .ne 8, 3) := dk_160 0 8 (dk_at dksJ17_addLast_1 18 rfl rfl)
theorem dJ17_addLast_45 : decode cJ17_addLast 45 = .ok (.aload_n 0, 1) := dk_42 (dk_at dksJ17_addLast_1 21 rfl rfl)
theorem dJ17_addLast_46 : decode cJ17_addLast 46 = .ok (.iconst 1, 1) := dk_4 (dk_at dksJ17_addLast_1 22 rfl rfl)
theorem dJ17_addLast_47 : decode cJ17_addLast 47 = .ok (.invokevirtual 71, 3) := dk_182 0 71 (dk_at dksJ17_addLast_2 0 rfl rfl)
theorem dJ17_addLast_50 : decode cJ17_addLast 50 = .ok (.return_, 1) := dk_177 (dk_at dksJ17_addLast_2 3 rfl rfl)
abbrev cJ17_grow : ByteArray := prog_42_method_1_code
def yJ17_grow : MethodName := ⟨RJ17, "grow", "(I)V"⟩
def dkwJ17_grow_7 : List UInt8 := [177]
abbrev dktJ17_grow_7 : List UInt8 := dkwJ17_grow_7 ++ []
def dkwJ17_grow_6 : List UInt8 := [181, 0, 24, 54, 8, 21, 7, 21, 8, 162, 0, 15, 25, 5, 21, 7, 1, 83, 132, 7, 1, 167, 255, 240]
abbrev dktJ17_grow_6 : List UInt8 := dkwJ17_grow_6 ++ dktJ17_grow_7
def dkwJ17_grow_5 : List UInt8 := [42, 180, 0, 24, 100, 184, 0, 27, 42, 180, 0, 24, 54, 7, 42, 89, 180, 0, 24, 21, 6, 96, 90]
abbrev dktJ17_grow_5 : List UInt8 := dkwJ17_grow_5 ++ dktJ17_grow_6
def dkwJ17_grow_4 : List UInt8 := [198, 0, 71, 29, 28, 100, 54, 6, 25, 5, 42, 180, 0, 24, 25, 5, 42, 180, 0, 24, 21, 6, 96, 28]
abbrev dktJ17_grow_4 : List UInt8 := dkwJ17_grow_4 ++ dktJ17_grow_5
def dkwJ17_grow_3 : List UInt8 := [180, 0, 24, 161, 0, 24, 42, 180, 0, 20, 42, 180, 0, 24, 160, 0, 81, 25, 5, 42, 180, 0, 24, 50]
abbrev dktJ17_grow_3 : List UInt8 := dkwJ17_grow_3 ++ dktJ17_grow_4
def dkwJ17_grow_2 : List UInt8 := [182, 0, 10, 62, 42, 42, 180, 0, 3, 29, 184, 0, 14, 90, 181, 0, 3, 58, 5, 42, 180, 0, 20, 42]
abbrev dktJ17_grow_2 : List UInt8 := dkwJ17_grow_2 ++ dktJ17_grow_3
def dkwJ17_grow_1 : List UInt8 := [21, 4, 27, 161, 0, 15, 28, 21, 4, 96, 89, 62, 18, 9, 100, 158, 0, 11, 42, 27, 21, 4]
abbrev dktJ17_grow_1 : List UInt8 := dkwJ17_grow_1 ++ dktJ17_grow_2
def dkwJ17_grow_0 : List UInt8 := [42, 180, 0, 3, 190, 61, 28, 16, 64, 162, 0, 9, 28, 5, 96, 167, 0, 6, 28, 4, 122, 54, 4]
abbrev dktJ17_grow_0 : List UInt8 := dkwJ17_grow_0 ++ dktJ17_grow_1
theorem dksJ17_grow_0 : cJ17_grow.data.toList.drop 0 = dktJ17_grow_0 := by decide +kernel
theorem dksJ17_grow_1 : cJ17_grow.data.toList.drop 23 = dktJ17_grow_1 := dk_seg dksJ17_grow_0 23 rfl rfl
theorem dksJ17_grow_2 : cJ17_grow.data.toList.drop 45 = dktJ17_grow_2 := dk_seg dksJ17_grow_1 22 rfl rfl
theorem dksJ17_grow_3 : cJ17_grow.data.toList.drop 69 = dktJ17_grow_3 := dk_seg dksJ17_grow_2 24 rfl rfl
theorem dksJ17_grow_4 : cJ17_grow.data.toList.drop 93 = dktJ17_grow_4 := dk_seg dksJ17_grow_3 24 rfl rfl
theorem dksJ17_grow_5 : cJ17_grow.data.toList.drop 117 = dktJ17_grow_5 := dk_seg dksJ17_grow_4 24 rfl rfl
theorem dksJ17_grow_6 : cJ17_grow.data.toList.drop 140 = dktJ17_grow_6 := dk_seg dksJ17_grow_5 23 rfl rfl
theorem dksJ17_grow_7 : cJ17_grow.data.toList.drop 164 = dktJ17_grow_7 := dk_seg dksJ17_grow_6 24 rfl rfl
theorem dJ17_grow_0 : decode cJ17_grow 0 = .ok (.aload_n 0, 1) := dk_42 (dk_at dksJ17_grow_0 0 rfl rfl)
theorem dJ17_grow_1 : decode cJ17_grow 1 = .ok (.getfield 3, 3) := dk_180 0 3 (dk_at dksJ17_grow_0 1 rfl rfl)
theorem dJ17_grow_4 : decode cJ17_grow 4 = .ok (.arraylength, 1) := dk_190 (dk_at dksJ17_grow_0 4 rfl rfl)
theorem dJ17_grow_5 : decode cJ17_grow 5 = .ok (.istore_n 2, 1) := dk_61 (dk_at dksJ17_grow_0 5 rfl rfl)
theorem dJ17_grow_6 : decode cJ17_grow 6 = .ok (.iload_n 2, 1) := dk_28 (dk_at dksJ17_grow_0 6 rfl rfl)
theorem dJ17_grow_7 : decode cJ17_grow 7 = .ok (.bipush 64, 2) := dk_16 64 (dk_at dksJ17_grow_0 7 rfl rfl)
theorem dJ17_grow_9 : decode cJ17_grow 9 = .ok (.if_icmp .ge 9, 3) := dk_162 0 9 (dk_at dksJ17_grow_0 9 rfl rfl)
theorem dJ17_grow_12 : decode cJ17_grow 12 = .ok (.iload_n 2, 1) := dk_28 (dk_at dksJ17_grow_0 12 rfl rfl)
theorem dJ17_grow_13 : decode cJ17_grow 13 = .ok (.iconst 2, 1) := dk_5 (dk_at dksJ17_grow_0 13 rfl rfl)
theorem dJ17_grow_14 : decode cJ17_grow 14 = .ok (.iadd, 1) := dk_96 (dk_at dksJ17_grow_0 14 rfl rfl)
theorem dJ17_grow_15 : decode cJ17_grow 15 = .ok (.goto 6, 3) := dk_167 0 6 (dk_at dksJ17_grow_0 15 rfl rfl)
theorem dJ17_grow_18 : decode cJ17_grow 18 = .ok (.iload_n 2, 1) := dk_28 (dk_at dksJ17_grow_0 18 rfl rfl)
theorem dJ17_grow_19 : decode cJ17_grow 19 = .ok (.iconst 1, 1) := dk_4 (dk_at dksJ17_grow_0 19 rfl rfl)
theorem dJ17_grow_20 : decode cJ17_grow 20 = .ok (.ishr, 1) := dk_122 (dk_at dksJ17_grow_0 20 rfl rfl)
theorem dJ17_grow_21 : decode cJ17_grow 21 = .ok (.istore 4, 2) := dk_54 4 (dk_at dksJ17_grow_0 21 rfl rfl)
theorem dJ17_grow_23 : decode cJ17_grow 23 = .ok (.iload 4, 2) := dk_21 4 (dk_at dksJ17_grow_1 0 rfl rfl)
theorem dJ17_grow_25 : decode cJ17_grow 25 = .ok (.iload_n 1, 1) := dk_27 (dk_at dksJ17_grow_1 2 rfl rfl)
theorem dJ17_grow_26 : decode cJ17_grow 26 = .ok (.if_icmp .lt 15, 3) := dk_161 0 15 (dk_at dksJ17_grow_1 3 rfl rfl)
theorem dJ17_grow_29 : decode cJ17_grow 29 = .ok (.iload_n 2, 1) := dk_28 (dk_at dksJ17_grow_1 6 rfl rfl)
theorem dJ17_grow_30 : decode cJ17_grow 30 = .ok (.iload 4, 2) := dk_21 4 (dk_at dksJ17_grow_1 7 rfl rfl)
theorem dJ17_grow_32 : decode cJ17_grow 32 = .ok (.iadd, 1) := dk_96 (dk_at dksJ17_grow_1 9 rfl rfl)
theorem dJ17_grow_33 : decode cJ17_grow 33 = .ok (.dup, 1) := dk_89 (dk_at dksJ17_grow_1 10 rfl rfl)
theorem dJ17_grow_34 : decode cJ17_grow 34 = .ok (.istore_n 3, 1) := dk_62 (dk_at dksJ17_grow_1 11 rfl rfl)
theorem dJ17_grow_35 : decode cJ17_grow 35 = .ok (.ldc 9, 2) := dk_18 9 (dk_at dksJ17_grow_1 12 rfl rfl)
theorem dJ17_grow_37 : decode cJ17_grow 37 = .ok (.isub, 1) := dk_100 (dk_at dksJ17_grow_1 14 rfl rfl)
theorem dJ17_grow_38 : decode cJ17_grow 38 = .ok (.ifCond .le 11, 3) := dk_158 0 11 (dk_at dksJ17_grow_1 15 rfl rfl)
theorem dJ17_grow_41 : decode cJ17_grow 41 = .ok (.aload_n 0, 1) := dk_42 (dk_at dksJ17_grow_1 18 rfl rfl)
theorem dJ17_grow_42 : decode cJ17_grow 42 = .ok (.iload_n 1, 1) := dk_27 (dk_at dksJ17_grow_1 19 rfl rfl)
theorem dJ17_grow_43 : decode cJ17_grow 43 = .ok (.iload 4, 2) := dk_21 4 (dk_at dksJ17_grow_1 20 rfl rfl)
theorem dJ17_grow_45 : decode cJ17_grow 45 = .ok (.invokevirtual 10, 3) := dk_182 0 10 (dk_at dksJ17_grow_2 0 rfl rfl)
theorem dJ17_grow_48 : decode cJ17_grow 48 = .ok (.istore_n 3, 1) := dk_62 (dk_at dksJ17_grow_2 3 rfl rfl)
theorem dJ17_grow_49 : decode cJ17_grow 49 = .ok (.aload_n 0, 1) := dk_42 (dk_at dksJ17_grow_2 4 rfl rfl)
theorem dJ17_grow_50 : decode cJ17_grow 50 = .ok (.aload_n 0, 1) := dk_42 (dk_at dksJ17_grow_2 5 rfl rfl)
theorem dJ17_grow_51 : decode cJ17_grow 51 = .ok (.getfield 3, 3) := dk_180 0 3 (dk_at dksJ17_grow_2 6 rfl rfl)
theorem dJ17_grow_54 : decode cJ17_grow 54 = .ok (.iload_n 3, 1) := dk_29 (dk_at dksJ17_grow_2 9 rfl rfl)
theorem dJ17_grow_55 : decode cJ17_grow 55 = .ok (.invokestatic 14, 3) := dk_184 0 14 (dk_at dksJ17_grow_2 10 rfl rfl)
theorem dJ17_grow_58 : decode cJ17_grow 58 = .ok (.dup_x1, 1) := dk_90 (dk_at dksJ17_grow_2 13 rfl rfl)
theorem dJ17_grow_59 : decode cJ17_grow 59 = .ok (.putfield 3, 3) := dk_181 0 3 (dk_at dksJ17_grow_2 14 rfl rfl)
theorem dJ17_grow_62 : decode cJ17_grow 62 = .ok (.astore 5, 2) := dk_58 5 (dk_at dksJ17_grow_2 17 rfl rfl)
theorem dJ17_grow_64 : decode cJ17_grow 64 = .ok (.aload_n 0, 1) := dk_42 (dk_at dksJ17_grow_2 19 rfl rfl)
theorem dJ17_grow_65 : decode cJ17_grow 65 = .ok (.getfield 20, 3) := dk_180 0 20 (dk_at dksJ17_grow_2 20 rfl rfl)
theorem dJ17_grow_68 : decode cJ17_grow 68 = .ok (.aload_n 0, 1) := dk_42 (dk_at dksJ17_grow_2 23 rfl rfl)
theorem dJ17_grow_69 : decode cJ17_grow 69 = .ok (.getfield 24, 3) := dk_180 0 24 (dk_at dksJ17_grow_3 0 rfl rfl)
theorem dJ17_grow_72 : decode cJ17_grow 72 = .ok (.if_icmp .lt 24, 3) := dk_161 0 24 (dk_at dksJ17_grow_3 3 rfl rfl)
theorem dJ17_grow_75 : decode cJ17_grow 75 = .ok (.aload_n 0, 1) := dk_42 (dk_at dksJ17_grow_3 6 rfl rfl)
theorem dJ17_grow_76 : decode cJ17_grow 76 = .ok (.getfield 20, 3) := dk_180 0 20 (dk_at dksJ17_grow_3 7 rfl rfl)
theorem dJ17_grow_79 : decode cJ17_grow 79 = .ok (.aload_n 0, 1) := dk_42 (dk_at dksJ17_grow_3 10 rfl rfl)
theorem dJ17_grow_80 : decode cJ17_grow 80 = .ok (.getfield 24, 3) := dk_180 0 24 (dk_at dksJ17_grow_3 11 rfl rfl)
theorem dJ17_grow_83 : decode cJ17_grow 83 = .ok (.if_icmp .ne 81, 3) := dk_160 0 81 (dk_at dksJ17_grow_3 14 rfl rfl)
theorem dJ17_grow_86 : decode cJ17_grow 86 = .ok (.aload 5, 2) := dk_25 5 (dk_at dksJ17_grow_3 17 rfl rfl)
theorem dJ17_grow_88 : decode cJ17_grow 88 = .ok (.aload_n 0, 1) := dk_42 (dk_at dksJ17_grow_3 19 rfl rfl)
theorem dJ17_grow_89 : decode cJ17_grow 89 = .ok (.getfield 24, 3) := dk_180 0 24 (dk_at dksJ17_grow_3 20 rfl rfl)
theorem dJ17_grow_92 : decode cJ17_grow 92 = .ok (.aaload, 1) := dk_50 (dk_at dksJ17_grow_3 23 rfl rfl)
theorem dJ17_grow_93 : decode cJ17_grow 93 = .ok (.ifnull 71, 3) := dk_198 0 71 (dk_at dksJ17_grow_4 0 rfl rfl)
theorem dJ17_grow_96 : decode cJ17_grow 96 = .ok (.iload_n 3, 1) := dk_29 (dk_at dksJ17_grow_4 3 rfl rfl)
theorem dJ17_grow_97 : decode cJ17_grow 97 = .ok (.iload_n 2, 1) := dk_28 (dk_at dksJ17_grow_4 4 rfl rfl)
theorem dJ17_grow_98 : decode cJ17_grow 98 = .ok (.isub, 1) := dk_100 (dk_at dksJ17_grow_4 5 rfl rfl)
theorem dJ17_grow_99 : decode cJ17_grow 99 = .ok (.istore 6, 2) := dk_54 6 (dk_at dksJ17_grow_4 6 rfl rfl)
theorem dJ17_grow_101 : decode cJ17_grow 101 = .ok (.aload 5, 2) := dk_25 5 (dk_at dksJ17_grow_4 8 rfl rfl)
theorem dJ17_grow_103 : decode cJ17_grow 103 = .ok (.aload_n 0, 1) := dk_42 (dk_at dksJ17_grow_4 10 rfl rfl)
theorem dJ17_grow_104 : decode cJ17_grow 104 = .ok (.getfield 24, 3) := dk_180 0 24 (dk_at dksJ17_grow_4 11 rfl rfl)
theorem dJ17_grow_107 : decode cJ17_grow 107 = .ok (.aload 5, 2) := dk_25 5 (dk_at dksJ17_grow_4 14 rfl rfl)
theorem dJ17_grow_109 : decode cJ17_grow 109 = .ok (.aload_n 0, 1) := dk_42 (dk_at dksJ17_grow_4 16 rfl rfl)
theorem dJ17_grow_110 : decode cJ17_grow 110 = .ok (.getfield 24, 3) := dk_180 0 24 (dk_at dksJ17_grow_4 17 rfl rfl)
theorem dJ17_grow_113 : decode cJ17_grow 113 = .ok (.iload 6, 2) := dk_21 6 (dk_at dksJ17_grow_4 20 rfl rfl)
theorem dJ17_grow_115 : decode cJ17_grow 115 = .ok (.iadd, 1) := dk_96 (dk_at dksJ17_grow_4 22 rfl rfl)
theorem dJ17_grow_116 : decode cJ17_grow 116 = .ok (.iload_n 2, 1) := dk_28 (dk_at dksJ17_grow_4 23 rfl rfl)
theorem dJ17_grow_117 : decode cJ17_grow 117 = .ok (.aload_n 0, 1) := dk_42 (dk_at dksJ17_grow_5 0 rfl rfl)
theorem dJ17_grow_118 : decode cJ17_grow 118 = .ok (.getfield 24, 3) := dk_180 0 24 (dk_at dksJ17_grow_5 1 rfl rfl)
theorem dJ17_grow_121 : decode cJ17_grow 121 = .ok (.isub, 1) := dk_100 (dk_at dksJ17_grow_5 4 rfl rfl)
theorem dJ17_grow_122 : decode cJ17_grow 122 = .ok (.invokestatic 27, 3) := dk_184 0 27 (dk_at dksJ17_grow_5 5 rfl rfl)
theorem dJ17_grow_125 : decode cJ17_grow 125 = .ok (.aload_n 0, 1) := dk_42 (dk_at dksJ17_grow_5 8 rfl rfl)
theorem dJ17_grow_126 : decode cJ17_grow 126 = .ok (.getfield 24, 3) := dk_180 0 24 (dk_at dksJ17_grow_5 9 rfl rfl)
theorem dJ17_grow_129 : decode cJ17_grow 129 = .ok (.istore 7, 2) := dk_54 7 (dk_at dksJ17_grow_5 12 rfl rfl)
theorem dJ17_grow_131 : decode cJ17_grow 131 = .ok (.aload_n 0, 1) := dk_42 (dk_at dksJ17_grow_5 14 rfl rfl)
theorem dJ17_grow_132 : decode cJ17_grow 132 = .ok (.dup, 1) := dk_89 (dk_at dksJ17_grow_5 15 rfl rfl)
theorem dJ17_grow_133 : decode cJ17_grow 133 = .ok (.getfield 24, 3) := dk_180 0 24 (dk_at dksJ17_grow_5 16 rfl rfl)
theorem dJ17_grow_136 : decode cJ17_grow 136 = .ok (.iload 6, 2) := dk_21 6 (dk_at dksJ17_grow_5 19 rfl rfl)
theorem dJ17_grow_138 : decode cJ17_grow 138 = .ok (.iadd, 1) := dk_96 (dk_at dksJ17_grow_5 21 rfl rfl)
theorem dJ17_grow_139 : decode cJ17_grow 139 = .ok (.dup_x1, 1) := dk_90 (dk_at dksJ17_grow_5 22 rfl rfl)
theorem dJ17_grow_140 : decode cJ17_grow 140 = .ok (.putfield 24, 3) := dk_181 0 24 (dk_at dksJ17_grow_6 0 rfl rfl)
theorem dJ17_grow_143 : decode cJ17_grow 143 = .ok (.istore 8, 2) := dk_54 8 (dk_at dksJ17_grow_6 3 rfl rfl)
theorem dJ17_grow_145 : decode cJ17_grow 145 = .ok (.iload 7, 2) := dk_21 7 (dk_at dksJ17_grow_6 5 rfl rfl)
theorem dJ17_grow_147 : decode cJ17_grow 147 = .ok (.iload 8, 2) := dk_21 8 (dk_at dksJ17_grow_6 7 rfl rfl)
theorem dJ17_grow_149 : decode cJ17_grow 149 = .ok (.if_icmp .ge 15, 3) := dk_162 0 15 (dk_at dksJ17_grow_6 9 rfl rfl)
theorem dJ17_grow_152 : decode cJ17_grow 152 = .ok (.aload 5, 2) := dk_25 5 (dk_at dksJ17_grow_6 12 rfl rfl)
theorem dJ17_grow_154 : decode cJ17_grow 154 = .ok (.iload 7, 2) := dk_21 7 (dk_at dksJ17_grow_6 14 rfl rfl)
theorem dJ17_grow_156 : decode cJ17_grow 156 = .ok (.aconst_null, 1) := dk_1 (dk_at dksJ17_grow_6 16 rfl rfl)
theorem dJ17_grow_157 : decode cJ17_grow 157 = .ok (.aastore, 1) := dk_83 (dk_at dksJ17_grow_6 17 rfl rfl)
theorem dJ17_grow_158 : decode cJ17_grow 158 = .ok (.iinc 7 1, 3) := dk_132 7 1 (dk_at dksJ17_grow_6 18 rfl rfl)
theorem dJ17_grow_161 : decode cJ17_grow 161 = .ok (.goto (-16), 3) := dk_167 255 240 (dk_at dksJ17_grow_6 21 rfl rfl)
theorem dJ17_grow_164 : decode cJ17_grow 164 = .ok (.return_, 1) := dk_177 (dk_at dksJ17_grow_7 0 rfl rfl)
abbrev cJ17_newCapacity : ByteArray := prog_42_method_2_code
def yJ17_newCapacity : MethodName := ⟨RJ17, "newCapacity", "(II)I"⟩
def dkwJ17_newCapacity_2 : List UInt8 := [18, 9, 100, 156, 0, 9, 29, 28, 96, 167, 0, 5, 18, 9, 172]
abbrev dktJ17_newCapacity_2 : List UInt8 := dkwJ17_newCapacity_2 ++ []
def dkwJ17_newCapacity_1 : List UInt8 := [187, 0, 33, 89, 18, 35, 183, 0, 37, 191, 18, 41, 172, 27, 28, 164, 0, 6, 21, 4, 172, 29, 28, 96]
abbrev dktJ17_newCapacity_1 : List UInt8 := dkwJ17_newCapacity_1 ++ dktJ17_newCapacity_2
def dkwJ17_newCapacity_0 : List UInt8 := [42, 180, 0, 3, 190, 62, 29, 27, 96, 89, 54, 4, 18, 9, 100, 158, 0, 21, 21, 4, 156, 0, 13]
abbrev dktJ17_newCapacity_0 : List UInt8 := dkwJ17_newCapacity_0 ++ dktJ17_newCapacity_1
theorem dksJ17_newCapacity_0 : cJ17_newCapacity.data.toList.drop 0 = dktJ17_newCapacity_0 := by decide +kernel
theorem dksJ17_newCapacity_1 : cJ17_newCapacity.data.toList.drop 23 = dktJ17_newCapacity_1 := dk_seg dksJ17_newCapacity_0 23 rfl rfl
theorem dksJ17_newCapacity_2 : cJ17_newCapacity.data.toList.drop 47 = dktJ17_newCapacity_2 := dk_seg dksJ17_newCapacity_1 24 rfl rfl
theorem dJ17_newCapacity_0 : decode cJ17_newCapacity 0 = .ok (.aload_n 0, 1) := dk_42 (dk_at dksJ17_newCapacity_0 0 rfl rfl)
theorem dJ17_newCapacity_1 : decode cJ17_newCapacity 1 = .ok (.getfield 3, 3) := dk_180 0 3 (dk_at dksJ17_newCapacity_0 1 rfl rfl)
theorem dJ17_newCapacity_4 : decode cJ17_newCapacity 4 = .ok (.arraylength, 1) := dk_190 (dk_at dksJ17_newCapacity_0 4 rfl rfl)
theorem dJ17_newCapacity_5 : decode cJ17_newCapacity 5 = .ok (.istore_n 3, 1) := dk_62 (dk_at dksJ17_newCapacity_0 5 rfl rfl)
theorem dJ17_newCapacity_6 : decode cJ17_newCapacity 6 = .ok (.iload_n 3, 1) := dk_29 (dk_at dksJ17_newCapacity_0 6 rfl rfl)
theorem dJ17_newCapacity_7 : decode cJ17_newCapacity 7 = .ok (.iload_n 1, 1) := dk_27 (dk_at dksJ17_newCapacity_0 7 rfl rfl)
theorem dJ17_newCapacity_8 : decode cJ17_newCapacity 8 = .ok (.iadd, 1) := dk_96 (dk_at dksJ17_newCapacity_0 8 rfl rfl)
theorem dJ17_newCapacity_9 : decode cJ17_newCapacity 9 = .ok (.dup, 1) := dk_89 (dk_at dksJ17_newCapacity_0 9 rfl rfl)
theorem dJ17_newCapacity_10 : decode cJ17_newCapacity 10 = .ok (.istore 4, 2) := dk_54 4 (dk_at dksJ17_newCapacity_0 10 rfl rfl)
theorem dJ17_newCapacity_12 : decode cJ17_newCapacity 12 = .ok (.ldc 9, 2) := dk_18 9 (dk_at dksJ17_newCapacity_0 12 rfl rfl)
theorem dJ17_newCapacity_14 : decode cJ17_newCapacity 14 = .ok (.isub, 1) := dk_100 (dk_at dksJ17_newCapacity_0 14 rfl rfl)
theorem dJ17_newCapacity_15 : decode cJ17_newCapacity 15 = .ok (.ifCond .le 21, 3) := dk_158 0 21 (dk_at dksJ17_newCapacity_0 15 rfl rfl)
theorem dJ17_newCapacity_18 : decode cJ17_newCapacity 18 = .ok (.iload 4, 2) := dk_21 4 (dk_at dksJ17_newCapacity_0 18 rfl rfl)
theorem dJ17_newCapacity_20 : decode cJ17_newCapacity 20 = .ok (.ifCond .ge 13, 3) := dk_156 0 13 (dk_at dksJ17_newCapacity_0 20 rfl rfl)
theorem dJ17_newCapacity_23 : decode cJ17_newCapacity 23 = .ok (.new 33, 3) := dk_187 0 33 (dk_at dksJ17_newCapacity_1 0 rfl rfl)
theorem dJ17_newCapacity_26 : decode cJ17_newCapacity 26 = .ok (.dup, 1) := dk_89 (dk_at dksJ17_newCapacity_1 3 rfl rfl)
theorem dJ17_newCapacity_27 : decode cJ17_newCapacity 27 = .ok (.ldc 35, 2) := dk_18 35 (dk_at dksJ17_newCapacity_1 4 rfl rfl)
theorem dJ17_newCapacity_29 : decode cJ17_newCapacity 29 = .ok (.invokespecial 37, 3) := dk_183 0 37 (dk_at dksJ17_newCapacity_1 6 rfl rfl)
theorem dJ17_newCapacity_32 : decode cJ17_newCapacity 32 = .ok (.athrow, 1) := dk_191 (dk_at dksJ17_newCapacity_1 9 rfl rfl)
theorem dJ17_newCapacity_33 : decode cJ17_newCapacity 33 = .ok (.ldc 41, 2) := dk_18 41 (dk_at dksJ17_newCapacity_1 10 rfl rfl)
theorem dJ17_newCapacity_35 : decode cJ17_newCapacity 35 = .ok (.ireturn, 1) := dk_172 (dk_at dksJ17_newCapacity_1 12 rfl rfl)
theorem dJ17_newCapacity_36 : decode cJ17_newCapacity 36 = .ok (.iload_n 1, 1) := dk_27 (dk_at dksJ17_newCapacity_1 13 rfl rfl)
theorem dJ17_newCapacity_37 : decode cJ17_newCapacity 37 = .ok (.iload_n 2, 1) := dk_28 (dk_at dksJ17_newCapacity_1 14 rfl rfl)
theorem dJ17_newCapacity_38 : decode cJ17_newCapacity 38 = .ok (.if_icmp .le 6, 3) := dk_164 0 6 (dk_at dksJ17_newCapacity_1 15 rfl rfl)
theorem dJ17_newCapacity_41 : decode cJ17_newCapacity 41 = .ok (.iload 4, 2) := dk_21 4 (dk_at dksJ17_newCapacity_1 18 rfl rfl)
theorem dJ17_newCapacity_43 : decode cJ17_newCapacity 43 = .ok (.ireturn, 1) := dk_172 (dk_at dksJ17_newCapacity_1 20 rfl rfl)
theorem dJ17_newCapacity_44 : decode cJ17_newCapacity 44 = .ok (.iload_n 3, 1) := dk_29 (dk_at dksJ17_newCapacity_1 21 rfl rfl)
theorem dJ17_newCapacity_45 : decode cJ17_newCapacity 45 = .ok (.iload_n 2, 1) := dk_28 (dk_at dksJ17_newCapacity_1 22 rfl rfl)
theorem dJ17_newCapacity_46 : decode cJ17_newCapacity 46 = .ok (.iadd, 1) := dk_96 (dk_at dksJ17_newCapacity_1 23 rfl rfl)
theorem dJ17_newCapacity_47 : decode cJ17_newCapacity 47 = .ok (.ldc 9, 2) := dk_18 9 (dk_at dksJ17_newCapacity_2 0 rfl rfl)
theorem dJ17_newCapacity_49 : decode cJ17_newCapacity 49 = .ok (.isub, 1) := dk_100 (dk_at dksJ17_newCapacity_2 2 rfl rfl)
theorem dJ17_newCapacity_50 : decode cJ17_newCapacity 50 = .ok (.ifCond .ge 9, 3) := dk_156 0 9 (dk_at dksJ17_newCapacity_2 3 rfl rfl)
theorem dJ17_newCapacity_53 : decode cJ17_newCapacity 53 = .ok (.iload_n 3, 1) := dk_29 (dk_at dksJ17_newCapacity_2 6 rfl rfl)
theorem dJ17_newCapacity_54 : decode cJ17_newCapacity 54 = .ok (.iload_n 2, 1) := dk_28 (dk_at dksJ17_newCapacity_2 7 rfl rfl)
theorem dJ17_newCapacity_55 : decode cJ17_newCapacity 55 = .ok (.iadd, 1) := dk_96 (dk_at dksJ17_newCapacity_2 8 rfl rfl)
theorem dJ17_newCapacity_56 : decode cJ17_newCapacity 56 = .ok (.goto 5, 3) := dk_167 0 5 (dk_at dksJ17_newCapacity_2 9 rfl rfl)
theorem dJ17_newCapacity_59 : decode cJ17_newCapacity 59 = .ok (.ldc 9, 2) := dk_18 9 (dk_at dksJ17_newCapacity_2 12 rfl rfl)
theorem dJ17_newCapacity_61 : decode cJ17_newCapacity 61 = .ok (.ireturn, 1) := dk_172 (dk_at dksJ17_newCapacity_2 14 rfl rfl)
abbrev cJ17_isEmpty : ByteArray := prog_42_method_38_code
def yJ17_isEmpty : MethodName := ⟨RJ17, "isEmpty", "()Z"⟩
def dkwJ17_isEmpty_0 : List UInt8 := [42, 180, 0, 24, 42, 180, 0, 20, 160, 0, 7, 4, 167, 0, 4, 3, 172]
abbrev dktJ17_isEmpty_0 : List UInt8 := dkwJ17_isEmpty_0 ++ []
theorem dksJ17_isEmpty_0 : cJ17_isEmpty.data.toList.drop 0 = dktJ17_isEmpty_0 := by decide +kernel
theorem dJ17_isEmpty_0 : decode cJ17_isEmpty 0 = .ok (.aload_n 0, 1) := dk_42 (dk_at dksJ17_isEmpty_0 0 rfl rfl)
theorem dJ17_isEmpty_1 : decode cJ17_isEmpty 1 = .ok (.getfield 24, 3) := dk_180 0 24 (dk_at dksJ17_isEmpty_0 1 rfl rfl)
theorem dJ17_isEmpty_4 : decode cJ17_isEmpty 4 = .ok (.aload_n 0, 1) := dk_42 (dk_at dksJ17_isEmpty_0 4 rfl rfl)
theorem dJ17_isEmpty_5 : decode cJ17_isEmpty 5 = .ok (.getfield 20, 3) := dk_180 0 20 (dk_at dksJ17_isEmpty_0 5 rfl rfl)
theorem dJ17_isEmpty_8 : decode cJ17_isEmpty 8 = .ok (.if_icmp .ne 7, 3) := dk_160 0 7 (dk_at dksJ17_isEmpty_0 8 rfl rfl)
theorem dJ17_isEmpty_11 : decode cJ17_isEmpty 11 = .ok (.iconst 1, 1) := dk_4 (dk_at dksJ17_isEmpty_0 11 rfl rfl)
theorem dJ17_isEmpty_12 : decode cJ17_isEmpty 12 = .ok (.goto 4, 3) := dk_167 0 4 (dk_at dksJ17_isEmpty_0 12 rfl rfl)
theorem dJ17_isEmpty_15 : decode cJ17_isEmpty 15 = .ok (.iconst 0, 1) := dk_3 (dk_at dksJ17_isEmpty_0 15 rfl rfl)
theorem dJ17_isEmpty_16 : decode cJ17_isEmpty 16 = .ok (.ireturn, 1) := dk_172 (dk_at dksJ17_isEmpty_0 16 rfl rfl)
abbrev cJ17_removeLast : ByteArray := prog_42_method_19_code
def yJ17_removeLast : MethodName := ⟨RJ17, "removeLast", "()Ljava/lang/Object;"⟩
def dkwJ17_removeLast_0 : List UInt8 := [42, 182, 0, 100, 76, 43, 199, 0, 11, 187, 0, 97, 89, 183, 0, 99, 191, 43, 176]
abbrev dktJ17_removeLast_0 : List UInt8 := dkwJ17_removeLast_0 ++ []
theorem dksJ17_removeLast_0 : cJ17_removeLast.data.toList.drop 0 = dktJ17_removeLast_0 := by decide +kernel
theorem dJ17_removeLast_0 : decode cJ17_removeLast 0 = .ok (.aload_n 0, 1) := dk_42 (dk_at dksJ17_removeLast_0 0 rfl rfl)
theorem dJ17_removeLast_1 : decode cJ17_removeLast 1 = .ok (.invokevirtual 100, 3) := dk_182 0 100 (dk_at dksJ17_removeLast_0 1 rfl rfl)
theorem dJ17_removeLast_4 : decode cJ17_removeLast 4 = .ok (.astore_n 1, 1) := dk_76 (dk_at dksJ17_removeLast_0 4 rfl rfl)
theorem dJ17_removeLast_5 : decode cJ17_removeLast 5 = .ok (.aload_n 1, 1) := dk_43 (dk_at dksJ17_removeLast_0 5 rfl rfl)
theorem dJ17_removeLast_6 : decode cJ17_removeLast 6 = .ok (.ifnonnull 11, 3) := dk_199 0 11 (dk_at dksJ17_removeLast_0 6 rfl rfl)
theorem dJ17_removeLast_9 : decode cJ17_removeLast 9 = .ok (.new 97, 3) := dk_187 0 97 (dk_at dksJ17_removeLast_0 9 rfl rfl)
theorem dJ17_removeLast_12 : decode cJ17_removeLast 12 = .ok (.dup, 1) := dk_89 (dk_at dksJ17_removeLast_0 12 rfl rfl)
theorem dJ17_removeLast_13 : decode cJ17_removeLast 13 = .ok (.invokespecial 99, 3) := dk_183 0 99 (dk_at dksJ17_removeLast_0 13 rfl rfl)
theorem dJ17_removeLast_16 : decode cJ17_removeLast 16 = .ok (.athrow, 1) := dk_191 (dk_at dksJ17_removeLast_0 16 rfl rfl)
theorem dJ17_removeLast_17 : decode cJ17_removeLast 17 = .ok (.aload_n 1, 1) := dk_43 (dk_at dksJ17_removeLast_0 17 rfl rfl)
theorem dJ17_removeLast_18 : decode cJ17_removeLast 18 = .ok (.areturn, 1) := dk_176 (dk_at dksJ17_removeLast_0 18 rfl rfl)
abbrev cJ17_pollLast : ByteArray := prog_42_method_21_code
def yJ17_pollLast : MethodName := ⟨RJ17, "pollLast", "()Ljava/lang/Object;"⟩
def dkwJ17_pollLast_1 : List UInt8 := [198, 0, 12, 43, 42, 28, 90, 181, 0, 20, 1, 83, 45, 176]
abbrev dktJ17_pollLast_1 : List UInt8 := dkwJ17_pollLast_1 ++ []
def dkwJ17_pollLast_0 : List UInt8 := [42, 180, 0, 3, 89, 76, 42, 180, 0, 20, 43, 190, 184, 0, 68, 89, 61, 184, 0, 103, 78, 45]
abbrev dktJ17_pollLast_0 : List UInt8 := dkwJ17_pollLast_0 ++ dktJ17_pollLast_1
theorem dksJ17_pollLast_0 : cJ17_pollLast.data.toList.drop 0 = dktJ17_pollLast_0 := by decide +kernel
theorem dksJ17_pollLast_1 : cJ17_pollLast.data.toList.drop 22 = dktJ17_pollLast_1 := dk_seg dksJ17_pollLast_0 22 rfl rfl
theorem dJ17_pollLast_0 : decode cJ17_pollLast 0 = .ok (.aload_n 0, 1) := dk_42 (dk_at dksJ17_pollLast_0 0 rfl rfl)
theorem dJ17_pollLast_1 : decode cJ17_pollLast 1 = .ok (.getfield 3, 3) := dk_180 0 3 (dk_at dksJ17_pollLast_0 1 rfl rfl)
theorem dJ17_pollLast_4 : decode cJ17_pollLast 4 = .ok (.dup, 1) := dk_89 (dk_at dksJ17_pollLast_0 4 rfl rfl)
theorem dJ17_pollLast_5 : decode cJ17_pollLast 5 = .ok (.astore_n 1, 1) := dk_76 (dk_at dksJ17_pollLast_0 5 rfl rfl)
theorem dJ17_pollLast_6 : decode cJ17_pollLast 6 = .ok (.aload_n 0, 1) := dk_42 (dk_at dksJ17_pollLast_0 6 rfl rfl)
theorem dJ17_pollLast_7 : decode cJ17_pollLast 7 = .ok (.getfield 20, 3) := dk_180 0 20 (dk_at dksJ17_pollLast_0 7 rfl rfl)
theorem dJ17_pollLast_10 : decode cJ17_pollLast 10 = .ok (.aload_n 1, 1) := dk_43 (dk_at dksJ17_pollLast_0 10 rfl rfl)
theorem dJ17_pollLast_11 : decode cJ17_pollLast 11 = .ok (.arraylength, 1) := dk_190 (dk_at dksJ17_pollLast_0 11 rfl rfl)
theorem dJ17_pollLast_12 : decode cJ17_pollLast 12 = .ok (.invokestatic 68, 3) := dk_184 0 68 (dk_at dksJ17_pollLast_0 12 rfl rfl)
theorem dJ17_pollLast_15 : decode cJ17_pollLast 15 = .ok (.dup, 1) := dk_89 (dk_at dksJ17_pollLast_0 15 rfl rfl)
theorem dJ17_pollLast_16 : decode cJ17_pollLast 16 = .ok (.istore_n 2, 1) := dk_61 (dk_at dksJ17_pollLast_0 16 rfl rfl)
theorem dJ17_pollLast_17 : decode cJ17_pollLast 17 = .ok (.invokestatic 103, 3) := dk_184 0 103 (dk_at dksJ17_pollLast_0 17 rfl rfl)
theorem dJ17_pollLast_20 : decode cJ17_pollLast 20 = .ok (.astore_n 3, 1) := dk_78 (dk_at dksJ17_pollLast_0 20 rfl rfl)
theorem dJ17_pollLast_21 : decode cJ17_pollLast 21 = .ok (.aload_n 3, 1) := dk_45 (dk_at dksJ17_pollLast_0 21 rfl rfl)
theorem dJ17_pollLast_22 : decode cJ17_pollLast 22 = .ok (.ifnull 12, 3) := dk_198 0 12 (dk_at dksJ17_pollLast_1 0 rfl rfl)
theorem dJ17_pollLast_25 : decode cJ17_pollLast 25 = .ok (.aload_n 1, 1) := dk_43 (dk_at dksJ17_pollLast_1 3 rfl rfl)
theorem dJ17_pollLast_26 : decode cJ17_pollLast 26 = .ok (.aload_n 0, 1) := dk_42 (dk_at dksJ17_pollLast_1 4 rfl rfl)
theorem dJ17_pollLast_27 : decode cJ17_pollLast 27 = .ok (.iload_n 2, 1) := dk_28 (dk_at dksJ17_pollLast_1 5 rfl rfl)
theorem dJ17_pollLast_28 : decode cJ17_pollLast 28 = .ok (.dup_x1, 1) := dk_90 (dk_at dksJ17_pollLast_1 6 rfl rfl)
theorem dJ17_pollLast_29 : decode cJ17_pollLast 29 = .ok (.putfield 20, 3) := dk_181 0 20 (dk_at dksJ17_pollLast_1 7 rfl rfl)
theorem dJ17_pollLast_32 : decode cJ17_pollLast 32 = .ok (.aconst_null, 1) := dk_1 (dk_at dksJ17_pollLast_1 10 rfl rfl)
theorem dJ17_pollLast_33 : decode cJ17_pollLast 33 = .ok (.aastore, 1) := dk_83 (dk_at dksJ17_pollLast_1 11 rfl rfl)
theorem dJ17_pollLast_34 : decode cJ17_pollLast 34 = .ok (.aload_n 3, 1) := dk_45 (dk_at dksJ17_pollLast_1 12 rfl rfl)
theorem dJ17_pollLast_35 : decode cJ17_pollLast 35 = .ok (.areturn, 1) := dk_176 (dk_at dksJ17_pollLast_1 13 rfl rfl)
abbrev cJ17_dec : ByteArray := prog_42_method_7_code
def yJ17_dec : MethodName := ⟨RJ17, "dec", "(II)I"⟩
def dkwJ17_dec_0 : List UInt8 := [132, 0, 255, 26, 156, 0, 7, 27, 4, 100, 59, 26, 172]
abbrev dktJ17_dec_0 : List UInt8 := dkwJ17_dec_0 ++ []
theorem dksJ17_dec_0 : cJ17_dec.data.toList.drop 0 = dktJ17_dec_0 := by decide +kernel
theorem dJ17_dec_0 : decode cJ17_dec 0 = .ok (.iinc 0 (-1), 3) := dk_132 0 255 (dk_at dksJ17_dec_0 0 rfl rfl)
theorem dJ17_dec_3 : decode cJ17_dec 3 = .ok (.iload_n 0, 1) := dk_26 (dk_at dksJ17_dec_0 3 rfl rfl)
theorem dJ17_dec_4 : decode cJ17_dec 4 = .ok (.ifCond .ge 7, 3) := dk_156 0 7 (dk_at dksJ17_dec_0 4 rfl rfl)
theorem dJ17_dec_7 : decode cJ17_dec 7 = .ok (.iload_n 1, 1) := dk_27 (dk_at dksJ17_dec_0 7 rfl rfl)
theorem dJ17_dec_8 : decode cJ17_dec 8 = .ok (.iconst 1, 1) := dk_4 (dk_at dksJ17_dec_0 8 rfl rfl)
theorem dJ17_dec_9 : decode cJ17_dec 9 = .ok (.isub, 1) := dk_100 (dk_at dksJ17_dec_0 9 rfl rfl)
theorem dJ17_dec_10 : decode cJ17_dec 10 = .ok (.istore_n 0, 1) := dk_59 (dk_at dksJ17_dec_0 10 rfl rfl)
theorem dJ17_dec_11 : decode cJ17_dec 11 = .ok (.iload_n 0, 1) := dk_26 (dk_at dksJ17_dec_0 11 rfl rfl)
theorem dJ17_dec_12 : decode cJ17_dec 12 = .ok (.ireturn, 1) := dk_172 (dk_at dksJ17_dec_0 12 rfl rfl)
theorem q160 : (Jvm.Cond.initialized "java/util/ArrayDeque") ∈ lw_all := lw_g (lw_at lw_m1 23 rfl) rfl
theorem q603 : (Jvm.Cond.instantiable "java/util/ArrayDeque" (3 : Nat)) ∈ lw_all := lw_g (lw_at lw_m2 226 rfl) rfl
theorem q605 : (Jvm.Cond.instanceMethod ({ cls := "java/util/ArrayDeque", name := "<init>", desc := "(I)V" } : Jvm.MethodName)) ∈ lw_all := lw_g (lw_at lw_m2 228 rfl) rfl
theorem q606 : (Jvm.Cond.code ({ cls := "java/util/ArrayDeque", name := "<init>", desc := "(I)V" } : Jvm.MethodName) prog_42_method_4_code (2 : Nat) (Option.none : Option Jvm.ClassFile.FieldType)) ∈ lw_all := lw_g (lw_at lw_m2 229 rfl) rfl
theorem q607 : (Jvm.Cond.methodLink "java/util/ArrayDeque" (42 : Nat) ({ cls := "java/util/AbstractCollection", name := "<init>", desc := "()V" } : Jvm.MethodName)) ∈ lw_all := lw_g (lw_at lw_m2 230 rfl) rfl
theorem q611 : (Jvm.Cond.constant "java/util/ArrayDeque" (41 : Nat) (2147483647 : Int32)) ∈ lw_all := lw_g (lw_at lw_m2 234 rfl) rfl
theorem q612 : (Jvm.Cond.classLink "java/util/ArrayDeque" (47 : Nat) "java/lang/Object") ∈ lw_all := lw_g (lw_at lw_m2 235 rfl) rfl
theorem q614 : (Jvm.Cond.fieldLink "java/util/ArrayDeque" (3 : Nat) "java/util/ArrayDeque" "elements" "[Ljava/lang/Object;") ∈ lw_all := lw_g (lw_at lw_m2 237 rfl) rfl
theorem q615 : (Jvm.Cond.fieldLink "java/util/ArrayDeque" (24 : Nat) "java/util/ArrayDeque" "head" "I") ∈ lw_all := lw_g (lw_at lw_m2 238 rfl) rfl
theorem q616 : (Jvm.Cond.fieldLink "java/util/ArrayDeque" (20 : Nat) "java/util/ArrayDeque" "tail" "I") ∈ lw_all := lw_g (lw_at lw_m2 239 rfl) rfl
theorem q617 : (Jvm.Cond.lays "java/util/ArrayDeque" "java/util/ArrayDeque" "elements" "[Ljava/lang/Object;") ∈ lw_all := lw_g (lw_at lw_m3 0 rfl) rfl
theorem q618 : (Jvm.Cond.soleField "java/util/ArrayDeque" "elements") ∈ lw_all := lw_g (lw_at lw_m3 1 rfl) rfl
theorem q619 : (Jvm.Cond.lays "java/util/ArrayDeque" "java/util/ArrayDeque" "head" "I") ∈ lw_all := lw_g (lw_at lw_m3 2 rfl) rfl
theorem q620 : (Jvm.Cond.soleField "java/util/ArrayDeque" "head") ∈ lw_all := lw_g (lw_at lw_m3 3 rfl) rfl
theorem q621 : (Jvm.Cond.lays "java/util/ArrayDeque" "java/util/ArrayDeque" "tail" "I") ∈ lw_all := lw_g (lw_at lw_m3 4 rfl) rfl
theorem q622 : (Jvm.Cond.soleField "java/util/ArrayDeque" "tail") ∈ lw_all := lw_g (lw_at lw_m3 5 rfl) rfl
theorem q623 : (Jvm.Cond.superclass "java/util/ArrayDeque" "java/util/AbstractCollection") ∈ lw_all := lw_g (lw_at lw_m3 6 rfl) rfl
theorem q934 : (Jvm.Cond.instanceMethod ({ cls := "java/util/ArrayDeque", name := "clear", desc := "()V" } : Jvm.MethodName)) ∈ lw_all := lw_g (lw_at lw_m4 77 rfl) rfl
theorem q935 : (Jvm.Cond.selects "java/util/ArrayDeque" ({ cls := "java/util/ArrayDeque", name := "clear", desc := "()V" } : Jvm.MethodName) ({ cls := "java/util/ArrayDeque", name := "clear", desc := "()V" } : Jvm.MethodName)) ∈ lw_all := lw_g (lw_at lw_m4 78 rfl) rfl
theorem q936 : (Jvm.Cond.code ({ cls := "java/util/ArrayDeque", name := "clear", desc := "()V" } : Jvm.MethodName) prog_42_method_53_code (1 : Nat) (Option.none : Option Jvm.ClassFile.FieldType)) ∈ lw_all := lw_g (lw_at lw_m4 79 rfl) rfl
theorem q937 : (Jvm.Cond.methodLink "java/util/ArrayDeque" (181 : Nat) ({ cls := "java/util/ArrayDeque", name := "circularClear", desc := "([Ljava/lang/Object;II)V" } : Jvm.MethodName)) ∈ lw_all := lw_g (lw_at lw_m4 80 rfl) rfl
theorem q938 : (Jvm.Cond.static ({ cls := "java/util/ArrayDeque", name := "circularClear", desc := "([Ljava/lang/Object;II)V" } : Jvm.MethodName)) ∈ lw_all := lw_g (lw_at lw_m4 81 rfl) rfl
theorem q939 : (Jvm.Cond.code ({ cls := "java/util/ArrayDeque", name := "circularClear", desc := "([Ljava/lang/Object;II)V" } : Jvm.MethodName) prog_42_method_54_code (4 : Nat) (Option.none : Option Jvm.ClassFile.FieldType)) ∈ lw_all := lw_g (lw_at lw_m4 82 rfl) rfl
theorem q1443 : (Jvm.Cond.instanceMethod ({ cls := "java/util/ArrayDeque", name := "size", desc := "()I" } : Jvm.MethodName)) ∈ lw_all := lw_g (lw_at lw_m6 106 rfl) rfl
theorem q1444 : (Jvm.Cond.selects "java/util/ArrayDeque" ({ cls := "java/util/ArrayDeque", name := "size", desc := "()I" } : Jvm.MethodName) ({ cls := "java/util/ArrayDeque", name := "size", desc := "()I" } : Jvm.MethodName)) ∈ lw_all := lw_g (lw_at lw_m6 107 rfl) rfl
theorem q1445 : (Jvm.Cond.code ({ cls := "java/util/ArrayDeque", name := "size", desc := "()I" } : Jvm.MethodName) prog_42_method_37_code (1 : Nat) (Option.some Jvm.ClassFile.FieldType.int)) ∈ lw_all := lw_g (lw_at lw_m6 108 rfl) rfl
theorem q1446 : (Jvm.Cond.methodLink "java/util/ArrayDeque" (127 : Nat) ({ cls := "java/util/ArrayDeque", name := "sub", desc := "(III)I" } : Jvm.MethodName)) ∈ lw_all := lw_g (lw_at lw_m6 109 rfl) rfl
theorem q1447 : (Jvm.Cond.static ({ cls := "java/util/ArrayDeque", name := "sub", desc := "(III)I" } : Jvm.MethodName)) ∈ lw_all := lw_g (lw_at lw_m6 110 rfl) rfl
theorem q1448 : (Jvm.Cond.code ({ cls := "java/util/ArrayDeque", name := "sub", desc := "(III)I" } : Jvm.MethodName) prog_42_method_9_code (3 : Nat) (Option.some Jvm.ClassFile.FieldType.int)) ∈ lw_all := lw_g (lw_at lw_m6 111 rfl) rfl
theorem q1706 : (Jvm.Cond.instanceMethod ({ cls := "java/util/ArrayDeque", name := "removeFirst", desc := "()Ljava/lang/Object;" } : Jvm.MethodName)) ∈ lw_all := lw_g (lw_at lw_m7 129 rfl) rfl
theorem q1707 : (Jvm.Cond.selects "java/util/ArrayDeque" ({ cls := "java/util/ArrayDeque", name := "removeFirst", desc := "()Ljava/lang/Object;" } : Jvm.MethodName) ({ cls := "java/util/ArrayDeque", name := "removeFirst", desc := "()Ljava/lang/Object;" } : Jvm.MethodName)) ∈ lw_all := lw_g (lw_at lw_m7 130 rfl) rfl
theorem q1708 : (Jvm.Cond.code ({ cls := "java/util/ArrayDeque", name := "removeFirst", desc := "()Ljava/lang/Object;" } : Jvm.MethodName) prog_42_method_18_code (2 : Nat) (Option.some (Jvm.ClassFile.FieldType.object "java/lang/Object"))) ∈ lw_all := lw_g (lw_at lw_m7 131 rfl) rfl
theorem q1709 : (Jvm.Cond.methodLink "java/util/ArrayDeque" (93 : Nat) ({ cls := "java/util/ArrayDeque", name := "pollFirst", desc := "()Ljava/lang/Object;" } : Jvm.MethodName)) ∈ lw_all := lw_g (lw_at lw_m7 132 rfl) rfl
theorem q1710 : (Jvm.Cond.instanceMethod ({ cls := "java/util/ArrayDeque", name := "pollFirst", desc := "()Ljava/lang/Object;" } : Jvm.MethodName)) ∈ lw_all := lw_g (lw_at lw_m7 133 rfl) rfl
theorem q1711 : (Jvm.Cond.selects "java/util/ArrayDeque" ({ cls := "java/util/ArrayDeque", name := "pollFirst", desc := "()Ljava/lang/Object;" } : Jvm.MethodName) ({ cls := "java/util/ArrayDeque", name := "pollFirst", desc := "()Ljava/lang/Object;" } : Jvm.MethodName)) ∈ lw_all := lw_g (lw_at lw_m7 134 rfl) rfl
theorem q1712 : (Jvm.Cond.code ({ cls := "java/util/ArrayDeque", name := "pollFirst", desc := "()Ljava/lang/Object;" } : Jvm.MethodName) prog_42_method_20_code (4 : Nat) (Option.some (Jvm.ClassFile.FieldType.object "java/lang/Object"))) ∈ lw_all := lw_g (lw_at lw_m7 135 rfl) rfl
theorem q1713 : (Jvm.Cond.methodLink "java/util/ArrayDeque" (103 : Nat) ({ cls := "java/util/ArrayDeque", name := "elementAt", desc := "([Ljava/lang/Object;I)Ljava/lang/Object;" } : Jvm.MethodName)) ∈ lw_all := lw_g (lw_at lw_m7 136 rfl) rfl
theorem q1714 : (Jvm.Cond.static ({ cls := "java/util/ArrayDeque", name := "elementAt", desc := "([Ljava/lang/Object;I)Ljava/lang/Object;" } : Jvm.MethodName)) ∈ lw_all := lw_g (lw_at lw_m7 137 rfl) rfl
theorem q1715 : (Jvm.Cond.code ({ cls := "java/util/ArrayDeque", name := "elementAt", desc := "([Ljava/lang/Object;I)Ljava/lang/Object;" } : Jvm.MethodName) prog_42_method_10_code (2 : Nat) (Option.some (Jvm.ClassFile.FieldType.object "java/lang/Object"))) ∈ lw_all := lw_g (lw_at lw_m7 138 rfl) rfl
theorem q1716 : (Jvm.Cond.methodLink "java/util/ArrayDeque" (74 : Nat) ({ cls := "java/util/ArrayDeque", name := "inc", desc := "(II)I" } : Jvm.MethodName)) ∈ lw_all := lw_g (lw_at lw_m7 139 rfl) rfl
theorem q1717 : (Jvm.Cond.static ({ cls := "java/util/ArrayDeque", name := "inc", desc := "(II)I" } : Jvm.MethodName)) ∈ lw_all := lw_g (lw_at lw_m7 140 rfl) rfl
theorem q1718 : (Jvm.Cond.code ({ cls := "java/util/ArrayDeque", name := "inc", desc := "(II)I" } : Jvm.MethodName) prog_42_method_6_code (2 : Nat) (Option.some Jvm.ClassFile.FieldType.int)) ∈ lw_all := lw_g (lw_at lw_m7 141 rfl) rfl
theorem q1719 : (Jvm.Cond.classLink "java/util/ArrayDeque" (97 : Nat) "java/util/NoSuchElementException") ∈ lw_all := lw_g (lw_at lw_m7 142 rfl) rfl
theorem q1728 : (Jvm.Cond.methodLink "java/util/ArrayDeque" (99 : Nat) ({ cls := "java/util/NoSuchElementException", name := "<init>", desc := "()V" } : Jvm.MethodName)) ∈ lw_all := lw_g (lw_at lw_m7 151 rfl) rfl
theorem q1735 : (Jvm.Cond.instanceMethod ({ cls := "java/util/ArrayDeque", name := "addLast", desc := "(Ljava/lang/Object;)V" } : Jvm.MethodName)) ∈ lw_all := lw_g (lw_at lw_m7 158 rfl) rfl
theorem q1736 : (Jvm.Cond.selects "java/util/ArrayDeque" ({ cls := "java/util/ArrayDeque", name := "addLast", desc := "(Ljava/lang/Object;)V" } : Jvm.MethodName) ({ cls := "java/util/ArrayDeque", name := "addLast", desc := "(Ljava/lang/Object;)V" } : Jvm.MethodName)) ∈ lw_all := lw_g (lw_at lw_m7 159 rfl) rfl
theorem q1737 : (Jvm.Cond.code ({ cls := "java/util/ArrayDeque", name := "addLast", desc := "(Ljava/lang/Object;)V" } : Jvm.MethodName) prog_42_method_13_code (3 : Nat) (Option.none : Option Jvm.ClassFile.FieldType)) ∈ lw_all := lw_g (lw_at lw_m7 160 rfl) rfl
theorem q1738 : (Jvm.Cond.methodLink "java/util/ArrayDeque" (71 : Nat) ({ cls := "java/util/ArrayDeque", name := "grow", desc := "(I)V" } : Jvm.MethodName)) ∈ lw_all := lw_g (lw_at lw_m7 161 rfl) rfl
theorem q1739 : (Jvm.Cond.privateMethod ({ cls := "java/util/ArrayDeque", name := "grow", desc := "(I)V" } : Jvm.MethodName)) ∈ lw_tbl := lw_at lw_m7 162 rfl
theorem q1740 : (Jvm.Cond.instanceMethod ({ cls := "java/util/ArrayDeque", name := "grow", desc := "(I)V" } : Jvm.MethodName)) ∈ lw_all := lw_g (lw_at lw_m7 163 rfl) rfl
theorem q1741 : (Jvm.Cond.code ({ cls := "java/util/ArrayDeque", name := "grow", desc := "(I)V" } : Jvm.MethodName) prog_42_method_1_code (9 : Nat) (Option.none : Option Jvm.ClassFile.FieldType)) ∈ lw_all := lw_g (lw_at lw_m7 164 rfl) rfl
theorem q1742 : (Jvm.Cond.constant "java/util/ArrayDeque" (9 : Nat) (2147483639 : Int32)) ∈ lw_all := lw_g (lw_at lw_m7 165 rfl) rfl
theorem q1743 : (Jvm.Cond.methodLink "java/util/ArrayDeque" (10 : Nat) ({ cls := "java/util/ArrayDeque", name := "newCapacity", desc := "(II)I" } : Jvm.MethodName)) ∈ lw_all := lw_g (lw_at lw_m7 166 rfl) rfl
theorem q1744 : (Jvm.Cond.privateMethod ({ cls := "java/util/ArrayDeque", name := "newCapacity", desc := "(II)I" } : Jvm.MethodName)) ∈ lw_tbl := lw_at lw_m7 167 rfl
theorem q1745 : (Jvm.Cond.instanceMethod ({ cls := "java/util/ArrayDeque", name := "newCapacity", desc := "(II)I" } : Jvm.MethodName)) ∈ lw_all := lw_g (lw_at lw_m7 168 rfl) rfl
theorem q1746 : (Jvm.Cond.code ({ cls := "java/util/ArrayDeque", name := "newCapacity", desc := "(II)I" } : Jvm.MethodName) prog_42_method_2_code (5 : Nat) (Option.some Jvm.ClassFile.FieldType.int)) ∈ lw_all := lw_g (lw_at lw_m7 169 rfl) rfl
theorem q1747 : (Jvm.Cond.classLink "java/util/ArrayDeque" (33 : Nat) "java/lang/IllegalStateException") ∈ lw_all := lw_g (lw_at lw_m7 170 rfl) rfl
theorem q1756 : (Jvm.Cond.stringRef "java/util/ArrayDeque" (35 : Nat) "Sorry, deque too big") ∈ lw_tbl := lw_at lw_m7 179 rfl
theorem q1757 : (Jvm.Cond.methodLink "java/util/ArrayDeque" (37 : Nat) ({ cls := "java/lang/IllegalStateException", name := "<init>", desc := "(Ljava/lang/String;)V" } : Jvm.MethodName)) ∈ lw_all := lw_g (lw_at lw_m7 180 rfl) rfl
theorem q1763 : (Jvm.Cond.methodLink "java/util/ArrayDeque" (14 : Nat) ({ cls := "java/util/Arrays", name := "copyOf", desc := "([Ljava/lang/Object;I)[Ljava/lang/Object;" } : Jvm.MethodName)) ∈ lw_all := lw_g (lw_at lw_m7 186 rfl) rfl
theorem q1785 : (Jvm.Cond.selects "java/util/ArrayDeque" ({ cls := "java/lang/Object", name := "getClass", desc := "()Ljava/lang/Class;" } : Jvm.MethodName) ({ cls := "java/lang/Object", name := "getClass", desc := "()Ljava/lang/Class;" } : Jvm.MethodName)) ∈ lw_all := lw_g (lw_at lw_m7 208 rfl) rfl
theorem q1794 : (Jvm.Cond.methodLink "java/util/ArrayDeque" (27 : Nat) ({ cls := "java/lang/System", name := "arraycopy", desc := "(Ljava/lang/Object;ILjava/lang/Object;II)V" } : Jvm.MethodName)) ∈ lw_all := lw_g (lw_at lw_m7 217 rfl) rfl
theorem q1850 : (Jvm.Cond.instanceMethod ({ cls := "java/util/ArrayDeque", name := "isEmpty", desc := "()Z" } : Jvm.MethodName)) ∈ lw_all := lw_g (lw_at lw_m8 33 rfl) rfl
theorem q1851 : (Jvm.Cond.selects "java/util/ArrayDeque" ({ cls := "java/util/ArrayDeque", name := "isEmpty", desc := "()Z" } : Jvm.MethodName) ({ cls := "java/util/ArrayDeque", name := "isEmpty", desc := "()Z" } : Jvm.MethodName)) ∈ lw_all := lw_g (lw_at lw_m8 34 rfl) rfl
theorem q1852 : (Jvm.Cond.code ({ cls := "java/util/ArrayDeque", name := "isEmpty", desc := "()Z" } : Jvm.MethodName) prog_42_method_38_code (1 : Nat) (Option.some Jvm.ClassFile.FieldType.boolean)) ∈ lw_all := lw_g (lw_at lw_m8 35 rfl) rfl
theorem q1856 : (Jvm.Cond.instanceMethod ({ cls := "java/util/ArrayDeque", name := "removeLast", desc := "()Ljava/lang/Object;" } : Jvm.MethodName)) ∈ lw_all := lw_g (lw_at lw_m8 39 rfl) rfl
theorem q1857 : (Jvm.Cond.selects "java/util/ArrayDeque" ({ cls := "java/util/ArrayDeque", name := "removeLast", desc := "()Ljava/lang/Object;" } : Jvm.MethodName) ({ cls := "java/util/ArrayDeque", name := "removeLast", desc := "()Ljava/lang/Object;" } : Jvm.MethodName)) ∈ lw_all := lw_g (lw_at lw_m8 40 rfl) rfl
theorem q1858 : (Jvm.Cond.code ({ cls := "java/util/ArrayDeque", name := "removeLast", desc := "()Ljava/lang/Object;" } : Jvm.MethodName) prog_42_method_19_code (2 : Nat) (Option.some (Jvm.ClassFile.FieldType.object "java/lang/Object"))) ∈ lw_all := lw_g (lw_at lw_m8 41 rfl) rfl
theorem q1859 : (Jvm.Cond.methodLink "java/util/ArrayDeque" (100 : Nat) ({ cls := "java/util/ArrayDeque", name := "pollLast", desc := "()Ljava/lang/Object;" } : Jvm.MethodName)) ∈ lw_all := lw_g (lw_at lw_m8 42 rfl) rfl
theorem q1860 : (Jvm.Cond.instanceMethod ({ cls := "java/util/ArrayDeque", name := "pollLast", desc := "()Ljava/lang/Object;" } : Jvm.MethodName)) ∈ lw_all := lw_g (lw_at lw_m8 43 rfl) rfl
theorem q1861 : (Jvm.Cond.selects "java/util/ArrayDeque" ({ cls := "java/util/ArrayDeque", name := "pollLast", desc := "()Ljava/lang/Object;" } : Jvm.MethodName) ({ cls := "java/util/ArrayDeque", name := "pollLast", desc := "()Ljava/lang/Object;" } : Jvm.MethodName)) ∈ lw_all := lw_g (lw_at lw_m8 44 rfl) rfl
theorem q1862 : (Jvm.Cond.code ({ cls := "java/util/ArrayDeque", name := "pollLast", desc := "()Ljava/lang/Object;" } : Jvm.MethodName) prog_42_method_21_code (4 : Nat) (Option.some (Jvm.ClassFile.FieldType.object "java/lang/Object"))) ∈ lw_all := lw_g (lw_at lw_m8 45 rfl) rfl
theorem q1863 : (Jvm.Cond.methodLink "java/util/ArrayDeque" (68 : Nat) ({ cls := "java/util/ArrayDeque", name := "dec", desc := "(II)I" } : Jvm.MethodName)) ∈ lw_all := lw_g (lw_at lw_m8 46 rfl) rfl
theorem q1864 : (Jvm.Cond.static ({ cls := "java/util/ArrayDeque", name := "dec", desc := "(II)I" } : Jvm.MethodName)) ∈ lw_all := lw_g (lw_at lw_m8 47 rfl) rfl
theorem q1865 : (Jvm.Cond.code ({ cls := "java/util/ArrayDeque", name := "dec", desc := "(II)I" } : Jvm.MethodName) prog_42_method_7_code (2 : Nat) (Option.some Jvm.ClassFile.FieldType.int)) ∈ lw_all := lw_g (lw_at lw_m8 48 rfl) rfl
theorem q2603 : (Jvm.Cond.castable "java/util/ArrayDeque" "java/lang/Object") ∈ lw_tbl := lw_at lw_m11 66 rfl
theorem in_J17 : ∀ w ∈ wsJ170, w ∈ lw_all := lw_in wsJ170 [617, 619, 621] (by decide +kernel) (by decide +kernel)
/-! java/lang/Long -/
set_option maxRecDepth 100000
def RJ18 : String := "java/lang/Long"
abbrev cJ18_numberOfLeadingZeros : ByteArray := prog_28_method_48_code
def yJ18_numberOfLeadingZeros : MethodName := ⟨RJ18, "numberOfLeadingZeros", "(J)I"⟩
def dkwJ18_numberOfLeadingZeros_1 : List UInt8 := [184, 1, 52, 172]
abbrev dktJ18_numberOfLeadingZeros_1 : List UInt8 := dkwJ18_numberOfLeadingZeros_1 ++ []
def dkwJ18_numberOfLeadingZeros_0 : List UInt8 := [30, 16, 32, 125, 136, 61, 28, 154, 0, 14, 16, 32, 30, 136, 184, 1, 52, 96, 167, 0, 7, 28]
abbrev dktJ18_numberOfLeadingZeros_0 : List UInt8 := dkwJ18_numberOfLeadingZeros_0 ++ dktJ18_numberOfLeadingZeros_1
theorem dksJ18_numberOfLeadingZeros_0 : cJ18_numberOfLeadingZeros.data.toList.drop 0 = dktJ18_numberOfLeadingZeros_0 := by decide +kernel
theorem dksJ18_numberOfLeadingZeros_1 : cJ18_numberOfLeadingZeros.data.toList.drop 22 = dktJ18_numberOfLeadingZeros_1 := dk_seg dksJ18_numberOfLeadingZeros_0 22 rfl rfl
theorem dJ18_numberOfLeadingZeros_0 : decode cJ18_numberOfLeadingZeros 0 = .ok (.lload_n 0, 1) := dk_30 (dk_at dksJ18_numberOfLeadingZeros_0 0 rfl rfl)
theorem dJ18_numberOfLeadingZeros_1 : decode cJ18_numberOfLeadingZeros 1 = .ok (.bipush 32, 2) := dk_16 32 (dk_at dksJ18_numberOfLeadingZeros_0 1 rfl rfl)
theorem dJ18_numberOfLeadingZeros_3 : decode cJ18_numberOfLeadingZeros 3 = .ok (.lushr, 1) := dk_125 (dk_at dksJ18_numberOfLeadingZeros_0 3 rfl rfl)
theorem dJ18_numberOfLeadingZeros_4 : decode cJ18_numberOfLeadingZeros 4 = .ok (.l2i, 1) := dk_136 (dk_at dksJ18_numberOfLeadingZeros_0 4 rfl rfl)
theorem dJ18_numberOfLeadingZeros_5 : decode cJ18_numberOfLeadingZeros 5 = .ok (.istore_n 2, 1) := dk_61 (dk_at dksJ18_numberOfLeadingZeros_0 5 rfl rfl)
theorem dJ18_numberOfLeadingZeros_6 : decode cJ18_numberOfLeadingZeros 6 = .ok (.iload_n 2, 1) := dk_28 (dk_at dksJ18_numberOfLeadingZeros_0 6 rfl rfl)
theorem dJ18_numberOfLeadingZeros_7 : decode cJ18_numberOfLeadingZeros 7 = .ok (.ifCond .ne 14, 3) := dk_154 0 14 (dk_at dksJ18_numberOfLeadingZeros_0 7 rfl rfl)
theorem dJ18_numberOfLeadingZeros_10 : decode cJ18_numberOfLeadingZeros 10 = .ok (.bipush 32, 2) := dk_16 32 (dk_at dksJ18_numberOfLeadingZeros_0 10 rfl rfl)
theorem dJ18_numberOfLeadingZeros_12 : decode cJ18_numberOfLeadingZeros 12 = .ok (.lload_n 0, 1) := dk_30 (dk_at dksJ18_numberOfLeadingZeros_0 12 rfl rfl)
theorem dJ18_numberOfLeadingZeros_13 : decode cJ18_numberOfLeadingZeros 13 = .ok (.l2i, 1) := dk_136 (dk_at dksJ18_numberOfLeadingZeros_0 13 rfl rfl)
theorem dJ18_numberOfLeadingZeros_14 : decode cJ18_numberOfLeadingZeros 14 = .ok (.invokestatic 308, 3) := dk_184 1 52 (dk_at dksJ18_numberOfLeadingZeros_0 14 rfl rfl)
theorem dJ18_numberOfLeadingZeros_17 : decode cJ18_numberOfLeadingZeros 17 = .ok (.iadd, 1) := dk_96 (dk_at dksJ18_numberOfLeadingZeros_0 17 rfl rfl)
theorem dJ18_numberOfLeadingZeros_18 : decode cJ18_numberOfLeadingZeros 18 = .ok (.goto 7, 3) := dk_167 0 7 (dk_at dksJ18_numberOfLeadingZeros_0 18 rfl rfl)
theorem dJ18_numberOfLeadingZeros_21 : decode cJ18_numberOfLeadingZeros 21 = .ok (.iload_n 2, 1) := dk_28 (dk_at dksJ18_numberOfLeadingZeros_0 21 rfl rfl)
theorem dJ18_numberOfLeadingZeros_22 : decode cJ18_numberOfLeadingZeros 22 = .ok (.invokestatic 308, 3) := dk_184 1 52 (dk_at dksJ18_numberOfLeadingZeros_1 0 rfl rfl)
theorem dJ18_numberOfLeadingZeros_25 : decode cJ18_numberOfLeadingZeros 25 = .ok (.ireturn, 1) := dk_172 (dk_at dksJ18_numberOfLeadingZeros_1 3 rfl rfl)
abbrev cJ18_numberOfTrailingZeros : ByteArray := prog_28_method_49_code
def yJ18_numberOfTrailingZeros : MethodName := ⟨RJ18, "numberOfTrailingZeros", "(J)I"⟩
def dkwJ18_numberOfTrailingZeros_1 : List UInt8 := [184, 1, 55, 172]
abbrev dktJ18_numberOfTrailingZeros_1 : List UInt8 := dkwJ18_numberOfTrailingZeros_1 ++ []
def dkwJ18_numberOfTrailingZeros_0 : List UInt8 := [30, 136, 61, 28, 154, 0, 17, 16, 32, 30, 16, 32, 125, 136, 184, 1, 55, 96, 167, 0, 7, 28]
abbrev dktJ18_numberOfTrailingZeros_0 : List UInt8 := dkwJ18_numberOfTrailingZeros_0 ++ dktJ18_numberOfTrailingZeros_1
theorem dksJ18_numberOfTrailingZeros_0 : cJ18_numberOfTrailingZeros.data.toList.drop 0 = dktJ18_numberOfTrailingZeros_0 := by decide +kernel
theorem dksJ18_numberOfTrailingZeros_1 : cJ18_numberOfTrailingZeros.data.toList.drop 22 = dktJ18_numberOfTrailingZeros_1 := dk_seg dksJ18_numberOfTrailingZeros_0 22 rfl rfl
theorem dJ18_numberOfTrailingZeros_0 : decode cJ18_numberOfTrailingZeros 0 = .ok (.lload_n 0, 1) := dk_30 (dk_at dksJ18_numberOfTrailingZeros_0 0 rfl rfl)
theorem dJ18_numberOfTrailingZeros_1 : decode cJ18_numberOfTrailingZeros 1 = .ok (.l2i, 1) := dk_136 (dk_at dksJ18_numberOfTrailingZeros_0 1 rfl rfl)
theorem dJ18_numberOfTrailingZeros_2 : decode cJ18_numberOfTrailingZeros 2 = .ok (.istore_n 2, 1) := dk_61 (dk_at dksJ18_numberOfTrailingZeros_0 2 rfl rfl)
theorem dJ18_numberOfTrailingZeros_3 : decode cJ18_numberOfTrailingZeros 3 = .ok (.iload_n 2, 1) := dk_28 (dk_at dksJ18_numberOfTrailingZeros_0 3 rfl rfl)
theorem dJ18_numberOfTrailingZeros_4 : decode cJ18_numberOfTrailingZeros 4 = .ok (.ifCond .ne 17, 3) := dk_154 0 17 (dk_at dksJ18_numberOfTrailingZeros_0 4 rfl rfl)
theorem dJ18_numberOfTrailingZeros_7 : decode cJ18_numberOfTrailingZeros 7 = .ok (.bipush 32, 2) := dk_16 32 (dk_at dksJ18_numberOfTrailingZeros_0 7 rfl rfl)
theorem dJ18_numberOfTrailingZeros_9 : decode cJ18_numberOfTrailingZeros 9 = .ok (.lload_n 0, 1) := dk_30 (dk_at dksJ18_numberOfTrailingZeros_0 9 rfl rfl)
theorem dJ18_numberOfTrailingZeros_10 : decode cJ18_numberOfTrailingZeros 10 = .ok (.bipush 32, 2) := dk_16 32 (dk_at dksJ18_numberOfTrailingZeros_0 10 rfl rfl)
theorem dJ18_numberOfTrailingZeros_12 : decode cJ18_numberOfTrailingZeros 12 = .ok (.lushr, 1) := dk_125 (dk_at dksJ18_numberOfTrailingZeros_0 12 rfl rfl)
theorem dJ18_numberOfTrailingZeros_13 : decode cJ18_numberOfTrailingZeros 13 = .ok (.l2i, 1) := dk_136 (dk_at dksJ18_numberOfTrailingZeros_0 13 rfl rfl)
theorem dJ18_numberOfTrailingZeros_14 : decode cJ18_numberOfTrailingZeros 14 = .ok (.invokestatic 311, 3) := dk_184 1 55 (dk_at dksJ18_numberOfTrailingZeros_0 14 rfl rfl)
theorem dJ18_numberOfTrailingZeros_17 : decode cJ18_numberOfTrailingZeros 17 = .ok (.iadd, 1) := dk_96 (dk_at dksJ18_numberOfTrailingZeros_0 17 rfl rfl)
theorem dJ18_numberOfTrailingZeros_18 : decode cJ18_numberOfTrailingZeros 18 = .ok (.goto 7, 3) := dk_167 0 7 (dk_at dksJ18_numberOfTrailingZeros_0 18 rfl rfl)
theorem dJ18_numberOfTrailingZeros_21 : decode cJ18_numberOfTrailingZeros 21 = .ok (.iload_n 2, 1) := dk_28 (dk_at dksJ18_numberOfTrailingZeros_0 21 rfl rfl)
theorem dJ18_numberOfTrailingZeros_22 : decode cJ18_numberOfTrailingZeros 22 = .ok (.invokestatic 311, 3) := dk_184 1 55 (dk_at dksJ18_numberOfTrailingZeros_1 0 rfl rfl)
theorem dJ18_numberOfTrailingZeros_25 : decode cJ18_numberOfTrailingZeros 25 = .ok (.ireturn, 1) := dk_172 (dk_at dksJ18_numberOfTrailingZeros_1 3 rfl rfl)
abbrev cJ18_bitCount : ByteArray := prog_28_method_50_code
def yJ18_bitCount : MethodName := ⟨RJ18, "bitCount", "(J)I"⟩
def dkwJ18_bitCount_2 : List UInt8 := [30, 30, 16, 32, 125, 97, 63, 30, 136, 16, 127, 126, 172]
abbrev dktJ18_bitCount_2 : List UInt8 := dkwJ18_bitCount_2 ++ []
def dkwJ18_bitCount_1 : List UInt8 := [30, 30, 7, 125, 97, 20, 1, 62, 127, 63, 30, 30, 16, 8, 125, 97, 63, 30, 30, 16, 16, 125, 97, 63]
abbrev dktJ18_bitCount_1 : List UInt8 := dkwJ18_bitCount_1 ++ dktJ18_bitCount_2
def dkwJ18_bitCount_0 : List UInt8 := [30, 30, 4, 125, 20, 1, 58, 127, 101, 63, 30, 20, 1, 60, 127, 30, 5, 125, 20, 1, 60, 127, 97, 63]
abbrev dktJ18_bitCount_0 : List UInt8 := dkwJ18_bitCount_0 ++ dktJ18_bitCount_1
theorem dksJ18_bitCount_0 : cJ18_bitCount.data.toList.drop 0 = dktJ18_bitCount_0 := by decide +kernel
theorem dksJ18_bitCount_1 : cJ18_bitCount.data.toList.drop 24 = dktJ18_bitCount_1 := dk_seg dksJ18_bitCount_0 24 rfl rfl
theorem dksJ18_bitCount_2 : cJ18_bitCount.data.toList.drop 48 = dktJ18_bitCount_2 := dk_seg dksJ18_bitCount_1 24 rfl rfl
theorem dJ18_bitCount_0 : decode cJ18_bitCount 0 = .ok (.lload_n 0, 1) := dk_30 (dk_at dksJ18_bitCount_0 0 rfl rfl)
theorem dJ18_bitCount_1 : decode cJ18_bitCount 1 = .ok (.lload_n 0, 1) := dk_30 (dk_at dksJ18_bitCount_0 1 rfl rfl)
theorem dJ18_bitCount_2 : decode cJ18_bitCount 2 = .ok (.iconst 1, 1) := dk_4 (dk_at dksJ18_bitCount_0 2 rfl rfl)
theorem dJ18_bitCount_3 : decode cJ18_bitCount 3 = .ok (.lushr, 1) := dk_125 (dk_at dksJ18_bitCount_0 3 rfl rfl)
theorem dJ18_bitCount_4 : decode cJ18_bitCount 4 = .ok (.ldc2_w 314, 3) := dk_20 1 58 (dk_at dksJ18_bitCount_0 4 rfl rfl)
theorem dJ18_bitCount_7 : decode cJ18_bitCount 7 = .ok (.land, 1) := dk_127 (dk_at dksJ18_bitCount_0 7 rfl rfl)
theorem dJ18_bitCount_8 : decode cJ18_bitCount 8 = .ok (.lsub, 1) := dk_101 (dk_at dksJ18_bitCount_0 8 rfl rfl)
theorem dJ18_bitCount_9 : decode cJ18_bitCount 9 = .ok (.lstore_n 0, 1) := dk_63 (dk_at dksJ18_bitCount_0 9 rfl rfl)
theorem dJ18_bitCount_10 : decode cJ18_bitCount 10 = .ok (.lload_n 0, 1) := dk_30 (dk_at dksJ18_bitCount_0 10 rfl rfl)
theorem dJ18_bitCount_11 : decode cJ18_bitCount 11 = .ok (.ldc2_w 316, 3) := dk_20 1 60 (dk_at dksJ18_bitCount_0 11 rfl rfl)
theorem dJ18_bitCount_14 : decode cJ18_bitCount 14 = .ok (.land, 1) := dk_127 (dk_at dksJ18_bitCount_0 14 rfl rfl)
theorem dJ18_bitCount_15 : decode cJ18_bitCount 15 = .ok (.lload_n 0, 1) := dk_30 (dk_at dksJ18_bitCount_0 15 rfl rfl)
theorem dJ18_bitCount_16 : decode cJ18_bitCount 16 = .ok (.iconst 2, 1) := dk_5 (dk_at dksJ18_bitCount_0 16 rfl rfl)
theorem dJ18_bitCount_17 : decode cJ18_bitCount 17 = .ok (.lushr, 1) := dk_125 (dk_at dksJ18_bitCount_0 17 rfl rfl)
theorem dJ18_bitCount_18 : decode cJ18_bitCount 18 = .ok (.ldc2_w 316, 3) := dk_20 1 60 (dk_at dksJ18_bitCount_0 18 rfl rfl)
theorem dJ18_bitCount_21 : decode cJ18_bitCount 21 = .ok (.land, 1) := dk_127 (dk_at dksJ18_bitCount_0 21 rfl rfl)
theorem dJ18_bitCount_22 : decode cJ18_bitCount 22 = .ok (.ladd, 1) := dk_97 (dk_at dksJ18_bitCount_0 22 rfl rfl)
theorem dJ18_bitCount_23 : decode cJ18_bitCount 23 = .ok (.lstore_n 0, 1) := dk_63 (dk_at dksJ18_bitCount_0 23 rfl rfl)
theorem dJ18_bitCount_24 : decode cJ18_bitCount 24 = .ok (.lload_n 0, 1) := dk_30 (dk_at dksJ18_bitCount_1 0 rfl rfl)
theorem dJ18_bitCount_25 : decode cJ18_bitCount 25 = .ok (.lload_n 0, 1) := dk_30 (dk_at dksJ18_bitCount_1 1 rfl rfl)
theorem dJ18_bitCount_26 : decode cJ18_bitCount 26 = .ok (.iconst 4, 1) := dk_7 (dk_at dksJ18_bitCount_1 2 rfl rfl)
theorem dJ18_bitCount_27 : decode cJ18_bitCount 27 = .ok (.lushr, 1) := dk_125 (dk_at dksJ18_bitCount_1 3 rfl rfl)
theorem dJ18_bitCount_28 : decode cJ18_bitCount 28 = .ok (.ladd, 1) := dk_97 (dk_at dksJ18_bitCount_1 4 rfl rfl)
theorem dJ18_bitCount_29 : decode cJ18_bitCount 29 = .ok (.ldc2_w 318, 3) := dk_20 1 62 (dk_at dksJ18_bitCount_1 5 rfl rfl)
theorem dJ18_bitCount_32 : decode cJ18_bitCount 32 = .ok (.land, 1) := dk_127 (dk_at dksJ18_bitCount_1 8 rfl rfl)
theorem dJ18_bitCount_33 : decode cJ18_bitCount 33 = .ok (.lstore_n 0, 1) := dk_63 (dk_at dksJ18_bitCount_1 9 rfl rfl)
theorem dJ18_bitCount_34 : decode cJ18_bitCount 34 = .ok (.lload_n 0, 1) := dk_30 (dk_at dksJ18_bitCount_1 10 rfl rfl)
theorem dJ18_bitCount_35 : decode cJ18_bitCount 35 = .ok (.lload_n 0, 1) := dk_30 (dk_at dksJ18_bitCount_1 11 rfl rfl)
theorem dJ18_bitCount_36 : decode cJ18_bitCount 36 = .ok (.bipush 8, 2) := dk_16 8 (dk_at dksJ18_bitCount_1 12 rfl rfl)
theorem dJ18_bitCount_38 : decode cJ18_bitCount 38 = .ok (.lushr, 1) := dk_125 (dk_at dksJ18_bitCount_1 14 rfl rfl)
theorem dJ18_bitCount_39 : decode cJ18_bitCount 39 = .ok (.ladd, 1) := dk_97 (dk_at dksJ18_bitCount_1 15 rfl rfl)
theorem dJ18_bitCount_40 : decode cJ18_bitCount 40 = .ok (.lstore_n 0, 1) := dk_63 (dk_at dksJ18_bitCount_1 16 rfl rfl)
theorem dJ18_bitCount_41 : decode cJ18_bitCount 41 = .ok (.lload_n 0, 1) := dk_30 (dk_at dksJ18_bitCount_1 17 rfl rfl)
theorem dJ18_bitCount_42 : decode cJ18_bitCount 42 = .ok (.lload_n 0, 1) := dk_30 (dk_at dksJ18_bitCount_1 18 rfl rfl)
theorem dJ18_bitCount_43 : decode cJ18_bitCount 43 = .ok (.bipush 16, 2) := dk_16 16 (dk_at dksJ18_bitCount_1 19 rfl rfl)
theorem dJ18_bitCount_45 : decode cJ18_bitCount 45 = .ok (.lushr, 1) := dk_125 (dk_at dksJ18_bitCount_1 21 rfl rfl)
theorem dJ18_bitCount_46 : decode cJ18_bitCount 46 = .ok (.ladd, 1) := dk_97 (dk_at dksJ18_bitCount_1 22 rfl rfl)
theorem dJ18_bitCount_47 : decode cJ18_bitCount 47 = .ok (.lstore_n 0, 1) := dk_63 (dk_at dksJ18_bitCount_1 23 rfl rfl)
theorem dJ18_bitCount_48 : decode cJ18_bitCount 48 = .ok (.lload_n 0, 1) := dk_30 (dk_at dksJ18_bitCount_2 0 rfl rfl)
theorem dJ18_bitCount_49 : decode cJ18_bitCount 49 = .ok (.lload_n 0, 1) := dk_30 (dk_at dksJ18_bitCount_2 1 rfl rfl)
theorem dJ18_bitCount_50 : decode cJ18_bitCount 50 = .ok (.bipush 32, 2) := dk_16 32 (dk_at dksJ18_bitCount_2 2 rfl rfl)
theorem dJ18_bitCount_52 : decode cJ18_bitCount 52 = .ok (.lushr, 1) := dk_125 (dk_at dksJ18_bitCount_2 4 rfl rfl)
theorem dJ18_bitCount_53 : decode cJ18_bitCount 53 = .ok (.ladd, 1) := dk_97 (dk_at dksJ18_bitCount_2 5 rfl rfl)
theorem dJ18_bitCount_54 : decode cJ18_bitCount 54 = .ok (.lstore_n 0, 1) := dk_63 (dk_at dksJ18_bitCount_2 6 rfl rfl)
theorem dJ18_bitCount_55 : decode cJ18_bitCount 55 = .ok (.lload_n 0, 1) := dk_30 (dk_at dksJ18_bitCount_2 7 rfl rfl)
theorem dJ18_bitCount_56 : decode cJ18_bitCount 56 = .ok (.l2i, 1) := dk_136 (dk_at dksJ18_bitCount_2 8 rfl rfl)
theorem dJ18_bitCount_57 : decode cJ18_bitCount 57 = .ok (.bipush 127, 2) := dk_16 127 (dk_at dksJ18_bitCount_2 9 rfl rfl)
theorem dJ18_bitCount_59 : decode cJ18_bitCount 59 = .ok (.iand, 1) := dk_126 (dk_at dksJ18_bitCount_2 11 rfl rfl)
theorem dJ18_bitCount_60 : decode cJ18_bitCount 60 = .ok (.ireturn, 1) := dk_172 (dk_at dksJ18_bitCount_2 12 rfl rfl)
theorem q164 : (Jvm.Cond.initialized "java/lang/Long") ∈ lw_all := lw_g (lw_at lw_m1 27 rfl) rfl
theorem q1307 : (Jvm.Cond.static ({ cls := "java/lang/Long", name := "numberOfLeadingZeros", desc := "(J)I" } : Jvm.MethodName)) ∈ lw_all := lw_g (lw_at lw_m5 210 rfl) rfl
theorem q1308 : (Jvm.Cond.code ({ cls := "java/lang/Long", name := "numberOfLeadingZeros", desc := "(J)I" } : Jvm.MethodName) prog_28_method_48_code (3 : Nat) (Option.some Jvm.ClassFile.FieldType.int)) ∈ lw_all := lw_g (lw_at lw_m5 211 rfl) rfl
theorem q1309 : (Jvm.Cond.methodLink "java/lang/Long" (308 : Nat) ({ cls := "java/lang/Integer", name := "numberOfLeadingZeros", desc := "(I)I" } : Jvm.MethodName)) ∈ lw_all := lw_g (lw_at lw_m5 212 rfl) rfl
theorem q1313 : (Jvm.Cond.static ({ cls := "java/lang/Long", name := "numberOfTrailingZeros", desc := "(J)I" } : Jvm.MethodName)) ∈ lw_all := lw_g (lw_at lw_m5 216 rfl) rfl
theorem q1314 : (Jvm.Cond.code ({ cls := "java/lang/Long", name := "numberOfTrailingZeros", desc := "(J)I" } : Jvm.MethodName) prog_28_method_49_code (3 : Nat) (Option.some Jvm.ClassFile.FieldType.int)) ∈ lw_all := lw_g (lw_at lw_m5 217 rfl) rfl
theorem q1315 : (Jvm.Cond.methodLink "java/lang/Long" (311 : Nat) ({ cls := "java/lang/Integer", name := "numberOfTrailingZeros", desc := "(I)I" } : Jvm.MethodName)) ∈ lw_all := lw_g (lw_at lw_m5 218 rfl) rfl
theorem q1398 : (Jvm.Cond.static ({ cls := "java/lang/Long", name := "bitCount", desc := "(J)I" } : Jvm.MethodName)) ∈ lw_all := lw_g (lw_at lw_m6 61 rfl) rfl
theorem q1399 : (Jvm.Cond.code ({ cls := "java/lang/Long", name := "bitCount", desc := "(J)I" } : Jvm.MethodName) prog_28_method_50_code (2 : Nat) (Option.some Jvm.ClassFile.FieldType.int)) ∈ lw_all := lw_g (lw_at lw_m6 62 rfl) rfl
theorem q1400 : (Jvm.Cond.constantLong "java/lang/Long" (314 : Nat) (6148914691236517205 : Int64)) ∈ lw_all := lw_g (lw_at lw_m6 63 rfl) rfl
theorem q1401 : (Jvm.Cond.constantLong "java/lang/Long" (316 : Nat) (3689348814741910323 : Int64)) ∈ lw_all := lw_g (lw_at lw_m6 64 rfl) rfl
theorem q1402 : (Jvm.Cond.constantLong "java/lang/Long" (318 : Nat) (1085102592571150095 : Int64)) ∈ lw_all := lw_g (lw_at lw_m6 65 rfl) rfl
/-! jdk/internal/misc/Unsafe -/
set_option maxRecDepth 100000
def RJ19 : String := "jdk/internal/misc/Unsafe"
abbrev cJ19_getLongUnaligned : ByteArray := prog_50_method_334_code
def yJ19_getLongUnaligned : MethodName := ⟨RJ19, "getLongUnaligned", "(Ljava/lang/Object;J)J"⟩
def dkwJ19_getLongUnaligned_7 : List UInt8 := [182, 0, 39, 184, 2, 197, 173]
abbrev dktJ19_getLongUnaligned_7 : List UInt8 := dkwJ19_getLongUnaligned_7 ++ []
def dkwJ19_getLongUnaligned_6 : List UInt8 := [20, 2, 195, 97, 182, 0, 39, 42, 43, 32, 20, 2, 190, 97, 182, 0, 39, 42, 43, 32, 20, 2, 184, 97]
abbrev dktJ19_getLongUnaligned_6 : List UInt8 := dkwJ19_getLongUnaligned_6 ++ dktJ19_getLongUnaligned_7
def dkwJ19_getLongUnaligned_5 : List UInt8 := [43, 32, 20, 1, 93, 97, 182, 0, 39, 42, 43, 32, 20, 0, 205, 97, 182, 0, 39, 42, 43, 32]
abbrev dktJ19_getLongUnaligned_5 : List UInt8 := dkwJ19_getLongUnaligned_5 ++ dktJ19_getLongUnaligned_6
def dkwJ19_getLongUnaligned_4 : List UInt8 := [43, 32, 182, 0, 39, 42, 43, 32, 10, 97, 182, 0, 39, 42, 43, 32, 20, 0, 203, 97, 182, 0, 39, 42]
abbrev dktJ19_getLongUnaligned_4 : List UInt8 := dkwJ19_getLongUnaligned_4 ++ dktJ19_getLongUnaligned_5
def dkwJ19_getLongUnaligned_3 : List UInt8 := [43, 32, 20, 0, 205, 97, 182, 0, 47, 42, 43, 32, 20, 2, 190, 97, 182, 0, 47, 184, 2, 192, 173, 42]
abbrev dktJ19_getLongUnaligned_3 : List UInt8 := dkwJ19_getLongUnaligned_3 ++ dktJ19_getLongUnaligned_4
def dkwJ19_getLongUnaligned_2 : List UInt8 := [10, 127, 9, 148, 154, 0, 43, 42, 43, 32, 182, 0, 47, 42, 43, 32, 20, 0, 203, 97, 182, 0, 47, 42]
abbrev dktJ19_getLongUnaligned_2 : List UInt8 := dkwJ19_getLongUnaligned_2 ++ dktJ19_getLongUnaligned_3
def dkwJ19_getLongUnaligned_1 : List UInt8 := [154, 0, 23, 42, 43, 32, 182, 0, 17, 42, 43, 32, 20, 0, 205, 97, 182, 0, 17, 184, 2, 186, 173, 32]
abbrev dktJ19_getLongUnaligned_1 : List UInt8 := dkwJ19_getLongUnaligned_1 ++ dktJ19_getLongUnaligned_2
def dkwJ19_getLongUnaligned_0 : List UInt8 := [32, 20, 2, 184, 127, 9, 148, 154, 0, 10, 42, 43, 32, 182, 0, 27, 173, 32, 20, 1, 93, 127, 9, 148]
abbrev dktJ19_getLongUnaligned_0 : List UInt8 := dkwJ19_getLongUnaligned_0 ++ dktJ19_getLongUnaligned_1
theorem dksJ19_getLongUnaligned_0 : cJ19_getLongUnaligned.data.toList.drop 0 = dktJ19_getLongUnaligned_0 := by decide +kernel
theorem dksJ19_getLongUnaligned_1 : cJ19_getLongUnaligned.data.toList.drop 24 = dktJ19_getLongUnaligned_1 := dk_seg dksJ19_getLongUnaligned_0 24 rfl rfl
theorem dksJ19_getLongUnaligned_2 : cJ19_getLongUnaligned.data.toList.drop 48 = dktJ19_getLongUnaligned_2 := dk_seg dksJ19_getLongUnaligned_1 24 rfl rfl
theorem dksJ19_getLongUnaligned_3 : cJ19_getLongUnaligned.data.toList.drop 72 = dktJ19_getLongUnaligned_3 := dk_seg dksJ19_getLongUnaligned_2 24 rfl rfl
theorem dksJ19_getLongUnaligned_4 : cJ19_getLongUnaligned.data.toList.drop 96 = dktJ19_getLongUnaligned_4 := dk_seg dksJ19_getLongUnaligned_3 24 rfl rfl
theorem dksJ19_getLongUnaligned_5 : cJ19_getLongUnaligned.data.toList.drop 120 = dktJ19_getLongUnaligned_5 := dk_seg dksJ19_getLongUnaligned_4 24 rfl rfl
theorem dksJ19_getLongUnaligned_6 : cJ19_getLongUnaligned.data.toList.drop 142 = dktJ19_getLongUnaligned_6 := dk_seg dksJ19_getLongUnaligned_5 22 rfl rfl
theorem dksJ19_getLongUnaligned_7 : cJ19_getLongUnaligned.data.toList.drop 166 = dktJ19_getLongUnaligned_7 := dk_seg dksJ19_getLongUnaligned_6 24 rfl rfl
theorem dJ19_getLongUnaligned_0 : decode cJ19_getLongUnaligned 0 = .ok (.lload_n 2, 1) := dk_32 (dk_at dksJ19_getLongUnaligned_0 0 rfl rfl)
theorem dJ19_getLongUnaligned_1 : decode cJ19_getLongUnaligned 1 = .ok (.ldc2_w 696, 3) := dk_20 2 184 (dk_at dksJ19_getLongUnaligned_0 1 rfl rfl)
theorem dJ19_getLongUnaligned_4 : decode cJ19_getLongUnaligned 4 = .ok (.land, 1) := dk_127 (dk_at dksJ19_getLongUnaligned_0 4 rfl rfl)
theorem dJ19_getLongUnaligned_5 : decode cJ19_getLongUnaligned 5 = .ok (.lconst 0, 1) := dk_9 (dk_at dksJ19_getLongUnaligned_0 5 rfl rfl)
theorem dJ19_getLongUnaligned_6 : decode cJ19_getLongUnaligned 6 = .ok (.lcmp, 1) := dk_148 (dk_at dksJ19_getLongUnaligned_0 6 rfl rfl)
theorem dJ19_getLongUnaligned_7 : decode cJ19_getLongUnaligned 7 = .ok (.ifCond .ne 10, 3) := dk_154 0 10 (dk_at dksJ19_getLongUnaligned_0 7 rfl rfl)
theorem dJ19_getLongUnaligned_10 : decode cJ19_getLongUnaligned 10 = .ok (.aload_n 0, 1) := dk_42 (dk_at dksJ19_getLongUnaligned_0 10 rfl rfl)
theorem dJ19_getLongUnaligned_11 : decode cJ19_getLongUnaligned 11 = .ok (.aload_n 1, 1) := dk_43 (dk_at dksJ19_getLongUnaligned_0 11 rfl rfl)
theorem dJ19_getLongUnaligned_12 : decode cJ19_getLongUnaligned 12 = .ok (.lload_n 2, 1) := dk_32 (dk_at dksJ19_getLongUnaligned_0 12 rfl rfl)
theorem dJ19_getLongUnaligned_13 : decode cJ19_getLongUnaligned 13 = .ok (.invokevirtual 27, 3) := dk_182 0 27 (dk_at dksJ19_getLongUnaligned_0 13 rfl rfl)
theorem dJ19_getLongUnaligned_16 : decode cJ19_getLongUnaligned 16 = .ok (.lreturn, 1) := dk_173 (dk_at dksJ19_getLongUnaligned_0 16 rfl rfl)
theorem dJ19_getLongUnaligned_17 : decode cJ19_getLongUnaligned 17 = .ok (.lload_n 2, 1) := dk_32 (dk_at dksJ19_getLongUnaligned_0 17 rfl rfl)
theorem dJ19_getLongUnaligned_18 : decode cJ19_getLongUnaligned 18 = .ok (.ldc2_w 349, 3) := dk_20 1 93 (dk_at dksJ19_getLongUnaligned_0 18 rfl rfl)
theorem dJ19_getLongUnaligned_21 : decode cJ19_getLongUnaligned 21 = .ok (.land, 1) := dk_127 (dk_at dksJ19_getLongUnaligned_0 21 rfl rfl)
theorem dJ19_getLongUnaligned_22 : decode cJ19_getLongUnaligned 22 = .ok (.lconst 0, 1) := dk_9 (dk_at dksJ19_getLongUnaligned_0 22 rfl rfl)
theorem dJ19_getLongUnaligned_23 : decode cJ19_getLongUnaligned 23 = .ok (.lcmp, 1) := dk_148 (dk_at dksJ19_getLongUnaligned_0 23 rfl rfl)
theorem dJ19_getLongUnaligned_24 : decode cJ19_getLongUnaligned 24 = .ok (.ifCond .ne 23, 3) := dk_154 0 23 (dk_at dksJ19_getLongUnaligned_1 0 rfl rfl)
theorem dJ19_getLongUnaligned_27 : decode cJ19_getLongUnaligned 27 = .ok (.aload_n 0, 1) := dk_42 (dk_at dksJ19_getLongUnaligned_1 3 rfl rfl)
theorem dJ19_getLongUnaligned_28 : decode cJ19_getLongUnaligned 28 = .ok (.aload_n 1, 1) := dk_43 (dk_at dksJ19_getLongUnaligned_1 4 rfl rfl)
theorem dJ19_getLongUnaligned_29 : decode cJ19_getLongUnaligned 29 = .ok (.lload_n 2, 1) := dk_32 (dk_at dksJ19_getLongUnaligned_1 5 rfl rfl)
theorem dJ19_getLongUnaligned_30 : decode cJ19_getLongUnaligned 30 = .ok (.invokevirtual 17, 3) := dk_182 0 17 (dk_at dksJ19_getLongUnaligned_1 6 rfl rfl)
theorem dJ19_getLongUnaligned_33 : decode cJ19_getLongUnaligned 33 = .ok (.aload_n 0, 1) := dk_42 (dk_at dksJ19_getLongUnaligned_1 9 rfl rfl)
theorem dJ19_getLongUnaligned_34 : decode cJ19_getLongUnaligned 34 = .ok (.aload_n 1, 1) := dk_43 (dk_at dksJ19_getLongUnaligned_1 10 rfl rfl)
theorem dJ19_getLongUnaligned_35 : decode cJ19_getLongUnaligned 35 = .ok (.lload_n 2, 1) := dk_32 (dk_at dksJ19_getLongUnaligned_1 11 rfl rfl)
theorem dJ19_getLongUnaligned_36 : decode cJ19_getLongUnaligned 36 = .ok (.ldc2_w 205, 3) := dk_20 0 205 (dk_at dksJ19_getLongUnaligned_1 12 rfl rfl)
theorem dJ19_getLongUnaligned_39 : decode cJ19_getLongUnaligned 39 = .ok (.ladd, 1) := dk_97 (dk_at dksJ19_getLongUnaligned_1 15 rfl rfl)
theorem dJ19_getLongUnaligned_40 : decode cJ19_getLongUnaligned 40 = .ok (.invokevirtual 17, 3) := dk_182 0 17 (dk_at dksJ19_getLongUnaligned_1 16 rfl rfl)
theorem dJ19_getLongUnaligned_43 : decode cJ19_getLongUnaligned 43 = .ok (.invokestatic 698, 3) := dk_184 2 186 (dk_at dksJ19_getLongUnaligned_1 19 rfl rfl)
theorem dJ19_getLongUnaligned_46 : decode cJ19_getLongUnaligned 46 = .ok (.lreturn, 1) := dk_173 (dk_at dksJ19_getLongUnaligned_1 22 rfl rfl)
theorem dJ19_getLongUnaligned_47 : decode cJ19_getLongUnaligned 47 = .ok (.lload_n 2, 1) := dk_32 (dk_at dksJ19_getLongUnaligned_1 23 rfl rfl)
theorem dJ19_getLongUnaligned_48 : decode cJ19_getLongUnaligned 48 = .ok (.lconst 1, 1) := dk_10 (dk_at dksJ19_getLongUnaligned_2 0 rfl rfl)
theorem dJ19_getLongUnaligned_49 : decode cJ19_getLongUnaligned 49 = .ok (.land, 1) := dk_127 (dk_at dksJ19_getLongUnaligned_2 1 rfl rfl)
theorem dJ19_getLongUnaligned_50 : decode cJ19_getLongUnaligned 50 = .ok (.lconst 0, 1) := dk_9 (dk_at dksJ19_getLongUnaligned_2 2 rfl rfl)
theorem dJ19_getLongUnaligned_51 : decode cJ19_getLongUnaligned 51 = .ok (.lcmp, 1) := dk_148 (dk_at dksJ19_getLongUnaligned_2 3 rfl rfl)
theorem dJ19_getLongUnaligned_52 : decode cJ19_getLongUnaligned 52 = .ok (.ifCond .ne 43, 3) := dk_154 0 43 (dk_at dksJ19_getLongUnaligned_2 4 rfl rfl)
theorem dJ19_getLongUnaligned_55 : decode cJ19_getLongUnaligned 55 = .ok (.aload_n 0, 1) := dk_42 (dk_at dksJ19_getLongUnaligned_2 7 rfl rfl)
theorem dJ19_getLongUnaligned_56 : decode cJ19_getLongUnaligned 56 = .ok (.aload_n 1, 1) := dk_43 (dk_at dksJ19_getLongUnaligned_2 8 rfl rfl)
theorem dJ19_getLongUnaligned_57 : decode cJ19_getLongUnaligned 57 = .ok (.lload_n 2, 1) := dk_32 (dk_at dksJ19_getLongUnaligned_2 9 rfl rfl)
theorem dJ19_getLongUnaligned_58 : decode cJ19_getLongUnaligned 58 = .ok (.invokevirtual 47, 3) := dk_182 0 47 (dk_at dksJ19_getLongUnaligned_2 10 rfl rfl)
theorem dJ19_getLongUnaligned_61 : decode cJ19_getLongUnaligned 61 = .ok (.aload_n 0, 1) := dk_42 (dk_at dksJ19_getLongUnaligned_2 13 rfl rfl)
theorem dJ19_getLongUnaligned_62 : decode cJ19_getLongUnaligned 62 = .ok (.aload_n 1, 1) := dk_43 (dk_at dksJ19_getLongUnaligned_2 14 rfl rfl)
theorem dJ19_getLongUnaligned_63 : decode cJ19_getLongUnaligned 63 = .ok (.lload_n 2, 1) := dk_32 (dk_at dksJ19_getLongUnaligned_2 15 rfl rfl)
theorem dJ19_getLongUnaligned_64 : decode cJ19_getLongUnaligned 64 = .ok (.ldc2_w 203, 3) := dk_20 0 203 (dk_at dksJ19_getLongUnaligned_2 16 rfl rfl)
theorem dJ19_getLongUnaligned_67 : decode cJ19_getLongUnaligned 67 = .ok (.ladd, 1) := dk_97 (dk_at dksJ19_getLongUnaligned_2 19 rfl rfl)
theorem dJ19_getLongUnaligned_68 : decode cJ19_getLongUnaligned 68 = .ok (.invokevirtual 47, 3) := dk_182 0 47 (dk_at dksJ19_getLongUnaligned_2 20 rfl rfl)
theorem dJ19_getLongUnaligned_71 : decode cJ19_getLongUnaligned 71 = .ok (.aload_n 0, 1) := dk_42 (dk_at dksJ19_getLongUnaligned_2 23 rfl rfl)
theorem dJ19_getLongUnaligned_72 : decode cJ19_getLongUnaligned 72 = .ok (.aload_n 1, 1) := dk_43 (dk_at dksJ19_getLongUnaligned_3 0 rfl rfl)
theorem dJ19_getLongUnaligned_73 : decode cJ19_getLongUnaligned 73 = .ok (.lload_n 2, 1) := dk_32 (dk_at dksJ19_getLongUnaligned_3 1 rfl rfl)
theorem dJ19_getLongUnaligned_74 : decode cJ19_getLongUnaligned 74 = .ok (.ldc2_w 205, 3) := dk_20 0 205 (dk_at dksJ19_getLongUnaligned_3 2 rfl rfl)
theorem dJ19_getLongUnaligned_77 : decode cJ19_getLongUnaligned 77 = .ok (.ladd, 1) := dk_97 (dk_at dksJ19_getLongUnaligned_3 5 rfl rfl)
theorem dJ19_getLongUnaligned_78 : decode cJ19_getLongUnaligned 78 = .ok (.invokevirtual 47, 3) := dk_182 0 47 (dk_at dksJ19_getLongUnaligned_3 6 rfl rfl)
theorem dJ19_getLongUnaligned_81 : decode cJ19_getLongUnaligned 81 = .ok (.aload_n 0, 1) := dk_42 (dk_at dksJ19_getLongUnaligned_3 9 rfl rfl)
theorem dJ19_getLongUnaligned_82 : decode cJ19_getLongUnaligned 82 = .ok (.aload_n 1, 1) := dk_43 (dk_at dksJ19_getLongUnaligned_3 10 rfl rfl)
theorem dJ19_getLongUnaligned_83 : decode cJ19_getLongUnaligned 83 = .ok (.lload_n 2, 1) := dk_32 (dk_at dksJ19_getLongUnaligned_3 11 rfl rfl)
theorem dJ19_getLongUnaligned_84 : decode cJ19_getLongUnaligned 84 = .ok (.ldc2_w 702, 3) := dk_20 2 190 (dk_at dksJ19_getLongUnaligned_3 12 rfl rfl)
theorem dJ19_getLongUnaligned_87 : decode cJ19_getLongUnaligned 87 = .ok (.ladd, 1) := dk_97 (dk_at dksJ19_getLongUnaligned_3 15 rfl rfl)
theorem dJ19_getLongUnaligned_88 : decode cJ19_getLongUnaligned 88 = .ok (.invokevirtual 47, 3) := dk_182 0 47 (dk_at dksJ19_getLongUnaligned_3 16 rfl rfl)
theorem dJ19_getLongUnaligned_91 : decode cJ19_getLongUnaligned 91 = .ok (.invokestatic 704, 3) := dk_184 2 192 (dk_at dksJ19_getLongUnaligned_3 19 rfl rfl)
theorem dJ19_getLongUnaligned_94 : decode cJ19_getLongUnaligned 94 = .ok (.lreturn, 1) := dk_173 (dk_at dksJ19_getLongUnaligned_3 22 rfl rfl)
theorem dJ19_getLongUnaligned_95 : decode cJ19_getLongUnaligned 95 = .ok (.aload_n 0, 1) := dk_42 (dk_at dksJ19_getLongUnaligned_3 23 rfl rfl)
theorem dJ19_getLongUnaligned_96 : decode cJ19_getLongUnaligned 96 = .ok (.aload_n 1, 1) := dk_43 (dk_at dksJ19_getLongUnaligned_4 0 rfl rfl)
theorem dJ19_getLongUnaligned_97 : decode cJ19_getLongUnaligned 97 = .ok (.lload_n 2, 1) := dk_32 (dk_at dksJ19_getLongUnaligned_4 1 rfl rfl)
theorem dJ19_getLongUnaligned_98 : decode cJ19_getLongUnaligned 98 = .ok (.invokevirtual 39, 3) := dk_182 0 39 (dk_at dksJ19_getLongUnaligned_4 2 rfl rfl)
theorem dJ19_getLongUnaligned_101 : decode cJ19_getLongUnaligned 101 = .ok (.aload_n 0, 1) := dk_42 (dk_at dksJ19_getLongUnaligned_4 5 rfl rfl)
theorem dJ19_getLongUnaligned_102 : decode cJ19_getLongUnaligned 102 = .ok (.aload_n 1, 1) := dk_43 (dk_at dksJ19_getLongUnaligned_4 6 rfl rfl)
theorem dJ19_getLongUnaligned_103 : decode cJ19_getLongUnaligned 103 = .ok (.lload_n 2, 1) := dk_32 (dk_at dksJ19_getLongUnaligned_4 7 rfl rfl)
theorem dJ19_getLongUnaligned_104 : decode cJ19_getLongUnaligned 104 = .ok (.lconst 1, 1) := dk_10 (dk_at dksJ19_getLongUnaligned_4 8 rfl rfl)
theorem dJ19_getLongUnaligned_105 : decode cJ19_getLongUnaligned 105 = .ok (.ladd, 1) := dk_97 (dk_at dksJ19_getLongUnaligned_4 9 rfl rfl)
theorem dJ19_getLongUnaligned_106 : decode cJ19_getLongUnaligned 106 = .ok (.invokevirtual 39, 3) := dk_182 0 39 (dk_at dksJ19_getLongUnaligned_4 10 rfl rfl)
theorem dJ19_getLongUnaligned_109 : decode cJ19_getLongUnaligned 109 = .ok (.aload_n 0, 1) := dk_42 (dk_at dksJ19_getLongUnaligned_4 13 rfl rfl)
theorem dJ19_getLongUnaligned_110 : decode cJ19_getLongUnaligned 110 = .ok (.aload_n 1, 1) := dk_43 (dk_at dksJ19_getLongUnaligned_4 14 rfl rfl)
theorem dJ19_getLongUnaligned_111 : decode cJ19_getLongUnaligned 111 = .ok (.lload_n 2, 1) := dk_32 (dk_at dksJ19_getLongUnaligned_4 15 rfl rfl)
theorem dJ19_getLongUnaligned_112 : decode cJ19_getLongUnaligned 112 = .ok (.ldc2_w 203, 3) := dk_20 0 203 (dk_at dksJ19_getLongUnaligned_4 16 rfl rfl)
theorem dJ19_getLongUnaligned_115 : decode cJ19_getLongUnaligned 115 = .ok (.ladd, 1) := dk_97 (dk_at dksJ19_getLongUnaligned_4 19 rfl rfl)
theorem dJ19_getLongUnaligned_116 : decode cJ19_getLongUnaligned 116 = .ok (.invokevirtual 39, 3) := dk_182 0 39 (dk_at dksJ19_getLongUnaligned_4 20 rfl rfl)
theorem dJ19_getLongUnaligned_119 : decode cJ19_getLongUnaligned 119 = .ok (.aload_n 0, 1) := dk_42 (dk_at dksJ19_getLongUnaligned_4 23 rfl rfl)
theorem dJ19_getLongUnaligned_120 : decode cJ19_getLongUnaligned 120 = .ok (.aload_n 1, 1) := dk_43 (dk_at dksJ19_getLongUnaligned_5 0 rfl rfl)
theorem dJ19_getLongUnaligned_121 : decode cJ19_getLongUnaligned 121 = .ok (.lload_n 2, 1) := dk_32 (dk_at dksJ19_getLongUnaligned_5 1 rfl rfl)
theorem dJ19_getLongUnaligned_122 : decode cJ19_getLongUnaligned 122 = .ok (.ldc2_w 349, 3) := dk_20 1 93 (dk_at dksJ19_getLongUnaligned_5 2 rfl rfl)
theorem dJ19_getLongUnaligned_125 : decode cJ19_getLongUnaligned 125 = .ok (.ladd, 1) := dk_97 (dk_at dksJ19_getLongUnaligned_5 5 rfl rfl)
theorem dJ19_getLongUnaligned_126 : decode cJ19_getLongUnaligned 126 = .ok (.invokevirtual 39, 3) := dk_182 0 39 (dk_at dksJ19_getLongUnaligned_5 6 rfl rfl)
theorem dJ19_getLongUnaligned_129 : decode cJ19_getLongUnaligned 129 = .ok (.aload_n 0, 1) := dk_42 (dk_at dksJ19_getLongUnaligned_5 9 rfl rfl)
theorem dJ19_getLongUnaligned_130 : decode cJ19_getLongUnaligned 130 = .ok (.aload_n 1, 1) := dk_43 (dk_at dksJ19_getLongUnaligned_5 10 rfl rfl)
theorem dJ19_getLongUnaligned_131 : decode cJ19_getLongUnaligned 131 = .ok (.lload_n 2, 1) := dk_32 (dk_at dksJ19_getLongUnaligned_5 11 rfl rfl)
theorem dJ19_getLongUnaligned_132 : decode cJ19_getLongUnaligned 132 = .ok (.ldc2_w 205, 3) := dk_20 0 205 (dk_at dksJ19_getLongUnaligned_5 12 rfl rfl)
theorem dJ19_getLongUnaligned_135 : decode cJ19_getLongUnaligned 135 = .ok (.ladd, 1) := dk_97 (dk_at dksJ19_getLongUnaligned_5 15 rfl rfl)
theorem dJ19_getLongUnaligned_136 : decode cJ19_getLongUnaligned 136 = .ok (.invokevirtual 39, 3) := dk_182 0 39 (dk_at dksJ19_getLongUnaligned_5 16 rfl rfl)
theorem dJ19_getLongUnaligned_139 : decode cJ19_getLongUnaligned 139 = .ok (.aload_n 0, 1) := dk_42 (dk_at dksJ19_getLongUnaligned_5 19 rfl rfl)
theorem dJ19_getLongUnaligned_140 : decode cJ19_getLongUnaligned 140 = .ok (.aload_n 1, 1) := dk_43 (dk_at dksJ19_getLongUnaligned_5 20 rfl rfl)
theorem dJ19_getLongUnaligned_141 : decode cJ19_getLongUnaligned 141 = .ok (.lload_n 2, 1) := dk_32 (dk_at dksJ19_getLongUnaligned_5 21 rfl rfl)
theorem dJ19_getLongUnaligned_142 : decode cJ19_getLongUnaligned 142 = .ok (.ldc2_w 707, 3) := dk_20 2 195 (dk_at dksJ19_getLongUnaligned_6 0 rfl rfl)
theorem dJ19_getLongUnaligned_145 : decode cJ19_getLongUnaligned 145 = .ok (.ladd, 1) := dk_97 (dk_at dksJ19_getLongUnaligned_6 3 rfl rfl)
theorem dJ19_getLongUnaligned_146 : decode cJ19_getLongUnaligned 146 = .ok (.invokevirtual 39, 3) := dk_182 0 39 (dk_at dksJ19_getLongUnaligned_6 4 rfl rfl)
theorem dJ19_getLongUnaligned_149 : decode cJ19_getLongUnaligned 149 = .ok (.aload_n 0, 1) := dk_42 (dk_at dksJ19_getLongUnaligned_6 7 rfl rfl)
theorem dJ19_getLongUnaligned_150 : decode cJ19_getLongUnaligned 150 = .ok (.aload_n 1, 1) := dk_43 (dk_at dksJ19_getLongUnaligned_6 8 rfl rfl)
theorem dJ19_getLongUnaligned_151 : decode cJ19_getLongUnaligned 151 = .ok (.lload_n 2, 1) := dk_32 (dk_at dksJ19_getLongUnaligned_6 9 rfl rfl)
theorem dJ19_getLongUnaligned_152 : decode cJ19_getLongUnaligned 152 = .ok (.ldc2_w 702, 3) := dk_20 2 190 (dk_at dksJ19_getLongUnaligned_6 10 rfl rfl)
theorem dJ19_getLongUnaligned_155 : decode cJ19_getLongUnaligned 155 = .ok (.ladd, 1) := dk_97 (dk_at dksJ19_getLongUnaligned_6 13 rfl rfl)
theorem dJ19_getLongUnaligned_156 : decode cJ19_getLongUnaligned 156 = .ok (.invokevirtual 39, 3) := dk_182 0 39 (dk_at dksJ19_getLongUnaligned_6 14 rfl rfl)
theorem dJ19_getLongUnaligned_159 : decode cJ19_getLongUnaligned 159 = .ok (.aload_n 0, 1) := dk_42 (dk_at dksJ19_getLongUnaligned_6 17 rfl rfl)
theorem dJ19_getLongUnaligned_160 : decode cJ19_getLongUnaligned 160 = .ok (.aload_n 1, 1) := dk_43 (dk_at dksJ19_getLongUnaligned_6 18 rfl rfl)
theorem dJ19_getLongUnaligned_161 : decode cJ19_getLongUnaligned 161 = .ok (.lload_n 2, 1) := dk_32 (dk_at dksJ19_getLongUnaligned_6 19 rfl rfl)
theorem dJ19_getLongUnaligned_162 : decode cJ19_getLongUnaligned 162 = .ok (.ldc2_w 696, 3) := dk_20 2 184 (dk_at dksJ19_getLongUnaligned_6 20 rfl rfl)
theorem dJ19_getLongUnaligned_165 : decode cJ19_getLongUnaligned 165 = .ok (.ladd, 1) := dk_97 (dk_at dksJ19_getLongUnaligned_6 23 rfl rfl)
theorem dJ19_getLongUnaligned_166 : decode cJ19_getLongUnaligned 166 = .ok (.invokevirtual 39, 3) := dk_182 0 39 (dk_at dksJ19_getLongUnaligned_7 0 rfl rfl)
theorem dJ19_getLongUnaligned_169 : decode cJ19_getLongUnaligned 169 = .ok (.invokestatic 709, 3) := dk_184 2 197 (dk_at dksJ19_getLongUnaligned_7 3 rfl rfl)
theorem dJ19_getLongUnaligned_172 : decode cJ19_getLongUnaligned 172 = .ok (.lreturn, 1) := dk_173 (dk_at dksJ19_getLongUnaligned_7 6 rfl rfl)
abbrev cJ19_makeLong : ByteArray := prog_50_method_353_code
def yJ19_makeLong : MethodName := ⟨RJ19, "makeLong", "(II)J"⟩
def dkwJ19_makeLong_1 : List UInt8 := [173]
abbrev dktJ19_makeLong_1 : List UInt8 := dkwJ19_makeLong_1 ++ []
def dkwJ19_makeLong_0 : List UInt8 := [26, 184, 3, 23, 16, 32, 3, 184, 3, 16, 121, 27, 184, 3, 23, 16, 32, 16, 32, 184, 3, 16, 121, 129]
abbrev dktJ19_makeLong_0 : List UInt8 := dkwJ19_makeLong_0 ++ dktJ19_makeLong_1
theorem dksJ19_makeLong_0 : cJ19_makeLong.data.toList.drop 0 = dktJ19_makeLong_0 := by decide +kernel
theorem dksJ19_makeLong_1 : cJ19_makeLong.data.toList.drop 24 = dktJ19_makeLong_1 := dk_seg dksJ19_makeLong_0 24 rfl rfl
theorem dJ19_makeLong_0 : decode cJ19_makeLong 0 = .ok (.iload_n 0, 1) := dk_26 (dk_at dksJ19_makeLong_0 0 rfl rfl)
theorem dJ19_makeLong_1 : decode cJ19_makeLong 1 = .ok (.invokestatic 791, 3) := dk_184 3 23 (dk_at dksJ19_makeLong_0 1 rfl rfl)
theorem dJ19_makeLong_4 : decode cJ19_makeLong 4 = .ok (.bipush 32, 2) := dk_16 32 (dk_at dksJ19_makeLong_0 4 rfl rfl)
theorem dJ19_makeLong_6 : decode cJ19_makeLong 6 = .ok (.iconst 0, 1) := dk_3 (dk_at dksJ19_makeLong_0 6 rfl rfl)
theorem dJ19_makeLong_7 : decode cJ19_makeLong 7 = .ok (.invokestatic 784, 3) := dk_184 3 16 (dk_at dksJ19_makeLong_0 7 rfl rfl)
theorem dJ19_makeLong_10 : decode cJ19_makeLong 10 = .ok (.lshl, 1) := dk_121 (dk_at dksJ19_makeLong_0 10 rfl rfl)
theorem dJ19_makeLong_11 : decode cJ19_makeLong 11 = .ok (.iload_n 1, 1) := dk_27 (dk_at dksJ19_makeLong_0 11 rfl rfl)
theorem dJ19_makeLong_12 : decode cJ19_makeLong 12 = .ok (.invokestatic 791, 3) := dk_184 3 23 (dk_at dksJ19_makeLong_0 12 rfl rfl)
theorem dJ19_makeLong_15 : decode cJ19_makeLong 15 = .ok (.bipush 32, 2) := dk_16 32 (dk_at dksJ19_makeLong_0 15 rfl rfl)
theorem dJ19_makeLong_17 : decode cJ19_makeLong 17 = .ok (.bipush 32, 2) := dk_16 32 (dk_at dksJ19_makeLong_0 17 rfl rfl)
theorem dJ19_makeLong_19 : decode cJ19_makeLong 19 = .ok (.invokestatic 784, 3) := dk_184 3 16 (dk_at dksJ19_makeLong_0 19 rfl rfl)
theorem dJ19_makeLong_22 : decode cJ19_makeLong 22 = .ok (.lshl, 1) := dk_121 (dk_at dksJ19_makeLong_0 22 rfl rfl)
theorem dJ19_makeLong_23 : decode cJ19_makeLong 23 = .ok (.lor, 1) := dk_129 (dk_at dksJ19_makeLong_0 23 rfl rfl)
theorem dJ19_makeLong_24 : decode cJ19_makeLong 24 = .ok (.lreturn, 1) := dk_173 (dk_at dksJ19_makeLong_1 0 rfl rfl)
abbrev cJ19_toUnsignedLong : ByteArray := prog_50_method_370_code
def yJ19_toUnsignedLong : MethodName := ⟨RJ19, "toUnsignedLong", "(I)J"⟩
def dkwJ19_toUnsignedLong_0 : List UInt8 := [26, 133, 20, 3, 44, 127, 173]
abbrev dktJ19_toUnsignedLong_0 : List UInt8 := dkwJ19_toUnsignedLong_0 ++ []
theorem dksJ19_toUnsignedLong_0 : cJ19_toUnsignedLong.data.toList.drop 0 = dktJ19_toUnsignedLong_0 := by decide +kernel
theorem dJ19_toUnsignedLong_0 : decode cJ19_toUnsignedLong 0 = .ok (.iload_n 0, 1) := dk_26 (dk_at dksJ19_toUnsignedLong_0 0 rfl rfl)
theorem dJ19_toUnsignedLong_1 : decode cJ19_toUnsignedLong 1 = .ok (.i2l, 1) := dk_133 (dk_at dksJ19_toUnsignedLong_0 1 rfl rfl)
theorem dJ19_toUnsignedLong_2 : decode cJ19_toUnsignedLong 2 = .ok (.ldc2_w 812, 3) := dk_20 3 44 (dk_at dksJ19_toUnsignedLong_0 2 rfl rfl)
theorem dJ19_toUnsignedLong_5 : decode cJ19_toUnsignedLong 5 = .ok (.land, 1) := dk_127 (dk_at dksJ19_toUnsignedLong_0 5 rfl rfl)
theorem dJ19_toUnsignedLong_6 : decode cJ19_toUnsignedLong 6 = .ok (.lreturn, 1) := dk_173 (dk_at dksJ19_toUnsignedLong_0 6 rfl rfl)
abbrev cJ19_pickPos : ByteArray := prog_50_method_350_code
def yJ19_pickPos : MethodName := ⟨RJ19, "pickPos", "(II)I"⟩
def dkwJ19_pickPos_0 : List UInt8 := [178, 1, 95, 153, 0, 9, 26, 27, 100, 167, 0, 4, 27, 172]
abbrev dktJ19_pickPos_0 : List UInt8 := dkwJ19_pickPos_0 ++ []
theorem dksJ19_pickPos_0 : cJ19_pickPos.data.toList.drop 0 = dktJ19_pickPos_0 := by decide +kernel
theorem dJ19_pickPos_0 : decode cJ19_pickPos 0 = .ok (.getstatic 351, 3) := dk_178 1 95 (dk_at dksJ19_pickPos_0 0 rfl rfl)
theorem dJ19_pickPos_3 : decode cJ19_pickPos 3 = .ok (.ifCond .eq 9, 3) := dk_153 0 9 (dk_at dksJ19_pickPos_0 3 rfl rfl)
theorem dJ19_pickPos_6 : decode cJ19_pickPos 6 = .ok (.iload_n 0, 1) := dk_26 (dk_at dksJ19_pickPos_0 6 rfl rfl)
theorem dJ19_pickPos_7 : decode cJ19_pickPos 7 = .ok (.iload_n 1, 1) := dk_27 (dk_at dksJ19_pickPos_0 7 rfl rfl)
theorem dJ19_pickPos_8 : decode cJ19_pickPos 8 = .ok (.isub, 1) := dk_100 (dk_at dksJ19_pickPos_0 8 rfl rfl)
theorem dJ19_pickPos_9 : decode cJ19_pickPos 9 = .ok (.goto 4, 3) := dk_167 0 4 (dk_at dksJ19_pickPos_0 9 rfl rfl)
theorem dJ19_pickPos_12 : decode cJ19_pickPos 12 = .ok (.iload_n 1, 1) := dk_27 (dk_at dksJ19_pickPos_0 12 rfl rfl)
theorem dJ19_pickPos_13 : decode cJ19_pickPos 13 = .ok (.ireturn, 1) := dk_172 (dk_at dksJ19_pickPos_0 13 rfl rfl)
abbrev cJ19_makeLong_2 : ByteArray := prog_50_method_352_code
def yJ19_makeLong_2 : MethodName := ⟨RJ19, "makeLong", "(SSSS)J"⟩
def dkwJ19_makeLong_2_2 : List UInt8 := [121, 129, 173]
abbrev dktJ19_makeLong_2_2 : List UInt8 := dkwJ19_makeLong_2_2 ++ []
def dkwJ19_makeLong_2_1 : List UInt8 := [28, 184, 3, 20, 16, 48, 16, 32, 184, 3, 16, 121, 129, 29, 184, 3, 20, 16, 48, 16, 48, 184, 3, 16]
abbrev dktJ19_makeLong_2_1 : List UInt8 := dkwJ19_makeLong_2_1 ++ dktJ19_makeLong_2_2
def dkwJ19_makeLong_2_0 : List UInt8 := [26, 184, 3, 20, 16, 48, 3, 184, 3, 16, 121, 27, 184, 3, 20, 16, 48, 16, 16, 184, 3, 16, 121, 129]
abbrev dktJ19_makeLong_2_0 : List UInt8 := dkwJ19_makeLong_2_0 ++ dktJ19_makeLong_2_1
theorem dksJ19_makeLong_2_0 : cJ19_makeLong_2.data.toList.drop 0 = dktJ19_makeLong_2_0 := by decide +kernel
theorem dksJ19_makeLong_2_1 : cJ19_makeLong_2.data.toList.drop 24 = dktJ19_makeLong_2_1 := dk_seg dksJ19_makeLong_2_0 24 rfl rfl
theorem dksJ19_makeLong_2_2 : cJ19_makeLong_2.data.toList.drop 48 = dktJ19_makeLong_2_2 := dk_seg dksJ19_makeLong_2_1 24 rfl rfl
theorem dJ19_makeLong_2_0 : decode cJ19_makeLong_2 0 = .ok (.iload_n 0, 1) := dk_26 (dk_at dksJ19_makeLong_2_0 0 rfl rfl)
theorem dJ19_makeLong_2_1 : decode cJ19_makeLong_2 1 = .ok (.invokestatic 788, 3) := dk_184 3 20 (dk_at dksJ19_makeLong_2_0 1 rfl rfl)
theorem dJ19_makeLong_2_4 : decode cJ19_makeLong_2 4 = .ok (.bipush 48, 2) := dk_16 48 (dk_at dksJ19_makeLong_2_0 4 rfl rfl)
theorem dJ19_makeLong_2_6 : decode cJ19_makeLong_2 6 = .ok (.iconst 0, 1) := dk_3 (dk_at dksJ19_makeLong_2_0 6 rfl rfl)
theorem dJ19_makeLong_2_7 : decode cJ19_makeLong_2 7 = .ok (.invokestatic 784, 3) := dk_184 3 16 (dk_at dksJ19_makeLong_2_0 7 rfl rfl)
theorem dJ19_makeLong_2_10 : decode cJ19_makeLong_2 10 = .ok (.lshl, 1) := dk_121 (dk_at dksJ19_makeLong_2_0 10 rfl rfl)
theorem dJ19_makeLong_2_11 : decode cJ19_makeLong_2 11 = .ok (.iload_n 1, 1) := dk_27 (dk_at dksJ19_makeLong_2_0 11 rfl rfl)
theorem dJ19_makeLong_2_12 : decode cJ19_makeLong_2 12 = .ok (.invokestatic 788, 3) := dk_184 3 20 (dk_at dksJ19_makeLong_2_0 12 rfl rfl)
theorem dJ19_makeLong_2_15 : decode cJ19_makeLong_2 15 = .ok (.bipush 48, 2) := dk_16 48 (dk_at dksJ19_makeLong_2_0 15 rfl rfl)
theorem dJ19_makeLong_2_17 : decode cJ19_makeLong_2 17 = .ok (.bipush 16, 2) := dk_16 16 (dk_at dksJ19_makeLong_2_0 17 rfl rfl)
theorem dJ19_makeLong_2_19 : decode cJ19_makeLong_2 19 = .ok (.invokestatic 784, 3) := dk_184 3 16 (dk_at dksJ19_makeLong_2_0 19 rfl rfl)
theorem dJ19_makeLong_2_22 : decode cJ19_makeLong_2 22 = .ok (.lshl, 1) := dk_121 (dk_at dksJ19_makeLong_2_0 22 rfl rfl)
theorem dJ19_makeLong_2_23 : decode cJ19_makeLong_2 23 = .ok (.lor, 1) := dk_129 (dk_at dksJ19_makeLong_2_0 23 rfl rfl)
theorem dJ19_makeLong_2_24 : decode cJ19_makeLong_2 24 = .ok (.iload_n 2, 1) := dk_28 (dk_at dksJ19_makeLong_2_1 0 rfl rfl)
theorem dJ19_makeLong_2_25 : decode cJ19_makeLong_2 25 = .ok (.invokestatic 788, 3) := dk_184 3 20 (dk_at dksJ19_makeLong_2_1 1 rfl rfl)
theorem dJ19_makeLong_2_28 : decode cJ19_makeLong_2 28 = .ok (.bipush 48, 2) := dk_16 48 (dk_at dksJ19_makeLong_2_1 4 rfl rfl)
theorem dJ19_makeLong_2_30 : decode cJ19_makeLong_2 30 = .ok (.bipush 32, 2) := dk_16 32 (dk_at dksJ19_makeLong_2_1 6 rfl rfl)
theorem dJ19_makeLong_2_32 : decode cJ19_makeLong_2 32 = .ok (.invokestatic 784, 3) := dk_184 3 16 (dk_at dksJ19_makeLong_2_1 8 rfl rfl)
theorem dJ19_makeLong_2_35 : decode cJ19_makeLong_2 35 = .ok (.lshl, 1) := dk_121 (dk_at dksJ19_makeLong_2_1 11 rfl rfl)
theorem dJ19_makeLong_2_36 : decode cJ19_makeLong_2 36 = .ok (.lor, 1) := dk_129 (dk_at dksJ19_makeLong_2_1 12 rfl rfl)
theorem dJ19_makeLong_2_37 : decode cJ19_makeLong_2 37 = .ok (.iload_n 3, 1) := dk_29 (dk_at dksJ19_makeLong_2_1 13 rfl rfl)
theorem dJ19_makeLong_2_38 : decode cJ19_makeLong_2 38 = .ok (.invokestatic 788, 3) := dk_184 3 20 (dk_at dksJ19_makeLong_2_1 14 rfl rfl)
theorem dJ19_makeLong_2_41 : decode cJ19_makeLong_2 41 = .ok (.bipush 48, 2) := dk_16 48 (dk_at dksJ19_makeLong_2_1 17 rfl rfl)
theorem dJ19_makeLong_2_43 : decode cJ19_makeLong_2 43 = .ok (.bipush 48, 2) := dk_16 48 (dk_at dksJ19_makeLong_2_1 19 rfl rfl)
theorem dJ19_makeLong_2_45 : decode cJ19_makeLong_2 45 = .ok (.invokestatic 784, 3) := dk_184 3 16 (dk_at dksJ19_makeLong_2_1 21 rfl rfl)
theorem dJ19_makeLong_2_48 : decode cJ19_makeLong_2 48 = .ok (.lshl, 1) := dk_121 (dk_at dksJ19_makeLong_2_2 0 rfl rfl)
theorem dJ19_makeLong_2_49 : decode cJ19_makeLong_2 49 = .ok (.lor, 1) := dk_129 (dk_at dksJ19_makeLong_2_2 1 rfl rfl)
theorem dJ19_makeLong_2_50 : decode cJ19_makeLong_2 50 = .ok (.lreturn, 1) := dk_173 (dk_at dksJ19_makeLong_2_2 2 rfl rfl)
abbrev cJ19_toUnsignedLong_2 : ByteArray := prog_50_method_369_code
def yJ19_toUnsignedLong_2 : MethodName := ⟨RJ19, "toUnsignedLong", "(S)J"⟩
def dkwJ19_toUnsignedLong_2_0 : List UInt8 := [26, 133, 20, 3, 42, 127, 173]
abbrev dktJ19_toUnsignedLong_2_0 : List UInt8 := dkwJ19_toUnsignedLong_2_0 ++ []
theorem dksJ19_toUnsignedLong_2_0 : cJ19_toUnsignedLong_2.data.toList.drop 0 = dktJ19_toUnsignedLong_2_0 := by decide +kernel
theorem dJ19_toUnsignedLong_2_0 : decode cJ19_toUnsignedLong_2 0 = .ok (.iload_n 0, 1) := dk_26 (dk_at dksJ19_toUnsignedLong_2_0 0 rfl rfl)
theorem dJ19_toUnsignedLong_2_1 : decode cJ19_toUnsignedLong_2 1 = .ok (.i2l, 1) := dk_133 (dk_at dksJ19_toUnsignedLong_2_0 1 rfl rfl)
theorem dJ19_toUnsignedLong_2_2 : decode cJ19_toUnsignedLong_2 2 = .ok (.ldc2_w 810, 3) := dk_20 3 42 (dk_at dksJ19_toUnsignedLong_2_0 2 rfl rfl)
theorem dJ19_toUnsignedLong_2_5 : decode cJ19_toUnsignedLong_2 5 = .ok (.land, 1) := dk_127 (dk_at dksJ19_toUnsignedLong_2_0 5 rfl rfl)
theorem dJ19_toUnsignedLong_2_6 : decode cJ19_toUnsignedLong_2 6 = .ok (.lreturn, 1) := dk_173 (dk_at dksJ19_toUnsignedLong_2_0 6 rfl rfl)
abbrev cJ19_makeLong_3 : ByteArray := prog_50_method_351_code
def yJ19_makeLong_3 : MethodName := ⟨RJ19, "makeLong", "(BBBBBBBB)J"⟩
def dkwJ19_makeLong_3_4 : List UInt8 := [184, 3, 13, 16, 56, 16, 56, 184, 3, 16, 121, 129, 173]
abbrev dktJ19_makeLong_3_4 : List UInt8 := dkwJ19_makeLong_3_4 ++ []
def dkwJ19_makeLong_3_3 : List UInt8 := [16, 40, 184, 3, 16, 121, 129, 21, 6, 184, 3, 13, 16, 56, 16, 48, 184, 3, 16, 121, 129, 21, 7]
abbrev dktJ19_makeLong_3_3 : List UInt8 := dkwJ19_makeLong_3_3 ++ dktJ19_makeLong_3_4
def dkwJ19_makeLong_3_2 : List UInt8 := [121, 129, 21, 4, 184, 3, 13, 16, 56, 16, 32, 184, 3, 16, 121, 129, 21, 5, 184, 3, 13, 16, 56]
abbrev dktJ19_makeLong_3_2 : List UInt8 := dkwJ19_makeLong_3_2 ++ dktJ19_makeLong_3_3
def dkwJ19_makeLong_3_1 : List UInt8 := [28, 184, 3, 13, 16, 56, 16, 16, 184, 3, 16, 121, 129, 29, 184, 3, 13, 16, 56, 16, 24, 184, 3, 16]
abbrev dktJ19_makeLong_3_1 : List UInt8 := dkwJ19_makeLong_3_1 ++ dktJ19_makeLong_3_2
def dkwJ19_makeLong_3_0 : List UInt8 := [26, 184, 3, 13, 16, 56, 3, 184, 3, 16, 121, 27, 184, 3, 13, 16, 56, 16, 8, 184, 3, 16, 121, 129]
abbrev dktJ19_makeLong_3_0 : List UInt8 := dkwJ19_makeLong_3_0 ++ dktJ19_makeLong_3_1
theorem dksJ19_makeLong_3_0 : cJ19_makeLong_3.data.toList.drop 0 = dktJ19_makeLong_3_0 := by decide +kernel
theorem dksJ19_makeLong_3_1 : cJ19_makeLong_3.data.toList.drop 24 = dktJ19_makeLong_3_1 := dk_seg dksJ19_makeLong_3_0 24 rfl rfl
theorem dksJ19_makeLong_3_2 : cJ19_makeLong_3.data.toList.drop 48 = dktJ19_makeLong_3_2 := dk_seg dksJ19_makeLong_3_1 24 rfl rfl
theorem dksJ19_makeLong_3_3 : cJ19_makeLong_3.data.toList.drop 71 = dktJ19_makeLong_3_3 := dk_seg dksJ19_makeLong_3_2 23 rfl rfl
theorem dksJ19_makeLong_3_4 : cJ19_makeLong_3.data.toList.drop 94 = dktJ19_makeLong_3_4 := dk_seg dksJ19_makeLong_3_3 23 rfl rfl
theorem dJ19_makeLong_3_0 : decode cJ19_makeLong_3 0 = .ok (.iload_n 0, 1) := dk_26 (dk_at dksJ19_makeLong_3_0 0 rfl rfl)
theorem dJ19_makeLong_3_1 : decode cJ19_makeLong_3 1 = .ok (.invokestatic 781, 3) := dk_184 3 13 (dk_at dksJ19_makeLong_3_0 1 rfl rfl)
theorem dJ19_makeLong_3_4 : decode cJ19_makeLong_3 4 = .ok (.bipush 56, 2) := dk_16 56 (dk_at dksJ19_makeLong_3_0 4 rfl rfl)
theorem dJ19_makeLong_3_6 : decode cJ19_makeLong_3 6 = .ok (.iconst 0, 1) := dk_3 (dk_at dksJ19_makeLong_3_0 6 rfl rfl)
theorem dJ19_makeLong_3_7 : decode cJ19_makeLong_3 7 = .ok (.invokestatic 784, 3) := dk_184 3 16 (dk_at dksJ19_makeLong_3_0 7 rfl rfl)
theorem dJ19_makeLong_3_10 : decode cJ19_makeLong_3 10 = .ok (.lshl, 1) := dk_121 (dk_at dksJ19_makeLong_3_0 10 rfl rfl)
theorem dJ19_makeLong_3_11 : decode cJ19_makeLong_3 11 = .ok (.iload_n 1, 1) := dk_27 (dk_at dksJ19_makeLong_3_0 11 rfl rfl)
theorem dJ19_makeLong_3_12 : decode cJ19_makeLong_3 12 = .ok (.invokestatic 781, 3) := dk_184 3 13 (dk_at dksJ19_makeLong_3_0 12 rfl rfl)
theorem dJ19_makeLong_3_15 : decode cJ19_makeLong_3 15 = .ok (.bipush 56, 2) := dk_16 56 (dk_at dksJ19_makeLong_3_0 15 rfl rfl)
theorem dJ19_makeLong_3_17 : decode cJ19_makeLong_3 17 = .ok (.bipush 8, 2) := dk_16 8 (dk_at dksJ19_makeLong_3_0 17 rfl rfl)
theorem dJ19_makeLong_3_19 : decode cJ19_makeLong_3 19 = .ok (.invokestatic 784, 3) := dk_184 3 16 (dk_at dksJ19_makeLong_3_0 19 rfl rfl)
theorem dJ19_makeLong_3_22 : decode cJ19_makeLong_3 22 = .ok (.lshl, 1) := dk_121 (dk_at dksJ19_makeLong_3_0 22 rfl rfl)
theorem dJ19_makeLong_3_23 : decode cJ19_makeLong_3 23 = .ok (.lor, 1) := dk_129 (dk_at dksJ19_makeLong_3_0 23 rfl rfl)
theorem dJ19_makeLong_3_24 : decode cJ19_makeLong_3 24 = .ok (.iload_n 2, 1) := dk_28 (dk_at dksJ19_makeLong_3_1 0 rfl rfl)
theorem dJ19_makeLong_3_25 : decode cJ19_makeLong_3 25 = .ok (.invokestatic 781, 3) := dk_184 3 13 (dk_at dksJ19_makeLong_3_1 1 rfl rfl)
theorem dJ19_makeLong_3_28 : decode cJ19_makeLong_3 28 = .ok (.bipush 56, 2) := dk_16 56 (dk_at dksJ19_makeLong_3_1 4 rfl rfl)
theorem dJ19_makeLong_3_30 : decode cJ19_makeLong_3 30 = .ok (.bipush 16, 2) := dk_16 16 (dk_at dksJ19_makeLong_3_1 6 rfl rfl)
theorem dJ19_makeLong_3_32 : decode cJ19_makeLong_3 32 = .ok (.invokestatic 784, 3) := dk_184 3 16 (dk_at dksJ19_makeLong_3_1 8 rfl rfl)
theorem dJ19_makeLong_3_35 : decode cJ19_makeLong_3 35 = .ok (.lshl, 1) := dk_121 (dk_at dksJ19_makeLong_3_1 11 rfl rfl)
theorem dJ19_makeLong_3_36 : decode cJ19_makeLong_3 36 = .ok (.lor, 1) := dk_129 (dk_at dksJ19_makeLong_3_1 12 rfl rfl)
theorem dJ19_makeLong_3_37 : decode cJ19_makeLong_3 37 = .ok (.iload_n 3, 1) := dk_29 (dk_at dksJ19_makeLong_3_1 13 rfl rfl)
theorem dJ19_makeLong_3_38 : decode cJ19_makeLong_3 38 = .ok (.invokestatic 781, 3) := dk_184 3 13 (dk_at dksJ19_makeLong_3_1 14 rfl rfl)
theorem dJ19_makeLong_3_41 : decode cJ19_makeLong_3 41 = .ok (.bipush 56, 2) := dk_16 56 (dk_at dksJ19_makeLong_3_1 17 rfl rfl)
theorem dJ19_makeLong_3_43 : decode cJ19_makeLong_3 43 = .ok (.bipush 24, 2) := dk_16 24 (dk_at dksJ19_makeLong_3_1 19 rfl rfl)
theorem dJ19_makeLong_3_45 : decode cJ19_makeLong_3 45 = .ok (.invokestatic 784, 3) := dk_184 3 16 (dk_at dksJ19_makeLong_3_1 21 rfl rfl)
theorem dJ19_makeLong_3_48 : decode cJ19_makeLong_3 48 = .ok (.lshl, 1) := dk_121 (dk_at dksJ19_makeLong_3_2 0 rfl rfl)
theorem dJ19_makeLong_3_49 : decode cJ19_makeLong_3 49 = .ok (.lor, 1) := dk_129 (dk_at dksJ19_makeLong_3_2 1 rfl rfl)
theorem dJ19_makeLong_3_50 : decode cJ19_makeLong_3 50 = .ok (.iload 4, 2) := dk_21 4 (dk_at dksJ19_makeLong_3_2 2 rfl rfl)
theorem dJ19_makeLong_3_52 : decode cJ19_makeLong_3 52 = .ok (.invokestatic 781, 3) := dk_184 3 13 (dk_at dksJ19_makeLong_3_2 4 rfl rfl)
theorem dJ19_makeLong_3_55 : decode cJ19_makeLong_3 55 = .ok (.bipush 56, 2) := dk_16 56 (dk_at dksJ19_makeLong_3_2 7 rfl rfl)
theorem dJ19_makeLong_3_57 : decode cJ19_makeLong_3 57 = .ok (.bipush 32, 2) := dk_16 32 (dk_at dksJ19_makeLong_3_2 9 rfl rfl)
theorem dJ19_makeLong_3_59 : decode cJ19_makeLong_3 59 = .ok (.invokestatic 784, 3) := dk_184 3 16 (dk_at dksJ19_makeLong_3_2 11 rfl rfl)
theorem dJ19_makeLong_3_62 : decode cJ19_makeLong_3 62 = .ok (.lshl, 1) := dk_121 (dk_at dksJ19_makeLong_3_2 14 rfl rfl)
theorem dJ19_makeLong_3_63 : decode cJ19_makeLong_3 63 = .ok (.lor, 1) := dk_129 (dk_at dksJ19_makeLong_3_2 15 rfl rfl)
theorem dJ19_makeLong_3_64 : decode cJ19_makeLong_3 64 = .ok (.iload 5, 2) := dk_21 5 (dk_at dksJ19_makeLong_3_2 16 rfl rfl)
theorem dJ19_makeLong_3_66 : decode cJ19_makeLong_3 66 = .ok (.invokestatic 781, 3) := dk_184 3 13 (dk_at dksJ19_makeLong_3_2 18 rfl rfl)
theorem dJ19_makeLong_3_69 : decode cJ19_makeLong_3 69 = .ok (.bipush 56, 2) := dk_16 56 (dk_at dksJ19_makeLong_3_2 21 rfl rfl)
theorem dJ19_makeLong_3_71 : decode cJ19_makeLong_3 71 = .ok (.bipush 40, 2) := dk_16 40 (dk_at dksJ19_makeLong_3_3 0 rfl rfl)
theorem dJ19_makeLong_3_73 : decode cJ19_makeLong_3 73 = .ok (.invokestatic 784, 3) := dk_184 3 16 (dk_at dksJ19_makeLong_3_3 2 rfl rfl)
theorem dJ19_makeLong_3_76 : decode cJ19_makeLong_3 76 = .ok (.lshl, 1) := dk_121 (dk_at dksJ19_makeLong_3_3 5 rfl rfl)
theorem dJ19_makeLong_3_77 : decode cJ19_makeLong_3 77 = .ok (.lor, 1) := dk_129 (dk_at dksJ19_makeLong_3_3 6 rfl rfl)
theorem dJ19_makeLong_3_78 : decode cJ19_makeLong_3 78 = .ok (.iload 6, 2) := dk_21 6 (dk_at dksJ19_makeLong_3_3 7 rfl rfl)
theorem dJ19_makeLong_3_80 : decode cJ19_makeLong_3 80 = .ok (.invokestatic 781, 3) := dk_184 3 13 (dk_at dksJ19_makeLong_3_3 9 rfl rfl)
theorem dJ19_makeLong_3_83 : decode cJ19_makeLong_3 83 = .ok (.bipush 56, 2) := dk_16 56 (dk_at dksJ19_makeLong_3_3 12 rfl rfl)
theorem dJ19_makeLong_3_85 : decode cJ19_makeLong_3 85 = .ok (.bipush 48, 2) := dk_16 48 (dk_at dksJ19_makeLong_3_3 14 rfl rfl)
theorem dJ19_makeLong_3_87 : decode cJ19_makeLong_3 87 = .ok (.invokestatic 784, 3) := dk_184 3 16 (dk_at dksJ19_makeLong_3_3 16 rfl rfl)
theorem dJ19_makeLong_3_90 : decode cJ19_makeLong_3 90 = .ok (.lshl, 1) := dk_121 (dk_at dksJ19_makeLong_3_3 19 rfl rfl)
theorem dJ19_makeLong_3_91 : decode cJ19_makeLong_3 91 = .ok (.lor, 1) := dk_129 (dk_at dksJ19_makeLong_3_3 20 rfl rfl)
theorem dJ19_makeLong_3_92 : decode cJ19_makeLong_3 92 = .ok (.iload 7, 2) := dk_21 7 (dk_at dksJ19_makeLong_3_3 21 rfl rfl)
theorem dJ19_makeLong_3_94 : decode cJ19_makeLong_3 94 = .ok (.invokestatic 781, 3) := dk_184 3 13 (dk_at dksJ19_makeLong_3_4 0 rfl rfl)
theorem dJ19_makeLong_3_97 : decode cJ19_makeLong_3 97 = .ok (.bipush 56, 2) := dk_16 56 (dk_at dksJ19_makeLong_3_4 3 rfl rfl)
theorem dJ19_makeLong_3_99 : decode cJ19_makeLong_3 99 = .ok (.bipush 56, 2) := dk_16 56 (dk_at dksJ19_makeLong_3_4 5 rfl rfl)
theorem dJ19_makeLong_3_101 : decode cJ19_makeLong_3 101 = .ok (.invokestatic 784, 3) := dk_184 3 16 (dk_at dksJ19_makeLong_3_4 7 rfl rfl)
theorem dJ19_makeLong_3_104 : decode cJ19_makeLong_3 104 = .ok (.lshl, 1) := dk_121 (dk_at dksJ19_makeLong_3_4 10 rfl rfl)
theorem dJ19_makeLong_3_105 : decode cJ19_makeLong_3 105 = .ok (.lor, 1) := dk_129 (dk_at dksJ19_makeLong_3_4 11 rfl rfl)
theorem dJ19_makeLong_3_106 : decode cJ19_makeLong_3 106 = .ok (.lreturn, 1) := dk_173 (dk_at dksJ19_makeLong_3_4 12 rfl rfl)
abbrev cJ19_toUnsignedLong_3 : ByteArray := prog_50_method_368_code
def yJ19_toUnsignedLong_3 : MethodName := ⟨RJ19, "toUnsignedLong", "(B)J"⟩
def dkwJ19_toUnsignedLong_3_0 : List UInt8 := [26, 133, 20, 3, 40, 127, 173]
abbrev dktJ19_toUnsignedLong_3_0 : List UInt8 := dkwJ19_toUnsignedLong_3_0 ++ []
theorem dksJ19_toUnsignedLong_3_0 : cJ19_toUnsignedLong_3.data.toList.drop 0 = dktJ19_toUnsignedLong_3_0 := by decide +kernel
theorem dJ19_toUnsignedLong_3_0 : decode cJ19_toUnsignedLong_3 0 = .ok (.iload_n 0, 1) := dk_26 (dk_at dksJ19_toUnsignedLong_3_0 0 rfl rfl)
theorem dJ19_toUnsignedLong_3_1 : decode cJ19_toUnsignedLong_3 1 = .ok (.i2l, 1) := dk_133 (dk_at dksJ19_toUnsignedLong_3_0 1 rfl rfl)
theorem dJ19_toUnsignedLong_3_2 : decode cJ19_toUnsignedLong_3 2 = .ok (.ldc2_w 808, 3) := dk_20 3 40 (dk_at dksJ19_toUnsignedLong_3_0 2 rfl rfl)
theorem dJ19_toUnsignedLong_3_5 : decode cJ19_toUnsignedLong_3 5 = .ok (.land, 1) := dk_127 (dk_at dksJ19_toUnsignedLong_3_0 5 rfl rfl)
theorem dJ19_toUnsignedLong_3_6 : decode cJ19_toUnsignedLong_3 6 = .ok (.lreturn, 1) := dk_173 (dk_at dksJ19_toUnsignedLong_3_0 6 rfl rfl)
abbrev cJ19_getIntUnaligned : ByteArray := prog_50_method_336_code
def yJ19_getIntUnaligned : MethodName := ⟨RJ19, "getIntUnaligned", "(Ljava/lang/Object;J)I"⟩
def dkwJ19_getIntUnaligned_3 : List UInt8 := [43, 32, 20, 1, 93, 97, 182, 0, 39, 184, 2, 211, 172]
abbrev dktJ19_getIntUnaligned_3 : List UInt8 := dkwJ19_getIntUnaligned_3 ++ []
def dkwJ19_getIntUnaligned_2 : List UInt8 := [43, 32, 182, 0, 39, 42, 43, 32, 10, 97, 182, 0, 39, 42, 43, 32, 20, 0, 203, 97, 182, 0, 39, 42]
abbrev dktJ19_getIntUnaligned_2 : List UInt8 := dkwJ19_getIntUnaligned_2 ++ dktJ19_getIntUnaligned_3
def dkwJ19_getIntUnaligned_1 : List UInt8 := [154, 0, 23, 42, 43, 32, 182, 0, 47, 42, 43, 32, 20, 0, 203, 97, 182, 0, 47, 184, 2, 207, 172, 42]
abbrev dktJ19_getIntUnaligned_1 : List UInt8 := dkwJ19_getIntUnaligned_1 ++ dktJ19_getIntUnaligned_2
def dkwJ19_getIntUnaligned_0 : List UInt8 := [32, 20, 1, 93, 127, 9, 148, 154, 0, 10, 42, 43, 32, 182, 0, 17, 172, 32, 10, 127, 9, 148]
abbrev dktJ19_getIntUnaligned_0 : List UInt8 := dkwJ19_getIntUnaligned_0 ++ dktJ19_getIntUnaligned_1
theorem dksJ19_getIntUnaligned_0 : cJ19_getIntUnaligned.data.toList.drop 0 = dktJ19_getIntUnaligned_0 := by decide +kernel
theorem dksJ19_getIntUnaligned_1 : cJ19_getIntUnaligned.data.toList.drop 22 = dktJ19_getIntUnaligned_1 := dk_seg dksJ19_getIntUnaligned_0 22 rfl rfl
theorem dksJ19_getIntUnaligned_2 : cJ19_getIntUnaligned.data.toList.drop 46 = dktJ19_getIntUnaligned_2 := dk_seg dksJ19_getIntUnaligned_1 24 rfl rfl
theorem dksJ19_getIntUnaligned_3 : cJ19_getIntUnaligned.data.toList.drop 70 = dktJ19_getIntUnaligned_3 := dk_seg dksJ19_getIntUnaligned_2 24 rfl rfl
theorem dJ19_getIntUnaligned_0 : decode cJ19_getIntUnaligned 0 = .ok (.lload_n 2, 1) := dk_32 (dk_at dksJ19_getIntUnaligned_0 0 rfl rfl)
theorem dJ19_getIntUnaligned_1 : decode cJ19_getIntUnaligned 1 = .ok (.ldc2_w 349, 3) := dk_20 1 93 (dk_at dksJ19_getIntUnaligned_0 1 rfl rfl)
theorem dJ19_getIntUnaligned_4 : decode cJ19_getIntUnaligned 4 = .ok (.land, 1) := dk_127 (dk_at dksJ19_getIntUnaligned_0 4 rfl rfl)
theorem dJ19_getIntUnaligned_5 : decode cJ19_getIntUnaligned 5 = .ok (.lconst 0, 1) := dk_9 (dk_at dksJ19_getIntUnaligned_0 5 rfl rfl)
theorem dJ19_getIntUnaligned_6 : decode cJ19_getIntUnaligned 6 = .ok (.lcmp, 1) := dk_148 (dk_at dksJ19_getIntUnaligned_0 6 rfl rfl)
theorem dJ19_getIntUnaligned_7 : decode cJ19_getIntUnaligned 7 = .ok (.ifCond .ne 10, 3) := dk_154 0 10 (dk_at dksJ19_getIntUnaligned_0 7 rfl rfl)
theorem dJ19_getIntUnaligned_10 : decode cJ19_getIntUnaligned 10 = .ok (.aload_n 0, 1) := dk_42 (dk_at dksJ19_getIntUnaligned_0 10 rfl rfl)
theorem dJ19_getIntUnaligned_11 : decode cJ19_getIntUnaligned 11 = .ok (.aload_n 1, 1) := dk_43 (dk_at dksJ19_getIntUnaligned_0 11 rfl rfl)
theorem dJ19_getIntUnaligned_12 : decode cJ19_getIntUnaligned 12 = .ok (.lload_n 2, 1) := dk_32 (dk_at dksJ19_getIntUnaligned_0 12 rfl rfl)
theorem dJ19_getIntUnaligned_13 : decode cJ19_getIntUnaligned 13 = .ok (.invokevirtual 17, 3) := dk_182 0 17 (dk_at dksJ19_getIntUnaligned_0 13 rfl rfl)
theorem dJ19_getIntUnaligned_16 : decode cJ19_getIntUnaligned 16 = .ok (.ireturn, 1) := dk_172 (dk_at dksJ19_getIntUnaligned_0 16 rfl rfl)
theorem dJ19_getIntUnaligned_17 : decode cJ19_getIntUnaligned 17 = .ok (.lload_n 2, 1) := dk_32 (dk_at dksJ19_getIntUnaligned_0 17 rfl rfl)
theorem dJ19_getIntUnaligned_18 : decode cJ19_getIntUnaligned 18 = .ok (.lconst 1, 1) := dk_10 (dk_at dksJ19_getIntUnaligned_0 18 rfl rfl)
theorem dJ19_getIntUnaligned_19 : decode cJ19_getIntUnaligned 19 = .ok (.land, 1) := dk_127 (dk_at dksJ19_getIntUnaligned_0 19 rfl rfl)
theorem dJ19_getIntUnaligned_20 : decode cJ19_getIntUnaligned 20 = .ok (.lconst 0, 1) := dk_9 (dk_at dksJ19_getIntUnaligned_0 20 rfl rfl)
theorem dJ19_getIntUnaligned_21 : decode cJ19_getIntUnaligned 21 = .ok (.lcmp, 1) := dk_148 (dk_at dksJ19_getIntUnaligned_0 21 rfl rfl)
theorem dJ19_getIntUnaligned_22 : decode cJ19_getIntUnaligned 22 = .ok (.ifCond .ne 23, 3) := dk_154 0 23 (dk_at dksJ19_getIntUnaligned_1 0 rfl rfl)
theorem dJ19_getIntUnaligned_25 : decode cJ19_getIntUnaligned 25 = .ok (.aload_n 0, 1) := dk_42 (dk_at dksJ19_getIntUnaligned_1 3 rfl rfl)
theorem dJ19_getIntUnaligned_26 : decode cJ19_getIntUnaligned 26 = .ok (.aload_n 1, 1) := dk_43 (dk_at dksJ19_getIntUnaligned_1 4 rfl rfl)
theorem dJ19_getIntUnaligned_27 : decode cJ19_getIntUnaligned 27 = .ok (.lload_n 2, 1) := dk_32 (dk_at dksJ19_getIntUnaligned_1 5 rfl rfl)
theorem dJ19_getIntUnaligned_28 : decode cJ19_getIntUnaligned 28 = .ok (.invokevirtual 47, 3) := dk_182 0 47 (dk_at dksJ19_getIntUnaligned_1 6 rfl rfl)
theorem dJ19_getIntUnaligned_31 : decode cJ19_getIntUnaligned 31 = .ok (.aload_n 0, 1) := dk_42 (dk_at dksJ19_getIntUnaligned_1 9 rfl rfl)
theorem dJ19_getIntUnaligned_32 : decode cJ19_getIntUnaligned 32 = .ok (.aload_n 1, 1) := dk_43 (dk_at dksJ19_getIntUnaligned_1 10 rfl rfl)
theorem dJ19_getIntUnaligned_33 : decode cJ19_getIntUnaligned 33 = .ok (.lload_n 2, 1) := dk_32 (dk_at dksJ19_getIntUnaligned_1 11 rfl rfl)
theorem dJ19_getIntUnaligned_34 : decode cJ19_getIntUnaligned 34 = .ok (.ldc2_w 203, 3) := dk_20 0 203 (dk_at dksJ19_getIntUnaligned_1 12 rfl rfl)
theorem dJ19_getIntUnaligned_37 : decode cJ19_getIntUnaligned 37 = .ok (.ladd, 1) := dk_97 (dk_at dksJ19_getIntUnaligned_1 15 rfl rfl)
theorem dJ19_getIntUnaligned_38 : decode cJ19_getIntUnaligned 38 = .ok (.invokevirtual 47, 3) := dk_182 0 47 (dk_at dksJ19_getIntUnaligned_1 16 rfl rfl)
theorem dJ19_getIntUnaligned_41 : decode cJ19_getIntUnaligned 41 = .ok (.invokestatic 719, 3) := dk_184 2 207 (dk_at dksJ19_getIntUnaligned_1 19 rfl rfl)
theorem dJ19_getIntUnaligned_44 : decode cJ19_getIntUnaligned 44 = .ok (.ireturn, 1) := dk_172 (dk_at dksJ19_getIntUnaligned_1 22 rfl rfl)
theorem dJ19_getIntUnaligned_45 : decode cJ19_getIntUnaligned 45 = .ok (.aload_n 0, 1) := dk_42 (dk_at dksJ19_getIntUnaligned_1 23 rfl rfl)
theorem dJ19_getIntUnaligned_46 : decode cJ19_getIntUnaligned 46 = .ok (.aload_n 1, 1) := dk_43 (dk_at dksJ19_getIntUnaligned_2 0 rfl rfl)
theorem dJ19_getIntUnaligned_47 : decode cJ19_getIntUnaligned 47 = .ok (.lload_n 2, 1) := dk_32 (dk_at dksJ19_getIntUnaligned_2 1 rfl rfl)
theorem dJ19_getIntUnaligned_48 : decode cJ19_getIntUnaligned 48 = .ok (.invokevirtual 39, 3) := dk_182 0 39 (dk_at dksJ19_getIntUnaligned_2 2 rfl rfl)
theorem dJ19_getIntUnaligned_51 : decode cJ19_getIntUnaligned 51 = .ok (.aload_n 0, 1) := dk_42 (dk_at dksJ19_getIntUnaligned_2 5 rfl rfl)
theorem dJ19_getIntUnaligned_52 : decode cJ19_getIntUnaligned 52 = .ok (.aload_n 1, 1) := dk_43 (dk_at dksJ19_getIntUnaligned_2 6 rfl rfl)
theorem dJ19_getIntUnaligned_53 : decode cJ19_getIntUnaligned 53 = .ok (.lload_n 2, 1) := dk_32 (dk_at dksJ19_getIntUnaligned_2 7 rfl rfl)
theorem dJ19_getIntUnaligned_54 : decode cJ19_getIntUnaligned 54 = .ok (.lconst 1, 1) := dk_10 (dk_at dksJ19_getIntUnaligned_2 8 rfl rfl)
theorem dJ19_getIntUnaligned_55 : decode cJ19_getIntUnaligned 55 = .ok (.ladd, 1) := dk_97 (dk_at dksJ19_getIntUnaligned_2 9 rfl rfl)
theorem dJ19_getIntUnaligned_56 : decode cJ19_getIntUnaligned 56 = .ok (.invokevirtual 39, 3) := dk_182 0 39 (dk_at dksJ19_getIntUnaligned_2 10 rfl rfl)
theorem dJ19_getIntUnaligned_59 : decode cJ19_getIntUnaligned 59 = .ok (.aload_n 0, 1) := dk_42 (dk_at dksJ19_getIntUnaligned_2 13 rfl rfl)
theorem dJ19_getIntUnaligned_60 : decode cJ19_getIntUnaligned 60 = .ok (.aload_n 1, 1) := dk_43 (dk_at dksJ19_getIntUnaligned_2 14 rfl rfl)
theorem dJ19_getIntUnaligned_61 : decode cJ19_getIntUnaligned 61 = .ok (.lload_n 2, 1) := dk_32 (dk_at dksJ19_getIntUnaligned_2 15 rfl rfl)
theorem dJ19_getIntUnaligned_62 : decode cJ19_getIntUnaligned 62 = .ok (.ldc2_w 203, 3) := dk_20 0 203 (dk_at dksJ19_getIntUnaligned_2 16 rfl rfl)
theorem dJ19_getIntUnaligned_65 : decode cJ19_getIntUnaligned 65 = .ok (.ladd, 1) := dk_97 (dk_at dksJ19_getIntUnaligned_2 19 rfl rfl)
theorem dJ19_getIntUnaligned_66 : decode cJ19_getIntUnaligned 66 = .ok (.invokevirtual 39, 3) := dk_182 0 39 (dk_at dksJ19_getIntUnaligned_2 20 rfl rfl)
theorem dJ19_getIntUnaligned_69 : decode cJ19_getIntUnaligned 69 = .ok (.aload_n 0, 1) := dk_42 (dk_at dksJ19_getIntUnaligned_2 23 rfl rfl)
theorem dJ19_getIntUnaligned_70 : decode cJ19_getIntUnaligned 70 = .ok (.aload_n 1, 1) := dk_43 (dk_at dksJ19_getIntUnaligned_3 0 rfl rfl)
theorem dJ19_getIntUnaligned_71 : decode cJ19_getIntUnaligned 71 = .ok (.lload_n 2, 1) := dk_32 (dk_at dksJ19_getIntUnaligned_3 1 rfl rfl)
theorem dJ19_getIntUnaligned_72 : decode cJ19_getIntUnaligned 72 = .ok (.ldc2_w 349, 3) := dk_20 1 93 (dk_at dksJ19_getIntUnaligned_3 2 rfl rfl)
theorem dJ19_getIntUnaligned_75 : decode cJ19_getIntUnaligned 75 = .ok (.ladd, 1) := dk_97 (dk_at dksJ19_getIntUnaligned_3 5 rfl rfl)
theorem dJ19_getIntUnaligned_76 : decode cJ19_getIntUnaligned 76 = .ok (.invokevirtual 39, 3) := dk_182 0 39 (dk_at dksJ19_getIntUnaligned_3 6 rfl rfl)
theorem dJ19_getIntUnaligned_79 : decode cJ19_getIntUnaligned 79 = .ok (.invokestatic 723, 3) := dk_184 2 211 (dk_at dksJ19_getIntUnaligned_3 9 rfl rfl)
theorem dJ19_getIntUnaligned_82 : decode cJ19_getIntUnaligned 82 = .ok (.ireturn, 1) := dk_172 (dk_at dksJ19_getIntUnaligned_3 12 rfl rfl)
abbrev cJ19_makeInt : ByteArray := prog_50_method_354_code
def yJ19_makeInt : MethodName := ⟨RJ19, "makeInt", "(SS)I"⟩
def dkwJ19_makeInt_1 : List UInt8 := [172]
abbrev dktJ19_makeInt_1 : List UInt8 := dkwJ19_makeInt_1 ++ []
def dkwJ19_makeInt_0 : List UInt8 := [26, 184, 3, 24, 16, 16, 3, 184, 3, 16, 120, 27, 184, 3, 24, 16, 16, 16, 16, 184, 3, 16, 120, 128]
abbrev dktJ19_makeInt_0 : List UInt8 := dkwJ19_makeInt_0 ++ dktJ19_makeInt_1
theorem dksJ19_makeInt_0 : cJ19_makeInt.data.toList.drop 0 = dktJ19_makeInt_0 := by decide +kernel
theorem dksJ19_makeInt_1 : cJ19_makeInt.data.toList.drop 24 = dktJ19_makeInt_1 := dk_seg dksJ19_makeInt_0 24 rfl rfl
theorem dJ19_makeInt_0 : decode cJ19_makeInt 0 = .ok (.iload_n 0, 1) := dk_26 (dk_at dksJ19_makeInt_0 0 rfl rfl)
theorem dJ19_makeInt_1 : decode cJ19_makeInt 1 = .ok (.invokestatic 792, 3) := dk_184 3 24 (dk_at dksJ19_makeInt_0 1 rfl rfl)
theorem dJ19_makeInt_4 : decode cJ19_makeInt 4 = .ok (.bipush 16, 2) := dk_16 16 (dk_at dksJ19_makeInt_0 4 rfl rfl)
theorem dJ19_makeInt_6 : decode cJ19_makeInt 6 = .ok (.iconst 0, 1) := dk_3 (dk_at dksJ19_makeInt_0 6 rfl rfl)
theorem dJ19_makeInt_7 : decode cJ19_makeInt 7 = .ok (.invokestatic 784, 3) := dk_184 3 16 (dk_at dksJ19_makeInt_0 7 rfl rfl)
theorem dJ19_makeInt_10 : decode cJ19_makeInt 10 = .ok (.ishl, 1) := dk_120 (dk_at dksJ19_makeInt_0 10 rfl rfl)
theorem dJ19_makeInt_11 : decode cJ19_makeInt 11 = .ok (.iload_n 1, 1) := dk_27 (dk_at dksJ19_makeInt_0 11 rfl rfl)
theorem dJ19_makeInt_12 : decode cJ19_makeInt 12 = .ok (.invokestatic 792, 3) := dk_184 3 24 (dk_at dksJ19_makeInt_0 12 rfl rfl)
theorem dJ19_makeInt_15 : decode cJ19_makeInt 15 = .ok (.bipush 16, 2) := dk_16 16 (dk_at dksJ19_makeInt_0 15 rfl rfl)
theorem dJ19_makeInt_17 : decode cJ19_makeInt 17 = .ok (.bipush 16, 2) := dk_16 16 (dk_at dksJ19_makeInt_0 17 rfl rfl)
theorem dJ19_makeInt_19 : decode cJ19_makeInt 19 = .ok (.invokestatic 784, 3) := dk_184 3 16 (dk_at dksJ19_makeInt_0 19 rfl rfl)
theorem dJ19_makeInt_22 : decode cJ19_makeInt 22 = .ok (.ishl, 1) := dk_120 (dk_at dksJ19_makeInt_0 22 rfl rfl)
theorem dJ19_makeInt_23 : decode cJ19_makeInt 23 = .ok (.ior, 1) := dk_128 (dk_at dksJ19_makeInt_0 23 rfl rfl)
theorem dJ19_makeInt_24 : decode cJ19_makeInt 24 = .ok (.ireturn, 1) := dk_172 (dk_at dksJ19_makeInt_1 0 rfl rfl)
abbrev cJ19_toUnsignedInt : ByteArray := prog_50_method_367_code
def yJ19_toUnsignedInt : MethodName := ⟨RJ19, "toUnsignedInt", "(S)I"⟩
def dkwJ19_toUnsignedInt_0 : List UInt8 := [26, 19, 1, 118, 126, 172]
abbrev dktJ19_toUnsignedInt_0 : List UInt8 := dkwJ19_toUnsignedInt_0 ++ []
theorem dksJ19_toUnsignedInt_0 : cJ19_toUnsignedInt.data.toList.drop 0 = dktJ19_toUnsignedInt_0 := by decide +kernel
theorem dJ19_toUnsignedInt_0 : decode cJ19_toUnsignedInt 0 = .ok (.iload_n 0, 1) := dk_26 (dk_at dksJ19_toUnsignedInt_0 0 rfl rfl)
theorem dJ19_toUnsignedInt_1 : decode cJ19_toUnsignedInt 1 = .ok (.ldc_w 374, 3) := dk_19 1 118 (dk_at dksJ19_toUnsignedInt_0 1 rfl rfl)
theorem dJ19_toUnsignedInt_4 : decode cJ19_toUnsignedInt 4 = .ok (.iand, 1) := dk_126 (dk_at dksJ19_toUnsignedInt_0 4 rfl rfl)
theorem dJ19_toUnsignedInt_5 : decode cJ19_toUnsignedInt 5 = .ok (.ireturn, 1) := dk_172 (dk_at dksJ19_toUnsignedInt_0 5 rfl rfl)
abbrev cJ19_makeInt_2 : ByteArray := prog_50_method_355_code
def yJ19_makeInt_2 : MethodName := ⟨RJ19, "makeInt", "(BBBB)I"⟩
def dkwJ19_makeInt_2_2 : List UInt8 := [120, 128, 172]
abbrev dktJ19_makeInt_2_2 : List UInt8 := dkwJ19_makeInt_2_2 ++ []
def dkwJ19_makeInt_2_1 : List UInt8 := [28, 184, 3, 28, 16, 24, 16, 16, 184, 3, 16, 120, 128, 29, 184, 3, 28, 16, 24, 16, 24, 184, 3, 16]
abbrev dktJ19_makeInt_2_1 : List UInt8 := dkwJ19_makeInt_2_1 ++ dktJ19_makeInt_2_2
def dkwJ19_makeInt_2_0 : List UInt8 := [26, 184, 3, 28, 16, 24, 3, 184, 3, 16, 120, 27, 184, 3, 28, 16, 24, 16, 8, 184, 3, 16, 120, 128]
abbrev dktJ19_makeInt_2_0 : List UInt8 := dkwJ19_makeInt_2_0 ++ dktJ19_makeInt_2_1
theorem dksJ19_makeInt_2_0 : cJ19_makeInt_2.data.toList.drop 0 = dktJ19_makeInt_2_0 := by decide +kernel
theorem dksJ19_makeInt_2_1 : cJ19_makeInt_2.data.toList.drop 24 = dktJ19_makeInt_2_1 := dk_seg dksJ19_makeInt_2_0 24 rfl rfl
theorem dksJ19_makeInt_2_2 : cJ19_makeInt_2.data.toList.drop 48 = dktJ19_makeInt_2_2 := dk_seg dksJ19_makeInt_2_1 24 rfl rfl
theorem dJ19_makeInt_2_0 : decode cJ19_makeInt_2 0 = .ok (.iload_n 0, 1) := dk_26 (dk_at dksJ19_makeInt_2_0 0 rfl rfl)
theorem dJ19_makeInt_2_1 : decode cJ19_makeInt_2 1 = .ok (.invokestatic 796, 3) := dk_184 3 28 (dk_at dksJ19_makeInt_2_0 1 rfl rfl)
theorem dJ19_makeInt_2_4 : decode cJ19_makeInt_2 4 = .ok (.bipush 24, 2) := dk_16 24 (dk_at dksJ19_makeInt_2_0 4 rfl rfl)
theorem dJ19_makeInt_2_6 : decode cJ19_makeInt_2 6 = .ok (.iconst 0, 1) := dk_3 (dk_at dksJ19_makeInt_2_0 6 rfl rfl)
theorem dJ19_makeInt_2_7 : decode cJ19_makeInt_2 7 = .ok (.invokestatic 784, 3) := dk_184 3 16 (dk_at dksJ19_makeInt_2_0 7 rfl rfl)
theorem dJ19_makeInt_2_10 : decode cJ19_makeInt_2 10 = .ok (.ishl, 1) := dk_120 (dk_at dksJ19_makeInt_2_0 10 rfl rfl)
theorem dJ19_makeInt_2_11 : decode cJ19_makeInt_2 11 = .ok (.iload_n 1, 1) := dk_27 (dk_at dksJ19_makeInt_2_0 11 rfl rfl)
theorem dJ19_makeInt_2_12 : decode cJ19_makeInt_2 12 = .ok (.invokestatic 796, 3) := dk_184 3 28 (dk_at dksJ19_makeInt_2_0 12 rfl rfl)
theorem dJ19_makeInt_2_15 : decode cJ19_makeInt_2 15 = .ok (.bipush 24, 2) := dk_16 24 (dk_at dksJ19_makeInt_2_0 15 rfl rfl)
theorem dJ19_makeInt_2_17 : decode cJ19_makeInt_2 17 = .ok (.bipush 8, 2) := dk_16 8 (dk_at dksJ19_makeInt_2_0 17 rfl rfl)
theorem dJ19_makeInt_2_19 : decode cJ19_makeInt_2 19 = .ok (.invokestatic 784, 3) := dk_184 3 16 (dk_at dksJ19_makeInt_2_0 19 rfl rfl)
theorem dJ19_makeInt_2_22 : decode cJ19_makeInt_2 22 = .ok (.ishl, 1) := dk_120 (dk_at dksJ19_makeInt_2_0 22 rfl rfl)
theorem dJ19_makeInt_2_23 : decode cJ19_makeInt_2 23 = .ok (.ior, 1) := dk_128 (dk_at dksJ19_makeInt_2_0 23 rfl rfl)
theorem dJ19_makeInt_2_24 : decode cJ19_makeInt_2 24 = .ok (.iload_n 2, 1) := dk_28 (dk_at dksJ19_makeInt_2_1 0 rfl rfl)
theorem dJ19_makeInt_2_25 : decode cJ19_makeInt_2 25 = .ok (.invokestatic 796, 3) := dk_184 3 28 (dk_at dksJ19_makeInt_2_1 1 rfl rfl)
theorem dJ19_makeInt_2_28 : decode cJ19_makeInt_2 28 = .ok (.bipush 24, 2) := dk_16 24 (dk_at dksJ19_makeInt_2_1 4 rfl rfl)
theorem dJ19_makeInt_2_30 : decode cJ19_makeInt_2 30 = .ok (.bipush 16, 2) := dk_16 16 (dk_at dksJ19_makeInt_2_1 6 rfl rfl)
theorem dJ19_makeInt_2_32 : decode cJ19_makeInt_2 32 = .ok (.invokestatic 784, 3) := dk_184 3 16 (dk_at dksJ19_makeInt_2_1 8 rfl rfl)
theorem dJ19_makeInt_2_35 : decode cJ19_makeInt_2 35 = .ok (.ishl, 1) := dk_120 (dk_at dksJ19_makeInt_2_1 11 rfl rfl)
theorem dJ19_makeInt_2_36 : decode cJ19_makeInt_2 36 = .ok (.ior, 1) := dk_128 (dk_at dksJ19_makeInt_2_1 12 rfl rfl)
theorem dJ19_makeInt_2_37 : decode cJ19_makeInt_2 37 = .ok (.iload_n 3, 1) := dk_29 (dk_at dksJ19_makeInt_2_1 13 rfl rfl)
theorem dJ19_makeInt_2_38 : decode cJ19_makeInt_2 38 = .ok (.invokestatic 796, 3) := dk_184 3 28 (dk_at dksJ19_makeInt_2_1 14 rfl rfl)
theorem dJ19_makeInt_2_41 : decode cJ19_makeInt_2 41 = .ok (.bipush 24, 2) := dk_16 24 (dk_at dksJ19_makeInt_2_1 17 rfl rfl)
theorem dJ19_makeInt_2_43 : decode cJ19_makeInt_2 43 = .ok (.bipush 24, 2) := dk_16 24 (dk_at dksJ19_makeInt_2_1 19 rfl rfl)
theorem dJ19_makeInt_2_45 : decode cJ19_makeInt_2 45 = .ok (.invokestatic 784, 3) := dk_184 3 16 (dk_at dksJ19_makeInt_2_1 21 rfl rfl)
theorem dJ19_makeInt_2_48 : decode cJ19_makeInt_2 48 = .ok (.ishl, 1) := dk_120 (dk_at dksJ19_makeInt_2_2 0 rfl rfl)
theorem dJ19_makeInt_2_49 : decode cJ19_makeInt_2 49 = .ok (.ior, 1) := dk_128 (dk_at dksJ19_makeInt_2_2 1 rfl rfl)
theorem dJ19_makeInt_2_50 : decode cJ19_makeInt_2 50 = .ok (.ireturn, 1) := dk_172 (dk_at dksJ19_makeInt_2_2 2 rfl rfl)
abbrev cJ19_toUnsignedInt_2 : ByteArray := prog_50_method_366_code
def yJ19_toUnsignedInt_2 : MethodName := ⟨RJ19, "toUnsignedInt", "(B)I"⟩
def dkwJ19_toUnsignedInt_2_0 : List UInt8 := [26, 17, 0, 255, 126, 172]
abbrev dktJ19_toUnsignedInt_2_0 : List UInt8 := dkwJ19_toUnsignedInt_2_0 ++ []
theorem dksJ19_toUnsignedInt_2_0 : cJ19_toUnsignedInt_2.data.toList.drop 0 = dktJ19_toUnsignedInt_2_0 := by decide +kernel
theorem dJ19_toUnsignedInt_2_0 : decode cJ19_toUnsignedInt_2 0 = .ok (.iload_n 0, 1) := dk_26 (dk_at dksJ19_toUnsignedInt_2_0 0 rfl rfl)
theorem dJ19_toUnsignedInt_2_1 : decode cJ19_toUnsignedInt_2 1 = .ok (.sipush 255, 3) := dk_17 0 255 (dk_at dksJ19_toUnsignedInt_2_0 1 rfl rfl)
theorem dJ19_toUnsignedInt_2_4 : decode cJ19_toUnsignedInt_2 4 = .ok (.iand, 1) := dk_126 (dk_at dksJ19_toUnsignedInt_2_0 4 rfl rfl)
theorem dJ19_toUnsignedInt_2_5 : decode cJ19_toUnsignedInt_2 5 = .ok (.ireturn, 1) := dk_172 (dk_at dksJ19_toUnsignedInt_2_0 5 rfl rfl)
theorem q169 : (Jvm.Cond.initialized "jdk/internal/misc/Unsafe") ∈ lw_all := lw_g (lw_at lw_m1 32 rfl) rfl
theorem q1242 : (Jvm.Cond.laysStatic "jdk/internal/misc/Unsafe" "ARRAY_BYTE_BASE_OFFSET" "I") ∈ lw_tbl := lw_at lw_m5 145 rfl
theorem q1253 : (Jvm.Cond.instanceMethod ({ cls := "jdk/internal/misc/Unsafe", name := "getLongUnaligned", desc := "(Ljava/lang/Object;J)J" } : Jvm.MethodName)) ∈ lw_all := lw_g (lw_at lw_m5 156 rfl) rfl
theorem q1254 : (Jvm.Cond.selects "jdk/internal/misc/Unsafe" ({ cls := "jdk/internal/misc/Unsafe", name := "getLongUnaligned", desc := "(Ljava/lang/Object;J)J" } : Jvm.MethodName) ({ cls := "jdk/internal/misc/Unsafe", name := "getLongUnaligned", desc := "(Ljava/lang/Object;J)J" } : Jvm.MethodName)) ∈ lw_all := lw_g (lw_at lw_m5 157 rfl) rfl
theorem q1255 : (Jvm.Cond.code ({ cls := "jdk/internal/misc/Unsafe", name := "getLongUnaligned", desc := "(Ljava/lang/Object;J)J" } : Jvm.MethodName) prog_50_method_334_code (4 : Nat) (Option.some Jvm.ClassFile.FieldType.long)) ∈ lw_all := lw_g (lw_at lw_m5 158 rfl) rfl
theorem q1256 : (Jvm.Cond.constantLong "jdk/internal/misc/Unsafe" (696 : Nat) (7 : Int64)) ∈ lw_all := lw_g (lw_at lw_m5 159 rfl) rfl
theorem q1257 : (Jvm.Cond.methodLink "jdk/internal/misc/Unsafe" (27 : Nat) ({ cls := "jdk/internal/misc/Unsafe", name := "getLong", desc := "(Ljava/lang/Object;J)J" } : Jvm.MethodName)) ∈ lw_all := lw_g (lw_at lw_m5 160 rfl) rfl
theorem q1258 : (Jvm.Cond.instanceMethod ({ cls := "jdk/internal/misc/Unsafe", name := "getLong", desc := "(Ljava/lang/Object;J)J" } : Jvm.MethodName)) ∈ lw_all := lw_g (lw_at lw_m5 161 rfl) rfl
theorem q1259 : (Jvm.Cond.selects "jdk/internal/misc/Unsafe" ({ cls := "jdk/internal/misc/Unsafe", name := "getLong", desc := "(Ljava/lang/Object;J)J" } : Jvm.MethodName) ({ cls := "jdk/internal/misc/Unsafe", name := "getLong", desc := "(Ljava/lang/Object;J)J" } : Jvm.MethodName)) ∈ lw_all := lw_g (lw_at lw_m5 162 rfl) rfl
theorem q1260 : (Jvm.Cond.native ({ cls := "jdk/internal/misc/Unsafe", name := "getLong", desc := "(Ljava/lang/Object;J)J" } : Jvm.MethodName)) ∈ lw_all := lw_g (lw_at lw_m5 163 rfl) rfl
theorem q1261 : (Jvm.Cond.constantLong "jdk/internal/misc/Unsafe" (349 : Nat) (3 : Int64)) ∈ lw_all := lw_g (lw_at lw_m5 164 rfl) rfl
theorem q1262 : (Jvm.Cond.methodLink "jdk/internal/misc/Unsafe" (17 : Nat) ({ cls := "jdk/internal/misc/Unsafe", name := "getInt", desc := "(Ljava/lang/Object;J)I" } : Jvm.MethodName)) ∈ lw_all := lw_g (lw_at lw_m5 165 rfl) rfl
theorem q1263 : (Jvm.Cond.instanceMethod ({ cls := "jdk/internal/misc/Unsafe", name := "getInt", desc := "(Ljava/lang/Object;J)I" } : Jvm.MethodName)) ∈ lw_all := lw_g (lw_at lw_m5 166 rfl) rfl
theorem q1264 : (Jvm.Cond.selects "jdk/internal/misc/Unsafe" ({ cls := "jdk/internal/misc/Unsafe", name := "getInt", desc := "(Ljava/lang/Object;J)I" } : Jvm.MethodName) ({ cls := "jdk/internal/misc/Unsafe", name := "getInt", desc := "(Ljava/lang/Object;J)I" } : Jvm.MethodName)) ∈ lw_all := lw_g (lw_at lw_m5 167 rfl) rfl
theorem q1265 : (Jvm.Cond.native ({ cls := "jdk/internal/misc/Unsafe", name := "getInt", desc := "(Ljava/lang/Object;J)I" } : Jvm.MethodName)) ∈ lw_all := lw_g (lw_at lw_m5 168 rfl) rfl
theorem q1266 : (Jvm.Cond.constantLong "jdk/internal/misc/Unsafe" (205 : Nat) (4 : Int64)) ∈ lw_all := lw_g (lw_at lw_m5 169 rfl) rfl
theorem q1267 : (Jvm.Cond.methodLink "jdk/internal/misc/Unsafe" (698 : Nat) ({ cls := "jdk/internal/misc/Unsafe", name := "makeLong", desc := "(II)J" } : Jvm.MethodName)) ∈ lw_all := lw_g (lw_at lw_m5 170 rfl) rfl
theorem q1268 : (Jvm.Cond.static ({ cls := "jdk/internal/misc/Unsafe", name := "makeLong", desc := "(II)J" } : Jvm.MethodName)) ∈ lw_all := lw_g (lw_at lw_m5 171 rfl) rfl
theorem q1269 : (Jvm.Cond.code ({ cls := "jdk/internal/misc/Unsafe", name := "makeLong", desc := "(II)J" } : Jvm.MethodName) prog_50_method_353_code (2 : Nat) (Option.some Jvm.ClassFile.FieldType.long)) ∈ lw_all := lw_g (lw_at lw_m5 172 rfl) rfl
theorem q1270 : (Jvm.Cond.methodLink "jdk/internal/misc/Unsafe" (791 : Nat) ({ cls := "jdk/internal/misc/Unsafe", name := "toUnsignedLong", desc := "(I)J" } : Jvm.MethodName)) ∈ lw_all := lw_g (lw_at lw_m5 173 rfl) rfl
theorem q1271 : (Jvm.Cond.static ({ cls := "jdk/internal/misc/Unsafe", name := "toUnsignedLong", desc := "(I)J" } : Jvm.MethodName)) ∈ lw_all := lw_g (lw_at lw_m5 174 rfl) rfl
theorem q1272 : (Jvm.Cond.code ({ cls := "jdk/internal/misc/Unsafe", name := "toUnsignedLong", desc := "(I)J" } : Jvm.MethodName) prog_50_method_370_code (1 : Nat) (Option.some Jvm.ClassFile.FieldType.long)) ∈ lw_all := lw_g (lw_at lw_m5 175 rfl) rfl
theorem q1273 : (Jvm.Cond.constantLong "jdk/internal/misc/Unsafe" (812 : Nat) (4294967295 : Int64)) ∈ lw_all := lw_g (lw_at lw_m5 176 rfl) rfl
theorem q1274 : (Jvm.Cond.methodLink "jdk/internal/misc/Unsafe" (784 : Nat) ({ cls := "jdk/internal/misc/Unsafe", name := "pickPos", desc := "(II)I" } : Jvm.MethodName)) ∈ lw_all := lw_g (lw_at lw_m5 177 rfl) rfl
theorem q1275 : (Jvm.Cond.static ({ cls := "jdk/internal/misc/Unsafe", name := "pickPos", desc := "(II)I" } : Jvm.MethodName)) ∈ lw_all := lw_g (lw_at lw_m5 178 rfl) rfl
theorem q1276 : (Jvm.Cond.code ({ cls := "jdk/internal/misc/Unsafe", name := "pickPos", desc := "(II)I" } : Jvm.MethodName) prog_50_method_350_code (2 : Nat) (Option.some Jvm.ClassFile.FieldType.int)) ∈ lw_all := lw_g (lw_at lw_m5 179 rfl) rfl
theorem q1277 : (Jvm.Cond.fieldLink "jdk/internal/misc/Unsafe" (351 : Nat) "jdk/internal/misc/UnsafeConstants" "BIG_ENDIAN" "Z") ∈ lw_all := lw_g (lw_at lw_m5 180 rfl) rfl
theorem q1279 : (Jvm.Cond.methodLink "jdk/internal/misc/Unsafe" (47 : Nat) ({ cls := "jdk/internal/misc/Unsafe", name := "getShort", desc := "(Ljava/lang/Object;J)S" } : Jvm.MethodName)) ∈ lw_all := lw_g (lw_at lw_m5 182 rfl) rfl
theorem q1280 : (Jvm.Cond.instanceMethod ({ cls := "jdk/internal/misc/Unsafe", name := "getShort", desc := "(Ljava/lang/Object;J)S" } : Jvm.MethodName)) ∈ lw_all := lw_g (lw_at lw_m5 183 rfl) rfl
theorem q1281 : (Jvm.Cond.selects "jdk/internal/misc/Unsafe" ({ cls := "jdk/internal/misc/Unsafe", name := "getShort", desc := "(Ljava/lang/Object;J)S" } : Jvm.MethodName) ({ cls := "jdk/internal/misc/Unsafe", name := "getShort", desc := "(Ljava/lang/Object;J)S" } : Jvm.MethodName)) ∈ lw_all := lw_g (lw_at lw_m5 184 rfl) rfl
theorem q1282 : (Jvm.Cond.native ({ cls := "jdk/internal/misc/Unsafe", name := "getShort", desc := "(Ljava/lang/Object;J)S" } : Jvm.MethodName)) ∈ lw_all := lw_g (lw_at lw_m5 185 rfl) rfl
theorem q1283 : (Jvm.Cond.constantLong "jdk/internal/misc/Unsafe" (203 : Nat) (2 : Int64)) ∈ lw_all := lw_g (lw_at lw_m5 186 rfl) rfl
theorem q1284 : (Jvm.Cond.constantLong "jdk/internal/misc/Unsafe" (702 : Nat) (6 : Int64)) ∈ lw_all := lw_g (lw_at lw_m5 187 rfl) rfl
theorem q1285 : (Jvm.Cond.methodLink "jdk/internal/misc/Unsafe" (704 : Nat) ({ cls := "jdk/internal/misc/Unsafe", name := "makeLong", desc := "(SSSS)J" } : Jvm.MethodName)) ∈ lw_all := lw_g (lw_at lw_m5 188 rfl) rfl
theorem q1286 : (Jvm.Cond.static ({ cls := "jdk/internal/misc/Unsafe", name := "makeLong", desc := "(SSSS)J" } : Jvm.MethodName)) ∈ lw_all := lw_g (lw_at lw_m5 189 rfl) rfl
theorem q1287 : (Jvm.Cond.code ({ cls := "jdk/internal/misc/Unsafe", name := "makeLong", desc := "(SSSS)J" } : Jvm.MethodName) prog_50_method_352_code (4 : Nat) (Option.some Jvm.ClassFile.FieldType.long)) ∈ lw_all := lw_g (lw_at lw_m5 190 rfl) rfl
theorem q1288 : (Jvm.Cond.methodLink "jdk/internal/misc/Unsafe" (788 : Nat) ({ cls := "jdk/internal/misc/Unsafe", name := "toUnsignedLong", desc := "(S)J" } : Jvm.MethodName)) ∈ lw_all := lw_g (lw_at lw_m5 191 rfl) rfl
theorem q1289 : (Jvm.Cond.static ({ cls := "jdk/internal/misc/Unsafe", name := "toUnsignedLong", desc := "(S)J" } : Jvm.MethodName)) ∈ lw_all := lw_g (lw_at lw_m5 192 rfl) rfl
theorem q1290 : (Jvm.Cond.code ({ cls := "jdk/internal/misc/Unsafe", name := "toUnsignedLong", desc := "(S)J" } : Jvm.MethodName) prog_50_method_369_code (1 : Nat) (Option.some Jvm.ClassFile.FieldType.long)) ∈ lw_all := lw_g (lw_at lw_m5 193 rfl) rfl
theorem q1291 : (Jvm.Cond.constantLong "jdk/internal/misc/Unsafe" (810 : Nat) (65535 : Int64)) ∈ lw_all := lw_g (lw_at lw_m5 194 rfl) rfl
theorem q1292 : (Jvm.Cond.methodLink "jdk/internal/misc/Unsafe" (39 : Nat) ({ cls := "jdk/internal/misc/Unsafe", name := "getByte", desc := "(Ljava/lang/Object;J)B" } : Jvm.MethodName)) ∈ lw_all := lw_g (lw_at lw_m5 195 rfl) rfl
theorem q1293 : (Jvm.Cond.instanceMethod ({ cls := "jdk/internal/misc/Unsafe", name := "getByte", desc := "(Ljava/lang/Object;J)B" } : Jvm.MethodName)) ∈ lw_all := lw_g (lw_at lw_m5 196 rfl) rfl
theorem q1294 : (Jvm.Cond.selects "jdk/internal/misc/Unsafe" ({ cls := "jdk/internal/misc/Unsafe", name := "getByte", desc := "(Ljava/lang/Object;J)B" } : Jvm.MethodName) ({ cls := "jdk/internal/misc/Unsafe", name := "getByte", desc := "(Ljava/lang/Object;J)B" } : Jvm.MethodName)) ∈ lw_all := lw_g (lw_at lw_m5 197 rfl) rfl
theorem q1295 : (Jvm.Cond.native ({ cls := "jdk/internal/misc/Unsafe", name := "getByte", desc := "(Ljava/lang/Object;J)B" } : Jvm.MethodName)) ∈ lw_all := lw_g (lw_at lw_m5 198 rfl) rfl
theorem q1296 : (Jvm.Cond.constantLong "jdk/internal/misc/Unsafe" (707 : Nat) (5 : Int64)) ∈ lw_all := lw_g (lw_at lw_m5 199 rfl) rfl
theorem q1297 : (Jvm.Cond.methodLink "jdk/internal/misc/Unsafe" (709 : Nat) ({ cls := "jdk/internal/misc/Unsafe", name := "makeLong", desc := "(BBBBBBBB)J" } : Jvm.MethodName)) ∈ lw_all := lw_g (lw_at lw_m5 200 rfl) rfl
theorem q1298 : (Jvm.Cond.static ({ cls := "jdk/internal/misc/Unsafe", name := "makeLong", desc := "(BBBBBBBB)J" } : Jvm.MethodName)) ∈ lw_all := lw_g (lw_at lw_m5 201 rfl) rfl
theorem q1299 : (Jvm.Cond.code ({ cls := "jdk/internal/misc/Unsafe", name := "makeLong", desc := "(BBBBBBBB)J" } : Jvm.MethodName) prog_50_method_351_code (8 : Nat) (Option.some Jvm.ClassFile.FieldType.long)) ∈ lw_all := lw_g (lw_at lw_m5 202 rfl) rfl
theorem q1300 : (Jvm.Cond.methodLink "jdk/internal/misc/Unsafe" (781 : Nat) ({ cls := "jdk/internal/misc/Unsafe", name := "toUnsignedLong", desc := "(B)J" } : Jvm.MethodName)) ∈ lw_all := lw_g (lw_at lw_m5 203 rfl) rfl
theorem q1301 : (Jvm.Cond.static ({ cls := "jdk/internal/misc/Unsafe", name := "toUnsignedLong", desc := "(B)J" } : Jvm.MethodName)) ∈ lw_all := lw_g (lw_at lw_m5 204 rfl) rfl
theorem q1302 : (Jvm.Cond.code ({ cls := "jdk/internal/misc/Unsafe", name := "toUnsignedLong", desc := "(B)J" } : Jvm.MethodName) prog_50_method_368_code (1 : Nat) (Option.some Jvm.ClassFile.FieldType.long)) ∈ lw_all := lw_g (lw_at lw_m5 205 rfl) rfl
theorem q1303 : (Jvm.Cond.constantLong "jdk/internal/misc/Unsafe" (808 : Nat) (255 : Int64)) ∈ lw_all := lw_g (lw_at lw_m5 206 rfl) rfl
theorem q1321 : (Jvm.Cond.instanceMethod ({ cls := "jdk/internal/misc/Unsafe", name := "getIntUnaligned", desc := "(Ljava/lang/Object;J)I" } : Jvm.MethodName)) ∈ lw_all := lw_g (lw_at lw_m5 224 rfl) rfl
theorem q1322 : (Jvm.Cond.selects "jdk/internal/misc/Unsafe" ({ cls := "jdk/internal/misc/Unsafe", name := "getIntUnaligned", desc := "(Ljava/lang/Object;J)I" } : Jvm.MethodName) ({ cls := "jdk/internal/misc/Unsafe", name := "getIntUnaligned", desc := "(Ljava/lang/Object;J)I" } : Jvm.MethodName)) ∈ lw_all := lw_g (lw_at lw_m5 225 rfl) rfl
theorem q1323 : (Jvm.Cond.code ({ cls := "jdk/internal/misc/Unsafe", name := "getIntUnaligned", desc := "(Ljava/lang/Object;J)I" } : Jvm.MethodName) prog_50_method_336_code (4 : Nat) (Option.some Jvm.ClassFile.FieldType.int)) ∈ lw_all := lw_g (lw_at lw_m5 226 rfl) rfl
theorem q1324 : (Jvm.Cond.methodLink "jdk/internal/misc/Unsafe" (719 : Nat) ({ cls := "jdk/internal/misc/Unsafe", name := "makeInt", desc := "(SS)I" } : Jvm.MethodName)) ∈ lw_all := lw_g (lw_at lw_m5 227 rfl) rfl
theorem q1325 : (Jvm.Cond.static ({ cls := "jdk/internal/misc/Unsafe", name := "makeInt", desc := "(SS)I" } : Jvm.MethodName)) ∈ lw_all := lw_g (lw_at lw_m5 228 rfl) rfl
theorem q1326 : (Jvm.Cond.code ({ cls := "jdk/internal/misc/Unsafe", name := "makeInt", desc := "(SS)I" } : Jvm.MethodName) prog_50_method_354_code (2 : Nat) (Option.some Jvm.ClassFile.FieldType.int)) ∈ lw_all := lw_g (lw_at lw_m5 229 rfl) rfl
theorem q1327 : (Jvm.Cond.methodLink "jdk/internal/misc/Unsafe" (792 : Nat) ({ cls := "jdk/internal/misc/Unsafe", name := "toUnsignedInt", desc := "(S)I" } : Jvm.MethodName)) ∈ lw_all := lw_g (lw_at lw_m5 230 rfl) rfl
theorem q1328 : (Jvm.Cond.static ({ cls := "jdk/internal/misc/Unsafe", name := "toUnsignedInt", desc := "(S)I" } : Jvm.MethodName)) ∈ lw_all := lw_g (lw_at lw_m5 231 rfl) rfl
theorem q1329 : (Jvm.Cond.code ({ cls := "jdk/internal/misc/Unsafe", name := "toUnsignedInt", desc := "(S)I" } : Jvm.MethodName) prog_50_method_367_code (1 : Nat) (Option.some Jvm.ClassFile.FieldType.int)) ∈ lw_all := lw_g (lw_at lw_m5 232 rfl) rfl
theorem q1330 : (Jvm.Cond.constant "jdk/internal/misc/Unsafe" (374 : Nat) (65535 : Int32)) ∈ lw_all := lw_g (lw_at lw_m5 233 rfl) rfl
theorem q1331 : (Jvm.Cond.methodLink "jdk/internal/misc/Unsafe" (723 : Nat) ({ cls := "jdk/internal/misc/Unsafe", name := "makeInt", desc := "(BBBB)I" } : Jvm.MethodName)) ∈ lw_all := lw_g (lw_at lw_m5 234 rfl) rfl
theorem q1332 : (Jvm.Cond.static ({ cls := "jdk/internal/misc/Unsafe", name := "makeInt", desc := "(BBBB)I" } : Jvm.MethodName)) ∈ lw_all := lw_g (lw_at lw_m5 235 rfl) rfl
theorem q1333 : (Jvm.Cond.code ({ cls := "jdk/internal/misc/Unsafe", name := "makeInt", desc := "(BBBB)I" } : Jvm.MethodName) prog_50_method_355_code (4 : Nat) (Option.some Jvm.ClassFile.FieldType.int)) ∈ lw_all := lw_g (lw_at lw_m5 236 rfl) rfl
theorem q1334 : (Jvm.Cond.methodLink "jdk/internal/misc/Unsafe" (796 : Nat) ({ cls := "jdk/internal/misc/Unsafe", name := "toUnsignedInt", desc := "(B)I" } : Jvm.MethodName)) ∈ lw_all := lw_g (lw_at lw_m5 237 rfl) rfl
theorem q1335 : (Jvm.Cond.static ({ cls := "jdk/internal/misc/Unsafe", name := "toUnsignedInt", desc := "(B)I" } : Jvm.MethodName)) ∈ lw_all := lw_g (lw_at lw_m5 238 rfl) rfl
theorem q1336 : (Jvm.Cond.code ({ cls := "jdk/internal/misc/Unsafe", name := "toUnsignedInt", desc := "(B)I" } : Jvm.MethodName) prog_50_method_366_code (1 : Nat) (Option.some Jvm.ClassFile.FieldType.int)) ∈ lw_all := lw_g (lw_at lw_m5 239 rfl) rfl
theorem q1787 : (Jvm.Cond.selects "jdk/internal/misc/Unsafe" ({ cls := "java/lang/Object", name := "getClass", desc := "()Ljava/lang/Class;" } : Jvm.MethodName) ({ cls := "java/lang/Object", name := "getClass", desc := "()Ljava/lang/Class;" } : Jvm.MethodName)) ∈ lw_all := lw_g (lw_at lw_m7 210 rfl) rfl
theorem q2611 : (Jvm.Cond.castable "jdk/internal/misc/Unsafe" "java/lang/Object") ∈ lw_tbl := lw_at lw_m11 74 rfl
/-! java/util/NoSuchElementException -/
set_option maxRecDepth 100000
def RJ20 : String := "java/util/NoSuchElementException"
def TJ20 : u_T := fun k => match k with
  | 0 => ("java/lang/Throwable", "cause", "Ljava/lang/Throwable;", false)
  | 1 => ("java/lang/Throwable", "stackTrace", "[Ljava/lang/StackTraceElement;", false)
  | 2 => ("java/lang/Throwable", "suppressedExceptions", "Ljava/util/List;", false)
  | 3 => ("java/lang/Throwable", "detailMessage", "Ljava/lang/String;", false)
  | 4 => ("java/lang/Throwable", "backtrace", "Ljava/lang/Object;", false)
  | _ => ("java/lang/Throwable", "depth", "I", false)
def tyJ20 : Nat → FieldType := fun k => match k with
  | 0 => .object "java/lang/Throwable"
  | 1 => .array (.object "java/lang/StackTraceElement")
  | 2 => .object "java/util/List"
  | 3 => .object "java/lang/String"
  | 4 => .object "java/lang/Object"
  | _ => .int
abbrev wsJ200 : List Cond := u_ws RJ20 TJ20 6
theorem nmJ20 : ∀ a, a < 6 → ∀ b, b < 6 → a ≠ b → (TJ20 a).2.1 ≠ (TJ20 b).2.1 := by decide +kernel
theorem tyJ20_ok : ∀ k, k < 6 → parseFieldDescriptor (TJ20 k).2.2.1 = some (tyJ20 k) := by decide +kernel
abbrev cJ20_init : ByteArray := prog_46_method_1_code
def yJ20_init : MethodName := ⟨RJ20, "<init>", "()V"⟩
theorem dJ20_init_0 : decode cJ20_init 0 = .ok (.aload_n 0, 1) := by decide +kernel
theorem dJ20_init_1 : decode cJ20_init 1 = .ok (.invokespecial 1, 3) := by decide +kernel
theorem dJ20_init_4 : decode cJ20_init 4 = .ok (.return_, 1) := by decide +kernel
theorem q171 : (Jvm.Cond.initialized "java/util/NoSuchElementException") ∈ lw_all := lw_g (lw_at lw_m1 34 rfl) rfl
theorem q275 : (Jvm.Cond.selects "java/util/NoSuchElementException" ({ cls := "java/lang/Throwable", name := "fillInStackTrace", desc := "()Ljava/lang/Throwable;" } : Jvm.MethodName) ({ cls := "java/lang/Throwable", name := "fillInStackTrace", desc := "()Ljava/lang/Throwable;" } : Jvm.MethodName)) ∈ lw_all := lw_g (lw_at lw_m1 138 rfl) rfl
theorem q1720 : (Jvm.Cond.instantiable "java/util/NoSuchElementException" (6 : Nat)) ∈ lw_all := lw_g (lw_at lw_m7 143 rfl) rfl
theorem q1721 : (Jvm.Cond.castable "java/util/NoSuchElementException" "java/util/NoSuchElementException") ∈ lw_tbl := lw_at lw_m7 144 rfl
theorem q1722 : (Jvm.Cond.selects "java/util/NoSuchElementException" ({ cls := "java/lang/Throwable", name := "fillInStackTrace", desc := "(I)Ljava/lang/Throwable;" } : Jvm.MethodName) ({ cls := "java/lang/Throwable", name := "fillInStackTrace", desc := "(I)Ljava/lang/Throwable;" } : Jvm.MethodName)) ∈ lw_all := lw_g (lw_at lw_m7 145 rfl) rfl
theorem q1723 : (Jvm.Cond.lays "java/util/NoSuchElementException" "java/lang/Throwable" "cause" "Ljava/lang/Throwable;") ∈ lw_all := lw_g (lw_at lw_m7 146 rfl) rfl
theorem q1724 : (Jvm.Cond.lays "java/util/NoSuchElementException" "java/lang/Throwable" "stackTrace" "[Ljava/lang/StackTraceElement;") ∈ lw_all := lw_g (lw_at lw_m7 147 rfl) rfl
theorem q1725 : (Jvm.Cond.lays "java/util/NoSuchElementException" "java/lang/Throwable" "suppressedExceptions" "Ljava/util/List;") ∈ lw_all := lw_g (lw_at lw_m7 148 rfl) rfl
theorem q1726 : (Jvm.Cond.lays "java/util/NoSuchElementException" "java/lang/Throwable" "detailMessage" "Ljava/lang/String;") ∈ lw_all := lw_g (lw_at lw_m7 149 rfl) rfl
theorem q1727 : (Jvm.Cond.lays "java/util/NoSuchElementException" "java/lang/Throwable" "backtrace" "Ljava/lang/Object;") ∈ lw_all := lw_g (lw_at lw_m7 150 rfl) rfl
theorem q1729 : (Jvm.Cond.instanceMethod ({ cls := "java/util/NoSuchElementException", name := "<init>", desc := "()V" } : Jvm.MethodName)) ∈ lw_all := lw_g (lw_at lw_m7 152 rfl) rfl
theorem q1730 : (Jvm.Cond.code ({ cls := "java/util/NoSuchElementException", name := "<init>", desc := "()V" } : Jvm.MethodName) prog_46_method_1_code (1 : Nat) (Option.none : Option Jvm.ClassFile.FieldType)) ∈ lw_all := lw_g (lw_at lw_m7 153 rfl) rfl
theorem q1731 : (Jvm.Cond.methodLink "java/util/NoSuchElementException" (1 : Nat) ({ cls := "java/lang/RuntimeException", name := "<init>", desc := "()V" } : Jvm.MethodName)) ∈ lw_all := lw_g (lw_at lw_m7 154 rfl) rfl
theorem q1732 : (Jvm.Cond.lays "java/util/NoSuchElementException" "java/lang/Throwable" "depth" "I") ∈ lw_all := lw_g (lw_at lw_m7 155 rfl) rfl
theorem q1733 : (Jvm.Cond.superclass "java/util/NoSuchElementException" "java/lang/RuntimeException") ∈ lw_all := lw_g (lw_at lw_m7 156 rfl) rfl
theorem q1786 : (Jvm.Cond.selects "java/util/NoSuchElementException" ({ cls := "java/lang/Object", name := "getClass", desc := "()Ljava/lang/Class;" } : Jvm.MethodName) ({ cls := "java/lang/Object", name := "getClass", desc := "()Ljava/lang/Class;" } : Jvm.MethodName)) ∈ lw_all := lw_g (lw_at lw_m7 209 rfl) rfl
theorem q2612 : (Jvm.Cond.castable "java/util/NoSuchElementException" "java/lang/Object") ∈ lw_tbl := lw_at lw_m11 75 rfl
theorem in_J20 : ∀ w ∈ wsJ200, w ∈ lw_all := lw_in wsJ200 [1723, 1724, 1725, 1726, 1727, 1732] (by decide +kernel) (by decide +kernel)
/-! java/lang/IllegalStateException -/
set_option maxRecDepth 100000
def RJ21 : String := "java/lang/IllegalStateException"
def TJ21 : u_T := fun k => match k with
  | 0 => ("java/lang/Throwable", "cause", "Ljava/lang/Throwable;", false)
  | 1 => ("java/lang/Throwable", "stackTrace", "[Ljava/lang/StackTraceElement;", false)
  | 2 => ("java/lang/Throwable", "suppressedExceptions", "Ljava/util/List;", false)
  | 3 => ("java/lang/Throwable", "detailMessage", "Ljava/lang/String;", false)
  | 4 => ("java/lang/Throwable", "backtrace", "Ljava/lang/Object;", false)
  | _ => ("java/lang/Throwable", "depth", "I", false)
def tyJ21 : Nat → FieldType := fun k => match k with
  | 0 => .object "java/lang/Throwable"
  | 1 => .array (.object "java/lang/StackTraceElement")
  | 2 => .object "java/util/List"
  | 3 => .object "java/lang/String"
  | 4 => .object "java/lang/Object"
  | _ => .int
abbrev wsJ210 : List Cond := u_ws RJ21 TJ21 6
theorem nmJ21 : ∀ a, a < 6 → ∀ b, b < 6 → a ≠ b → (TJ21 a).2.1 ≠ (TJ21 b).2.1 := by decide +kernel
theorem tyJ21_ok : ∀ k, k < 6 → parseFieldDescriptor (TJ21 k).2.2.1 = some (tyJ21 k) := by decide +kernel
abbrev cJ21_init : ByteArray := prog_24_method_2_code
def yJ21_init : MethodName := ⟨RJ21, "<init>", "(Ljava/lang/String;)V"⟩
def dkwJ21_init_0 : List UInt8 := [42, 43, 183, 0, 7, 177]
abbrev dktJ21_init_0 : List UInt8 := dkwJ21_init_0 ++ []
theorem dksJ21_init_0 : cJ21_init.data.toList.drop 0 = dktJ21_init_0 := by decide +kernel
theorem dJ21_init_0 : decode cJ21_init 0 = .ok (.aload_n 0, 1) := dk_42 (dk_at dksJ21_init_0 0 rfl rfl)
theorem dJ21_init_1 : decode cJ21_init 1 = .ok (.aload_n 1, 1) := dk_43 (dk_at dksJ21_init_0 1 rfl rfl)
theorem dJ21_init_2 : decode cJ21_init 2 = .ok (.invokespecial 7, 3) := dk_183 0 7 (dk_at dksJ21_init_0 2 rfl rfl)
theorem dJ21_init_5 : decode cJ21_init 5 = .ok (.return_, 1) := dk_177 (dk_at dksJ21_init_0 5 rfl rfl)
abbrev cJ21_init_2 : ByteArray := prog_24_method_1_code
def yJ21_init_2 : MethodName := ⟨RJ21, "<init>", "()V"⟩
theorem dJ21_init_2_0 : decode cJ21_init_2 0 = .ok (.aload_n 0, 1) := by decide +kernel
theorem dJ21_init_2_1 : decode cJ21_init_2 1 = .ok (.invokespecial 1, 3) := by decide +kernel
theorem dJ21_init_2_4 : decode cJ21_init_2 4 = .ok (.return_, 1) := by decide +kernel
theorem q172 : (Jvm.Cond.initialized "java/lang/IllegalStateException") ∈ lw_all := lw_g (lw_at lw_m1 35 rfl) rfl
theorem q273 : (Jvm.Cond.selects "java/lang/IllegalStateException" ({ cls := "java/lang/Throwable", name := "fillInStackTrace", desc := "()Ljava/lang/Throwable;" } : Jvm.MethodName) ({ cls := "java/lang/Throwable", name := "fillInStackTrace", desc := "()Ljava/lang/Throwable;" } : Jvm.MethodName)) ∈ lw_all := lw_g (lw_at lw_m1 136 rfl) rfl
theorem q1748 : (Jvm.Cond.instantiable "java/lang/IllegalStateException" (6 : Nat)) ∈ lw_all := lw_g (lw_at lw_m7 171 rfl) rfl
theorem q1749 : (Jvm.Cond.castable "java/lang/IllegalStateException" "java/lang/IllegalStateException") ∈ lw_tbl := lw_at lw_m7 172 rfl
theorem q1750 : (Jvm.Cond.selects "java/lang/IllegalStateException" ({ cls := "java/lang/Throwable", name := "fillInStackTrace", desc := "(I)Ljava/lang/Throwable;" } : Jvm.MethodName) ({ cls := "java/lang/Throwable", name := "fillInStackTrace", desc := "(I)Ljava/lang/Throwable;" } : Jvm.MethodName)) ∈ lw_all := lw_g (lw_at lw_m7 173 rfl) rfl
theorem q1751 : (Jvm.Cond.lays "java/lang/IllegalStateException" "java/lang/Throwable" "cause" "Ljava/lang/Throwable;") ∈ lw_all := lw_g (lw_at lw_m7 174 rfl) rfl
theorem q1752 : (Jvm.Cond.lays "java/lang/IllegalStateException" "java/lang/Throwable" "stackTrace" "[Ljava/lang/StackTraceElement;") ∈ lw_all := lw_g (lw_at lw_m7 175 rfl) rfl
theorem q1753 : (Jvm.Cond.lays "java/lang/IllegalStateException" "java/lang/Throwable" "suppressedExceptions" "Ljava/util/List;") ∈ lw_all := lw_g (lw_at lw_m7 176 rfl) rfl
theorem q1754 : (Jvm.Cond.lays "java/lang/IllegalStateException" "java/lang/Throwable" "detailMessage" "Ljava/lang/String;") ∈ lw_all := lw_g (lw_at lw_m7 177 rfl) rfl
theorem q1755 : (Jvm.Cond.lays "java/lang/IllegalStateException" "java/lang/Throwable" "backtrace" "Ljava/lang/Object;") ∈ lw_all := lw_g (lw_at lw_m7 178 rfl) rfl
theorem q1758 : (Jvm.Cond.instanceMethod ({ cls := "java/lang/IllegalStateException", name := "<init>", desc := "(Ljava/lang/String;)V" } : Jvm.MethodName)) ∈ lw_all := lw_g (lw_at lw_m7 181 rfl) rfl
theorem q1759 : (Jvm.Cond.code ({ cls := "java/lang/IllegalStateException", name := "<init>", desc := "(Ljava/lang/String;)V" } : Jvm.MethodName) prog_24_method_2_code (2 : Nat) (Option.none : Option Jvm.ClassFile.FieldType)) ∈ lw_all := lw_g (lw_at lw_m7 182 rfl) rfl
theorem q1760 : (Jvm.Cond.methodLink "java/lang/IllegalStateException" (7 : Nat) ({ cls := "java/lang/RuntimeException", name := "<init>", desc := "(Ljava/lang/String;)V" } : Jvm.MethodName)) ∈ lw_all := lw_g (lw_at lw_m7 183 rfl) rfl
theorem q1761 : (Jvm.Cond.lays "java/lang/IllegalStateException" "java/lang/Throwable" "depth" "I") ∈ lw_all := lw_g (lw_at lw_m7 184 rfl) rfl
theorem q1762 : (Jvm.Cond.superclass "java/lang/IllegalStateException" "java/lang/RuntimeException") ∈ lw_all := lw_g (lw_at lw_m7 185 rfl) rfl
theorem q1780 : (Jvm.Cond.selects "java/lang/IllegalStateException" ({ cls := "java/lang/Object", name := "getClass", desc := "()Ljava/lang/Class;" } : Jvm.MethodName) ({ cls := "java/lang/Object", name := "getClass", desc := "()Ljava/lang/Class;" } : Jvm.MethodName)) ∈ lw_all := lw_g (lw_at lw_m7 203 rfl) rfl
theorem q1808 : (Jvm.Cond.instanceMethod ({ cls := "java/lang/IllegalStateException", name := "<init>", desc := "()V" } : Jvm.MethodName)) ∈ lw_all := lw_g (lw_at lw_m7 231 rfl) rfl
theorem q1809 : (Jvm.Cond.code ({ cls := "java/lang/IllegalStateException", name := "<init>", desc := "()V" } : Jvm.MethodName) prog_24_method_1_code (1 : Nat) (Option.none : Option Jvm.ClassFile.FieldType)) ∈ lw_all := lw_g (lw_at lw_m7 232 rfl) rfl
theorem q1810 : (Jvm.Cond.methodLink "java/lang/IllegalStateException" (1 : Nat) ({ cls := "java/lang/RuntimeException", name := "<init>", desc := "()V" } : Jvm.MethodName)) ∈ lw_all := lw_g (lw_at lw_m7 233 rfl) rfl
theorem q2613 : (Jvm.Cond.castable "java/lang/IllegalStateException" "java/lang/Object") ∈ lw_tbl := lw_at lw_m11 76 rfl
theorem in_J21 : ∀ w ∈ wsJ210, w ∈ lw_all := lw_in wsJ210 [1751, 1752, 1753, 1754, 1755, 1761] (by decide +kernel) (by decide +kernel)
/-! java/lang/Object -/
set_option maxRecDepth 100000
def RJ22 : String := "java/lang/Object"
abbrev cJ22_init : ByteArray := object_method_1_code
def yJ22_init : MethodName := ⟨RJ22, "<init>", "()V"⟩
theorem dJ22_init_0 : decode cJ22_init 0 = .ok (.return_, 1) := by decide +kernel
theorem q179 : (Jvm.Cond.instanceMethod ({ cls := "java/lang/Object", name := "<init>", desc := "()V" } : Jvm.MethodName)) ∈ lw_all := lw_g (lw_at lw_m1 42 rfl) rfl
theorem q180 : (Jvm.Cond.code ({ cls := "java/lang/Object", name := "<init>", desc := "()V" } : Jvm.MethodName) object_method_1_code (1 : Nat) (Option.none : Option Jvm.ClassFile.FieldType)) ∈ lw_all := lw_g (lw_at lw_m1 43 rfl) rfl
theorem q349 : (Jvm.Cond.native ({ cls := "java/lang/Object", name := "clone", desc := "()Ljava/lang/Object;" } : Jvm.MethodName)) ∈ lw_all := lw_g (lw_at lw_m1 212 rfl) rfl
theorem q350 : (Jvm.Cond.instanceMethod ({ cls := "java/lang/Object", name := "clone", desc := "()Ljava/lang/Object;" } : Jvm.MethodName)) ∈ lw_all := lw_g (lw_at lw_m1 213 rfl) rfl
theorem q1767 : (Jvm.Cond.instanceMethod ({ cls := "java/lang/Object", name := "getClass", desc := "()Ljava/lang/Class;" } : Jvm.MethodName)) ∈ lw_all := lw_g (lw_at lw_m7 190 rfl) rfl
theorem q1768 : (Jvm.Cond.sameMethod "java/lang/Object" "java/lang/Object" "getClass" "()Ljava/lang/Class;") ∈ lw_all := lw_g (lw_at lw_m7 191 rfl) rfl
theorem q1788 : (Jvm.Cond.native ({ cls := "java/lang/Object", name := "getClass", desc := "()Ljava/lang/Class;" } : Jvm.MethodName)) ∈ lw_all := lw_g (lw_at lw_m7 211 rfl) rfl
theorem q2593 : (Jvm.Cond.initialized "java/lang/Object") ∈ lw_all := lw_g (lw_at lw_m11 56 rfl) rfl
theorem q2617 : (Jvm.Cond.declares ({ cls := "java/lang/Object", name := "getClass", desc := "()Ljava/lang/Class;" } : Jvm.MethodName)) ∈ lw_tbl := lw_at lw_m11 80 rfl
theorem q2627 : (Jvm.Cond.instantiable "java/lang/Object" (0 : Nat)) ∈ lw_all := lw_g (lw_at lw_m11 90 rfl) rfl
