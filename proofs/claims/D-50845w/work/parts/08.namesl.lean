/-! CopyPricesLaw -/
set_option maxRecDepth 100000
def RX0 : String := "CopyPricesLaw"
abbrev cX0_count : ByteArray := method_3_code
def yX0_count : MethodName := ⟨RX0, "count", "(LCopyPrices;I[J)I"⟩
def dkwX0_count_0 : List UInt8 := [44, 3, 42, 27, 182, 0, 7, 133, 80, 167, 0, 6, 78, 4, 172, 3, 172]
abbrev dktX0_count_0 : List UInt8 := dkwX0_count_0 ++ []
theorem dksX0_count_0 : cX0_count.data.toList.drop 0 = dktX0_count_0 := by decide +kernel
theorem dX0_count_0 : decode cX0_count 0 = .ok (.aload_n 2, 1) := dk_44 (dk_at dksX0_count_0 0 rfl rfl)
theorem dX0_count_1 : decode cX0_count 1 = .ok (.iconst 0, 1) := dk_3 (dk_at dksX0_count_0 1 rfl rfl)
theorem dX0_count_2 : decode cX0_count 2 = .ok (.aload_n 0, 1) := dk_42 (dk_at dksX0_count_0 2 rfl rfl)
theorem dX0_count_3 : decode cX0_count 3 = .ok (.iload_n 1, 1) := dk_27 (dk_at dksX0_count_0 3 rfl rfl)
theorem dX0_count_4 : decode cX0_count 4 = .ok (.invokevirtual 7, 3) := dk_182 0 7 (dk_at dksX0_count_0 4 rfl rfl)
theorem dX0_count_7 : decode cX0_count 7 = .ok (.i2l, 1) := dk_133 (dk_at dksX0_count_0 7 rfl rfl)
theorem dX0_count_8 : decode cX0_count 8 = .ok (.lastore, 1) := dk_80 (dk_at dksX0_count_0 8 rfl rfl)
theorem dX0_count_9 : decode cX0_count 9 = .ok (.goto 6, 3) := dk_167 0 6 (dk_at dksX0_count_0 9 rfl rfl)
theorem dX0_count_12 : decode cX0_count 12 = .ok (.astore_n 3, 1) := dk_78 (dk_at dksX0_count_0 12 rfl rfl)
theorem dX0_count_13 : decode cX0_count 13 = .ok (.iconst 1, 1) := dk_4 (dk_at dksX0_count_0 13 rfl rfl)
theorem dX0_count_14 : decode cX0_count 14 = .ok (.ireturn, 1) := dk_172 (dk_at dksX0_count_0 14 rfl rfl)
theorem dX0_count_15 : decode cX0_count 15 = .ok (.iconst 0, 1) := dk_3 (dk_at dksX0_count_0 15 rfl rfl)
theorem dX0_count_16 : decode cX0_count 16 = .ok (.ireturn, 1) := dk_172 (dk_at dksX0_count_0 16 rfl rfl)
abbrev cX0_account : ByteArray := method_4_code
def yX0_account : MethodName := ⟨RX0, "account", "(LCopyPrices;I[J)I"⟩
def dkwX0_account_0 : List UInt8 := [44, 3, 42, 27, 182, 0, 15, 133, 80, 167, 0, 6, 78, 4, 172, 3, 172]
abbrev dktX0_account_0 : List UInt8 := dkwX0_account_0 ++ []
theorem dksX0_account_0 : cX0_account.data.toList.drop 0 = dktX0_account_0 := by decide +kernel
theorem dX0_account_0 : decode cX0_account 0 = .ok (.aload_n 2, 1) := dk_44 (dk_at dksX0_account_0 0 rfl rfl)
theorem dX0_account_1 : decode cX0_account 1 = .ok (.iconst 0, 1) := dk_3 (dk_at dksX0_account_0 1 rfl rfl)
theorem dX0_account_2 : decode cX0_account 2 = .ok (.aload_n 0, 1) := dk_42 (dk_at dksX0_account_0 2 rfl rfl)
theorem dX0_account_3 : decode cX0_account 3 = .ok (.iload_n 1, 1) := dk_27 (dk_at dksX0_account_0 3 rfl rfl)
theorem dX0_account_4 : decode cX0_account 4 = .ok (.invokevirtual 15, 3) := dk_182 0 15 (dk_at dksX0_account_0 4 rfl rfl)
theorem dX0_account_7 : decode cX0_account 7 = .ok (.i2l, 1) := dk_133 (dk_at dksX0_account_0 7 rfl rfl)
theorem dX0_account_8 : decode cX0_account 8 = .ok (.lastore, 1) := dk_80 (dk_at dksX0_account_0 8 rfl rfl)
theorem dX0_account_9 : decode cX0_account 9 = .ok (.goto 6, 3) := dk_167 0 6 (dk_at dksX0_account_0 9 rfl rfl)
theorem dX0_account_12 : decode cX0_account 12 = .ok (.astore_n 3, 1) := dk_78 (dk_at dksX0_account_0 12 rfl rfl)
theorem dX0_account_13 : decode cX0_account 13 = .ok (.iconst 1, 1) := dk_4 (dk_at dksX0_account_0 13 rfl rfl)
theorem dX0_account_14 : decode cX0_account 14 = .ok (.ireturn, 1) := dk_172 (dk_at dksX0_account_0 14 rfl rfl)
theorem dX0_account_15 : decode cX0_account 15 = .ok (.iconst 0, 1) := dk_3 (dk_at dksX0_account_0 15 rfl rfl)
theorem dX0_account_16 : decode cX0_account 16 = .ok (.ireturn, 1) := dk_172 (dk_at dksX0_account_0 16 rfl rfl)
abbrev cX0_setting : ByteArray := method_5_code
def yX0_setting : MethodName := ⟨RX0, "setting", "(LCopyPrices;I[J)I"⟩
def dkwX0_setting_0 : List UInt8 := [44, 3, 42, 27, 182, 0, 18, 133, 80, 167, 0, 6, 78, 4, 172, 3, 172]
abbrev dktX0_setting_0 : List UInt8 := dkwX0_setting_0 ++ []
theorem dksX0_setting_0 : cX0_setting.data.toList.drop 0 = dktX0_setting_0 := by decide +kernel
theorem dX0_setting_0 : decode cX0_setting 0 = .ok (.aload_n 2, 1) := dk_44 (dk_at dksX0_setting_0 0 rfl rfl)
theorem dX0_setting_1 : decode cX0_setting 1 = .ok (.iconst 0, 1) := dk_3 (dk_at dksX0_setting_0 1 rfl rfl)
theorem dX0_setting_2 : decode cX0_setting 2 = .ok (.aload_n 0, 1) := dk_42 (dk_at dksX0_setting_0 2 rfl rfl)
theorem dX0_setting_3 : decode cX0_setting 3 = .ok (.iload_n 1, 1) := dk_27 (dk_at dksX0_setting_0 3 rfl rfl)
theorem dX0_setting_4 : decode cX0_setting 4 = .ok (.invokevirtual 18, 3) := dk_182 0 18 (dk_at dksX0_setting_0 4 rfl rfl)
theorem dX0_setting_7 : decode cX0_setting 7 = .ok (.i2l, 1) := dk_133 (dk_at dksX0_setting_0 7 rfl rfl)
theorem dX0_setting_8 : decode cX0_setting 8 = .ok (.lastore, 1) := dk_80 (dk_at dksX0_setting_0 8 rfl rfl)
theorem dX0_setting_9 : decode cX0_setting 9 = .ok (.goto 6, 3) := dk_167 0 6 (dk_at dksX0_setting_0 9 rfl rfl)
theorem dX0_setting_12 : decode cX0_setting 12 = .ok (.astore_n 3, 1) := dk_78 (dk_at dksX0_setting_0 12 rfl rfl)
theorem dX0_setting_13 : decode cX0_setting 13 = .ok (.iconst 1, 1) := dk_4 (dk_at dksX0_setting_0 13 rfl rfl)
theorem dX0_setting_14 : decode cX0_setting 14 = .ok (.ireturn, 1) := dk_172 (dk_at dksX0_setting_0 14 rfl rfl)
theorem dX0_setting_15 : decode cX0_setting 15 = .ok (.iconst 0, 1) := dk_3 (dk_at dksX0_setting_0 15 rfl rfl)
theorem dX0_setting_16 : decode cX0_setting 16 = .ok (.ireturn, 1) := dk_172 (dk_at dksX0_setting_0 16 rfl rfl)
abbrev cX0_price : ByteArray := method_6_code
def yX0_price : MethodName := ⟨RX0, "price", "(LCopyPrices;I[J)I"⟩
def dkwX0_price_0 : List UInt8 := [44, 3, 42, 27, 182, 0, 21, 133, 80, 167, 0, 6, 78, 4, 172, 3, 172]
abbrev dktX0_price_0 : List UInt8 := dkwX0_price_0 ++ []
theorem dksX0_price_0 : cX0_price.data.toList.drop 0 = dktX0_price_0 := by decide +kernel
theorem dX0_price_0 : decode cX0_price 0 = .ok (.aload_n 2, 1) := dk_44 (dk_at dksX0_price_0 0 rfl rfl)
theorem dX0_price_1 : decode cX0_price 1 = .ok (.iconst 0, 1) := dk_3 (dk_at dksX0_price_0 1 rfl rfl)
theorem dX0_price_2 : decode cX0_price 2 = .ok (.aload_n 0, 1) := dk_42 (dk_at dksX0_price_0 2 rfl rfl)
theorem dX0_price_3 : decode cX0_price 3 = .ok (.iload_n 1, 1) := dk_27 (dk_at dksX0_price_0 3 rfl rfl)
theorem dX0_price_4 : decode cX0_price 4 = .ok (.invokevirtual 21, 3) := dk_182 0 21 (dk_at dksX0_price_0 4 rfl rfl)
theorem dX0_price_7 : decode cX0_price 7 = .ok (.i2l, 1) := dk_133 (dk_at dksX0_price_0 7 rfl rfl)
theorem dX0_price_8 : decode cX0_price 8 = .ok (.lastore, 1) := dk_80 (dk_at dksX0_price_0 8 rfl rfl)
theorem dX0_price_9 : decode cX0_price 9 = .ok (.goto 6, 3) := dk_167 0 6 (dk_at dksX0_price_0 9 rfl rfl)
theorem dX0_price_12 : decode cX0_price 12 = .ok (.astore_n 3, 1) := dk_78 (dk_at dksX0_price_0 12 rfl rfl)
theorem dX0_price_13 : decode cX0_price 13 = .ok (.iconst 1, 1) := dk_4 (dk_at dksX0_price_0 13 rfl rfl)
theorem dX0_price_14 : decode cX0_price 14 = .ok (.ireturn, 1) := dk_172 (dk_at dksX0_price_0 14 rfl rfl)
theorem dX0_price_15 : decode cX0_price 15 = .ok (.iconst 0, 1) := dk_3 (dk_at dksX0_price_0 15 rfl rfl)
theorem dX0_price_16 : decode cX0_price 16 = .ok (.ireturn, 1) := dk_172 (dk_at dksX0_price_0 16 rfl rfl)
abbrev cX0_place : ByteArray := method_7_code
def yX0_place : MethodName := ⟨RX0, "place", "(LCopyPrices;II[J)I"⟩
def dkwX0_place_0 : List UInt8 := [45, 3, 42, 27, 28, 182, 0, 24, 133, 80, 167, 0, 11, 58, 4, 4, 172, 58, 4, 5, 172, 3, 172]
abbrev dktX0_place_0 : List UInt8 := dkwX0_place_0 ++ []
theorem dksX0_place_0 : cX0_place.data.toList.drop 0 = dktX0_place_0 := by decide +kernel
theorem dX0_place_0 : decode cX0_place 0 = .ok (.aload_n 3, 1) := dk_45 (dk_at dksX0_place_0 0 rfl rfl)
theorem dX0_place_1 : decode cX0_place 1 = .ok (.iconst 0, 1) := dk_3 (dk_at dksX0_place_0 1 rfl rfl)
theorem dX0_place_2 : decode cX0_place 2 = .ok (.aload_n 0, 1) := dk_42 (dk_at dksX0_place_0 2 rfl rfl)
theorem dX0_place_3 : decode cX0_place 3 = .ok (.iload_n 1, 1) := dk_27 (dk_at dksX0_place_0 3 rfl rfl)
theorem dX0_place_4 : decode cX0_place 4 = .ok (.iload_n 2, 1) := dk_28 (dk_at dksX0_place_0 4 rfl rfl)
theorem dX0_place_5 : decode cX0_place 5 = .ok (.invokevirtual 24, 3) := dk_182 0 24 (dk_at dksX0_place_0 5 rfl rfl)
theorem dX0_place_8 : decode cX0_place 8 = .ok (.i2l, 1) := dk_133 (dk_at dksX0_place_0 8 rfl rfl)
theorem dX0_place_9 : decode cX0_place 9 = .ok (.lastore, 1) := dk_80 (dk_at dksX0_place_0 9 rfl rfl)
theorem dX0_place_10 : decode cX0_place 10 = .ok (.goto 11, 3) := dk_167 0 11 (dk_at dksX0_place_0 10 rfl rfl)
theorem dX0_place_13 : decode cX0_place 13 = .ok (.astore 4, 2) := dk_58 4 (dk_at dksX0_place_0 13 rfl rfl)
theorem dX0_place_15 : decode cX0_place 15 = .ok (.iconst 1, 1) := dk_4 (dk_at dksX0_place_0 15 rfl rfl)
theorem dX0_place_16 : decode cX0_place 16 = .ok (.ireturn, 1) := dk_172 (dk_at dksX0_place_0 16 rfl rfl)
theorem dX0_place_17 : decode cX0_place 17 = .ok (.astore 4, 2) := dk_58 4 (dk_at dksX0_place_0 17 rfl rfl)
theorem dX0_place_19 : decode cX0_place 19 = .ok (.iconst 2, 1) := dk_5 (dk_at dksX0_place_0 19 rfl rfl)
theorem dX0_place_20 : decode cX0_place 20 = .ok (.ireturn, 1) := dk_172 (dk_at dksX0_place_0 20 rfl rfl)
theorem dX0_place_21 : decode cX0_place 21 = .ok (.iconst 0, 1) := dk_3 (dk_at dksX0_place_0 21 rfl rfl)
theorem dX0_place_22 : decode cX0_place 22 = .ok (.ireturn, 1) := dk_172 (dk_at dksX0_place_0 22 rfl rfl)
abbrev cX0_candidate : ByteArray := method_8_code
def yX0_candidate : MethodName := ⟨RX0, "candidate", "(LCopyPrices;II[J)I"⟩
def dkwX0_candidate_0 : List UInt8 := [45, 3, 42, 27, 28, 182, 0, 30, 133, 80, 167, 0, 7, 58, 4, 4, 172, 3, 172]
abbrev dktX0_candidate_0 : List UInt8 := dkwX0_candidate_0 ++ []
theorem dksX0_candidate_0 : cX0_candidate.data.toList.drop 0 = dktX0_candidate_0 := by decide +kernel
theorem dX0_candidate_0 : decode cX0_candidate 0 = .ok (.aload_n 3, 1) := dk_45 (dk_at dksX0_candidate_0 0 rfl rfl)
theorem dX0_candidate_1 : decode cX0_candidate 1 = .ok (.iconst 0, 1) := dk_3 (dk_at dksX0_candidate_0 1 rfl rfl)
theorem dX0_candidate_2 : decode cX0_candidate 2 = .ok (.aload_n 0, 1) := dk_42 (dk_at dksX0_candidate_0 2 rfl rfl)
theorem dX0_candidate_3 : decode cX0_candidate 3 = .ok (.iload_n 1, 1) := dk_27 (dk_at dksX0_candidate_0 3 rfl rfl)
theorem dX0_candidate_4 : decode cX0_candidate 4 = .ok (.iload_n 2, 1) := dk_28 (dk_at dksX0_candidate_0 4 rfl rfl)
theorem dX0_candidate_5 : decode cX0_candidate 5 = .ok (.invokevirtual 30, 3) := dk_182 0 30 (dk_at dksX0_candidate_0 5 rfl rfl)
theorem dX0_candidate_8 : decode cX0_candidate 8 = .ok (.i2l, 1) := dk_133 (dk_at dksX0_candidate_0 8 rfl rfl)
theorem dX0_candidate_9 : decode cX0_candidate 9 = .ok (.lastore, 1) := dk_80 (dk_at dksX0_candidate_0 9 rfl rfl)
theorem dX0_candidate_10 : decode cX0_candidate 10 = .ok (.goto 7, 3) := dk_167 0 7 (dk_at dksX0_candidate_0 10 rfl rfl)
theorem dX0_candidate_13 : decode cX0_candidate 13 = .ok (.astore 4, 2) := dk_58 4 (dk_at dksX0_candidate_0 13 rfl rfl)
theorem dX0_candidate_15 : decode cX0_candidate 15 = .ok (.iconst 1, 1) := dk_4 (dk_at dksX0_candidate_0 15 rfl rfl)
theorem dX0_candidate_16 : decode cX0_candidate 16 = .ok (.ireturn, 1) := dk_172 (dk_at dksX0_candidate_0 16 rfl rfl)
theorem dX0_candidate_17 : decode cX0_candidate 17 = .ok (.iconst 0, 1) := dk_3 (dk_at dksX0_candidate_0 17 rfl rfl)
theorem dX0_candidate_18 : decode cX0_candidate 18 = .ok (.ireturn, 1) := dk_172 (dk_at dksX0_candidate_0 18 rfl rfl)
abbrev cX0_why : ByteArray := method_9_code
def yX0_why : MethodName := ⟨RX0, "why", "(LCopyPrices;III[J)I"⟩
def dkwX0_why_1 : List UInt8 := [172]
abbrev dktX0_why_1 : List UInt8 := dkwX0_why_1 ++ []
def dkwX0_why_0 : List UInt8 := [25, 4, 3, 42, 27, 28, 29, 182, 0, 33, 133, 80, 167, 0, 11, 58, 5, 4, 172, 58, 5, 5, 172, 3]
abbrev dktX0_why_0 : List UInt8 := dkwX0_why_0 ++ dktX0_why_1
theorem dksX0_why_0 : cX0_why.data.toList.drop 0 = dktX0_why_0 := by decide +kernel
theorem dksX0_why_1 : cX0_why.data.toList.drop 24 = dktX0_why_1 := dk_seg dksX0_why_0 24 rfl rfl
theorem dX0_why_0 : decode cX0_why 0 = .ok (.aload 4, 2) := dk_25 4 (dk_at dksX0_why_0 0 rfl rfl)
theorem dX0_why_2 : decode cX0_why 2 = .ok (.iconst 0, 1) := dk_3 (dk_at dksX0_why_0 2 rfl rfl)
theorem dX0_why_3 : decode cX0_why 3 = .ok (.aload_n 0, 1) := dk_42 (dk_at dksX0_why_0 3 rfl rfl)
theorem dX0_why_4 : decode cX0_why 4 = .ok (.iload_n 1, 1) := dk_27 (dk_at dksX0_why_0 4 rfl rfl)
theorem dX0_why_5 : decode cX0_why 5 = .ok (.iload_n 2, 1) := dk_28 (dk_at dksX0_why_0 5 rfl rfl)
theorem dX0_why_6 : decode cX0_why 6 = .ok (.iload_n 3, 1) := dk_29 (dk_at dksX0_why_0 6 rfl rfl)
theorem dX0_why_7 : decode cX0_why 7 = .ok (.invokevirtual 33, 3) := dk_182 0 33 (dk_at dksX0_why_0 7 rfl rfl)
theorem dX0_why_10 : decode cX0_why 10 = .ok (.i2l, 1) := dk_133 (dk_at dksX0_why_0 10 rfl rfl)
theorem dX0_why_11 : decode cX0_why 11 = .ok (.lastore, 1) := dk_80 (dk_at dksX0_why_0 11 rfl rfl)
theorem dX0_why_12 : decode cX0_why 12 = .ok (.goto 11, 3) := dk_167 0 11 (dk_at dksX0_why_0 12 rfl rfl)
theorem dX0_why_15 : decode cX0_why 15 = .ok (.astore 5, 2) := dk_58 5 (dk_at dksX0_why_0 15 rfl rfl)
theorem dX0_why_17 : decode cX0_why 17 = .ok (.iconst 1, 1) := dk_4 (dk_at dksX0_why_0 17 rfl rfl)
theorem dX0_why_18 : decode cX0_why 18 = .ok (.ireturn, 1) := dk_172 (dk_at dksX0_why_0 18 rfl rfl)
theorem dX0_why_19 : decode cX0_why 19 = .ok (.astore 5, 2) := dk_58 5 (dk_at dksX0_why_0 19 rfl rfl)
theorem dX0_why_21 : decode cX0_why 21 = .ok (.iconst 2, 1) := dk_5 (dk_at dksX0_why_0 21 rfl rfl)
theorem dX0_why_22 : decode cX0_why 22 = .ok (.ireturn, 1) := dk_172 (dk_at dksX0_why_0 22 rfl rfl)
theorem dX0_why_23 : decode cX0_why 23 = .ok (.iconst 0, 1) := dk_3 (dk_at dksX0_why_0 23 rfl rfl)
theorem dX0_why_24 : decode cX0_why 24 = .ok (.ireturn, 1) := dk_172 (dk_at dksX0_why_1 0 rfl rfl)
abbrev cX0_same : ByteArray := method_10_code
def yX0_same : MethodName := ⟨RX0, "same", "(LCopyPrices;II[J)I"⟩
def dkwX0_same_0 : List UInt8 := [45, 3, 42, 27, 28, 182, 0, 37, 133, 80, 167, 0, 11, 58, 4, 4, 172, 58, 4, 5, 172, 3, 172]
abbrev dktX0_same_0 : List UInt8 := dkwX0_same_0 ++ []
theorem dksX0_same_0 : cX0_same.data.toList.drop 0 = dktX0_same_0 := by decide +kernel
theorem dX0_same_0 : decode cX0_same 0 = .ok (.aload_n 3, 1) := dk_45 (dk_at dksX0_same_0 0 rfl rfl)
theorem dX0_same_1 : decode cX0_same 1 = .ok (.iconst 0, 1) := dk_3 (dk_at dksX0_same_0 1 rfl rfl)
theorem dX0_same_2 : decode cX0_same 2 = .ok (.aload_n 0, 1) := dk_42 (dk_at dksX0_same_0 2 rfl rfl)
theorem dX0_same_3 : decode cX0_same 3 = .ok (.iload_n 1, 1) := dk_27 (dk_at dksX0_same_0 3 rfl rfl)
theorem dX0_same_4 : decode cX0_same 4 = .ok (.iload_n 2, 1) := dk_28 (dk_at dksX0_same_0 4 rfl rfl)
theorem dX0_same_5 : decode cX0_same 5 = .ok (.invokevirtual 37, 3) := dk_182 0 37 (dk_at dksX0_same_0 5 rfl rfl)
theorem dX0_same_8 : decode cX0_same 8 = .ok (.i2l, 1) := dk_133 (dk_at dksX0_same_0 8 rfl rfl)
theorem dX0_same_9 : decode cX0_same 9 = .ok (.lastore, 1) := dk_80 (dk_at dksX0_same_0 9 rfl rfl)
theorem dX0_same_10 : decode cX0_same 10 = .ok (.goto 11, 3) := dk_167 0 11 (dk_at dksX0_same_0 10 rfl rfl)
theorem dX0_same_13 : decode cX0_same 13 = .ok (.astore 4, 2) := dk_58 4 (dk_at dksX0_same_0 13 rfl rfl)
theorem dX0_same_15 : decode cX0_same 15 = .ok (.iconst 1, 1) := dk_4 (dk_at dksX0_same_0 15 rfl rfl)
theorem dX0_same_16 : decode cX0_same 16 = .ok (.ireturn, 1) := dk_172 (dk_at dksX0_same_0 16 rfl rfl)
theorem dX0_same_17 : decode cX0_same 17 = .ok (.astore 4, 2) := dk_58 4 (dk_at dksX0_same_0 17 rfl rfl)
theorem dX0_same_19 : decode cX0_same 19 = .ok (.iconst 2, 1) := dk_5 (dk_at dksX0_same_0 19 rfl rfl)
theorem dX0_same_20 : decode cX0_same 20 = .ok (.ireturn, 1) := dk_172 (dk_at dksX0_same_0 20 rfl rfl)
theorem dX0_same_21 : decode cX0_same 21 = .ok (.iconst 0, 1) := dk_3 (dk_at dksX0_same_0 21 rfl rfl)
theorem dX0_same_22 : decode cX0_same 22 = .ok (.ireturn, 1) := dk_172 (dk_at dksX0_same_0 22 rfl rfl)
abbrev cX0_copyPrice : ByteArray := method_11_code
def yX0_copyPrice : MethodName := ⟨RX0, "copyPrice", "(LCopyPrices;III[J)I"⟩
def dkwX0_copyPrice_0 : List UInt8 := [25, 4, 3, 42, 27, 28, 29, 182, 0, 40, 133, 80, 167, 0, 7, 58, 5, 4, 172, 3, 172]
abbrev dktX0_copyPrice_0 : List UInt8 := dkwX0_copyPrice_0 ++ []
theorem dksX0_copyPrice_0 : cX0_copyPrice.data.toList.drop 0 = dktX0_copyPrice_0 := by decide +kernel
theorem dX0_copyPrice_0 : decode cX0_copyPrice 0 = .ok (.aload 4, 2) := dk_25 4 (dk_at dksX0_copyPrice_0 0 rfl rfl)
theorem dX0_copyPrice_2 : decode cX0_copyPrice 2 = .ok (.iconst 0, 1) := dk_3 (dk_at dksX0_copyPrice_0 2 rfl rfl)
theorem dX0_copyPrice_3 : decode cX0_copyPrice 3 = .ok (.aload_n 0, 1) := dk_42 (dk_at dksX0_copyPrice_0 3 rfl rfl)
theorem dX0_copyPrice_4 : decode cX0_copyPrice 4 = .ok (.iload_n 1, 1) := dk_27 (dk_at dksX0_copyPrice_0 4 rfl rfl)
theorem dX0_copyPrice_5 : decode cX0_copyPrice 5 = .ok (.iload_n 2, 1) := dk_28 (dk_at dksX0_copyPrice_0 5 rfl rfl)
theorem dX0_copyPrice_6 : decode cX0_copyPrice 6 = .ok (.iload_n 3, 1) := dk_29 (dk_at dksX0_copyPrice_0 6 rfl rfl)
theorem dX0_copyPrice_7 : decode cX0_copyPrice 7 = .ok (.invokevirtual 40, 3) := dk_182 0 40 (dk_at dksX0_copyPrice_0 7 rfl rfl)
theorem dX0_copyPrice_10 : decode cX0_copyPrice 10 = .ok (.i2l, 1) := dk_133 (dk_at dksX0_copyPrice_0 10 rfl rfl)
theorem dX0_copyPrice_11 : decode cX0_copyPrice 11 = .ok (.lastore, 1) := dk_80 (dk_at dksX0_copyPrice_0 11 rfl rfl)
theorem dX0_copyPrice_12 : decode cX0_copyPrice 12 = .ok (.goto 7, 3) := dk_167 0 7 (dk_at dksX0_copyPrice_0 12 rfl rfl)
theorem dX0_copyPrice_15 : decode cX0_copyPrice 15 = .ok (.astore 5, 2) := dk_58 5 (dk_at dksX0_copyPrice_0 15 rfl rfl)
theorem dX0_copyPrice_17 : decode cX0_copyPrice 17 = .ok (.iconst 1, 1) := dk_4 (dk_at dksX0_copyPrice_0 17 rfl rfl)
theorem dX0_copyPrice_18 : decode cX0_copyPrice 18 = .ok (.ireturn, 1) := dk_172 (dk_at dksX0_copyPrice_0 18 rfl rfl)
theorem dX0_copyPrice_19 : decode cX0_copyPrice 19 = .ok (.iconst 0, 1) := dk_3 (dk_at dksX0_copyPrice_0 19 rfl rfl)
theorem dX0_copyPrice_20 : decode cX0_copyPrice 20 = .ok (.ireturn, 1) := dk_172 (dk_at dksX0_copyPrice_0 20 rfl rfl)
abbrev cX0_steps : ByteArray := method_12_code
def yX0_steps : MethodName := ⟨RX0, "steps", "(LCopyPrices;I[J)I"⟩
def dkwX0_steps_0 : List UInt8 := [44, 3, 42, 27, 182, 0, 43, 133, 80, 167, 0, 6, 78, 4, 172, 3, 172]
abbrev dktX0_steps_0 : List UInt8 := dkwX0_steps_0 ++ []
theorem dksX0_steps_0 : cX0_steps.data.toList.drop 0 = dktX0_steps_0 := by decide +kernel
theorem dX0_steps_0 : decode cX0_steps 0 = .ok (.aload_n 2, 1) := dk_44 (dk_at dksX0_steps_0 0 rfl rfl)
theorem dX0_steps_1 : decode cX0_steps 1 = .ok (.iconst 0, 1) := dk_3 (dk_at dksX0_steps_0 1 rfl rfl)
theorem dX0_steps_2 : decode cX0_steps 2 = .ok (.aload_n 0, 1) := dk_42 (dk_at dksX0_steps_0 2 rfl rfl)
theorem dX0_steps_3 : decode cX0_steps 3 = .ok (.iload_n 1, 1) := dk_27 (dk_at dksX0_steps_0 3 rfl rfl)
theorem dX0_steps_4 : decode cX0_steps 4 = .ok (.invokevirtual 43, 3) := dk_182 0 43 (dk_at dksX0_steps_0 4 rfl rfl)
theorem dX0_steps_7 : decode cX0_steps 7 = .ok (.i2l, 1) := dk_133 (dk_at dksX0_steps_0 7 rfl rfl)
theorem dX0_steps_8 : decode cX0_steps 8 = .ok (.lastore, 1) := dk_80 (dk_at dksX0_steps_0 8 rfl rfl)
theorem dX0_steps_9 : decode cX0_steps 9 = .ok (.goto 6, 3) := dk_167 0 6 (dk_at dksX0_steps_0 9 rfl rfl)
theorem dX0_steps_12 : decode cX0_steps 12 = .ok (.astore_n 3, 1) := dk_78 (dk_at dksX0_steps_0 12 rfl rfl)
theorem dX0_steps_13 : decode cX0_steps 13 = .ok (.iconst 1, 1) := dk_4 (dk_at dksX0_steps_0 13 rfl rfl)
theorem dX0_steps_14 : decode cX0_steps 14 = .ok (.ireturn, 1) := dk_172 (dk_at dksX0_steps_0 14 rfl rfl)
theorem dX0_steps_15 : decode cX0_steps 15 = .ok (.iconst 0, 1) := dk_3 (dk_at dksX0_steps_0 15 rfl rfl)
theorem dX0_steps_16 : decode cX0_steps 16 = .ok (.ireturn, 1) := dk_172 (dk_at dksX0_steps_0 16 rfl rfl)
abbrev cX0_step : ByteArray := method_13_code
def yX0_step : MethodName := ⟨RX0, "step", "(LCopyPrices;III[J)I"⟩
def dkwX0_step_1 : List UInt8 := [172]
abbrev dktX0_step_1 : List UInt8 := dkwX0_step_1 ++ []
def dkwX0_step_0 : List UInt8 := [25, 4, 3, 42, 27, 28, 29, 182, 0, 46, 133, 80, 167, 0, 11, 58, 5, 4, 172, 58, 5, 5, 172, 3]
abbrev dktX0_step_0 : List UInt8 := dkwX0_step_0 ++ dktX0_step_1
theorem dksX0_step_0 : cX0_step.data.toList.drop 0 = dktX0_step_0 := by decide +kernel
theorem dksX0_step_1 : cX0_step.data.toList.drop 24 = dktX0_step_1 := dk_seg dksX0_step_0 24 rfl rfl
theorem dX0_step_0 : decode cX0_step 0 = .ok (.aload 4, 2) := dk_25 4 (dk_at dksX0_step_0 0 rfl rfl)
theorem dX0_step_2 : decode cX0_step 2 = .ok (.iconst 0, 1) := dk_3 (dk_at dksX0_step_0 2 rfl rfl)
theorem dX0_step_3 : decode cX0_step 3 = .ok (.aload_n 0, 1) := dk_42 (dk_at dksX0_step_0 3 rfl rfl)
theorem dX0_step_4 : decode cX0_step 4 = .ok (.iload_n 1, 1) := dk_27 (dk_at dksX0_step_0 4 rfl rfl)
theorem dX0_step_5 : decode cX0_step 5 = .ok (.iload_n 2, 1) := dk_28 (dk_at dksX0_step_0 5 rfl rfl)
theorem dX0_step_6 : decode cX0_step 6 = .ok (.iload_n 3, 1) := dk_29 (dk_at dksX0_step_0 6 rfl rfl)
theorem dX0_step_7 : decode cX0_step 7 = .ok (.invokevirtual 46, 3) := dk_182 0 46 (dk_at dksX0_step_0 7 rfl rfl)
theorem dX0_step_10 : decode cX0_step 10 = .ok (.i2l, 1) := dk_133 (dk_at dksX0_step_0 10 rfl rfl)
theorem dX0_step_11 : decode cX0_step 11 = .ok (.lastore, 1) := dk_80 (dk_at dksX0_step_0 11 rfl rfl)
theorem dX0_step_12 : decode cX0_step 12 = .ok (.goto 11, 3) := dk_167 0 11 (dk_at dksX0_step_0 12 rfl rfl)
theorem dX0_step_15 : decode cX0_step 15 = .ok (.astore 5, 2) := dk_58 5 (dk_at dksX0_step_0 15 rfl rfl)
theorem dX0_step_17 : decode cX0_step 17 = .ok (.iconst 1, 1) := dk_4 (dk_at dksX0_step_0 17 rfl rfl)
theorem dX0_step_18 : decode cX0_step 18 = .ok (.ireturn, 1) := dk_172 (dk_at dksX0_step_0 18 rfl rfl)
theorem dX0_step_19 : decode cX0_step 19 = .ok (.astore 5, 2) := dk_58 5 (dk_at dksX0_step_0 19 rfl rfl)
theorem dX0_step_21 : decode cX0_step 21 = .ok (.iconst 2, 1) := dk_5 (dk_at dksX0_step_0 21 rfl rfl)
theorem dX0_step_22 : decode cX0_step 22 = .ok (.ireturn, 1) := dk_172 (dk_at dksX0_step_0 22 rfl rfl)
theorem dX0_step_23 : decode cX0_step 23 = .ok (.iconst 0, 1) := dk_3 (dk_at dksX0_step_0 23 rfl rfl)
theorem dX0_step_24 : decode cX0_step 24 = .ok (.ireturn, 1) := dk_172 (dk_at dksX0_step_1 0 rfl rfl)
abbrev cX0_stepAt : ByteArray := method_14_code
def yX0_stepAt : MethodName := ⟨RX0, "stepAt", "(LCopyPrices;II[J)I"⟩
def dkwX0_stepAt_0 : List UInt8 := [45, 3, 42, 27, 28, 182, 0, 49, 133, 80, 167, 0, 11, 58, 4, 4, 172, 58, 4, 5, 172, 3, 172]
abbrev dktX0_stepAt_0 : List UInt8 := dkwX0_stepAt_0 ++ []
theorem dksX0_stepAt_0 : cX0_stepAt.data.toList.drop 0 = dktX0_stepAt_0 := by decide +kernel
theorem dX0_stepAt_0 : decode cX0_stepAt 0 = .ok (.aload_n 3, 1) := dk_45 (dk_at dksX0_stepAt_0 0 rfl rfl)
theorem dX0_stepAt_1 : decode cX0_stepAt 1 = .ok (.iconst 0, 1) := dk_3 (dk_at dksX0_stepAt_0 1 rfl rfl)
theorem dX0_stepAt_2 : decode cX0_stepAt 2 = .ok (.aload_n 0, 1) := dk_42 (dk_at dksX0_stepAt_0 2 rfl rfl)
theorem dX0_stepAt_3 : decode cX0_stepAt 3 = .ok (.iload_n 1, 1) := dk_27 (dk_at dksX0_stepAt_0 3 rfl rfl)
theorem dX0_stepAt_4 : decode cX0_stepAt 4 = .ok (.iload_n 2, 1) := dk_28 (dk_at dksX0_stepAt_0 4 rfl rfl)
theorem dX0_stepAt_5 : decode cX0_stepAt 5 = .ok (.invokevirtual 49, 3) := dk_182 0 49 (dk_at dksX0_stepAt_0 5 rfl rfl)
theorem dX0_stepAt_8 : decode cX0_stepAt 8 = .ok (.i2l, 1) := dk_133 (dk_at dksX0_stepAt_0 8 rfl rfl)
theorem dX0_stepAt_9 : decode cX0_stepAt 9 = .ok (.lastore, 1) := dk_80 (dk_at dksX0_stepAt_0 9 rfl rfl)
theorem dX0_stepAt_10 : decode cX0_stepAt 10 = .ok (.goto 11, 3) := dk_167 0 11 (dk_at dksX0_stepAt_0 10 rfl rfl)
theorem dX0_stepAt_13 : decode cX0_stepAt 13 = .ok (.astore 4, 2) := dk_58 4 (dk_at dksX0_stepAt_0 13 rfl rfl)
theorem dX0_stepAt_15 : decode cX0_stepAt 15 = .ok (.iconst 1, 1) := dk_4 (dk_at dksX0_stepAt_0 15 rfl rfl)
theorem dX0_stepAt_16 : decode cX0_stepAt 16 = .ok (.ireturn, 1) := dk_172 (dk_at dksX0_stepAt_0 16 rfl rfl)
theorem dX0_stepAt_17 : decode cX0_stepAt 17 = .ok (.astore 4, 2) := dk_58 4 (dk_at dksX0_stepAt_0 17 rfl rfl)
theorem dX0_stepAt_19 : decode cX0_stepAt 19 = .ok (.iconst 2, 1) := dk_5 (dk_at dksX0_stepAt_0 19 rfl rfl)
theorem dX0_stepAt_20 : decode cX0_stepAt 20 = .ok (.ireturn, 1) := dk_172 (dk_at dksX0_stepAt_0 20 rfl rfl)
theorem dX0_stepAt_21 : decode cX0_stepAt 21 = .ok (.iconst 0, 1) := dk_3 (dk_at dksX0_stepAt_0 21 rfl rfl)
theorem dX0_stepAt_22 : decode cX0_stepAt 22 = .ok (.ireturn, 1) := dk_172 (dk_at dksX0_stepAt_0 22 rfl rfl)
abbrev cX0_parse : ByteArray := method_15_code
def yX0_parse : MethodName := ⟨RX0, "parse", "(LCopyPrices;II[J)I"⟩
def dkwX0_parse_0 : List UInt8 := [45, 3, 42, 27, 28, 182, 0, 52, 133, 80, 167, 0, 7, 58, 4, 4, 172, 3, 172]
abbrev dktX0_parse_0 : List UInt8 := dkwX0_parse_0 ++ []
theorem dksX0_parse_0 : cX0_parse.data.toList.drop 0 = dktX0_parse_0 := by decide +kernel
theorem dX0_parse_0 : decode cX0_parse 0 = .ok (.aload_n 3, 1) := dk_45 (dk_at dksX0_parse_0 0 rfl rfl)
theorem dX0_parse_1 : decode cX0_parse 1 = .ok (.iconst 0, 1) := dk_3 (dk_at dksX0_parse_0 1 rfl rfl)
theorem dX0_parse_2 : decode cX0_parse 2 = .ok (.aload_n 0, 1) := dk_42 (dk_at dksX0_parse_0 2 rfl rfl)
theorem dX0_parse_3 : decode cX0_parse 3 = .ok (.iload_n 1, 1) := dk_27 (dk_at dksX0_parse_0 3 rfl rfl)
theorem dX0_parse_4 : decode cX0_parse 4 = .ok (.iload_n 2, 1) := dk_28 (dk_at dksX0_parse_0 4 rfl rfl)
theorem dX0_parse_5 : decode cX0_parse 5 = .ok (.invokevirtual 52, 3) := dk_182 0 52 (dk_at dksX0_parse_0 5 rfl rfl)
theorem dX0_parse_8 : decode cX0_parse 8 = .ok (.i2l, 1) := dk_133 (dk_at dksX0_parse_0 8 rfl rfl)
theorem dX0_parse_9 : decode cX0_parse 9 = .ok (.lastore, 1) := dk_80 (dk_at dksX0_parse_0 9 rfl rfl)
theorem dX0_parse_10 : decode cX0_parse 10 = .ok (.goto 7, 3) := dk_167 0 7 (dk_at dksX0_parse_0 10 rfl rfl)
theorem dX0_parse_13 : decode cX0_parse 13 = .ok (.astore 4, 2) := dk_58 4 (dk_at dksX0_parse_0 13 rfl rfl)
theorem dX0_parse_15 : decode cX0_parse 15 = .ok (.iconst 1, 1) := dk_4 (dk_at dksX0_parse_0 15 rfl rfl)
theorem dX0_parse_16 : decode cX0_parse 16 = .ok (.ireturn, 1) := dk_172 (dk_at dksX0_parse_0 16 rfl rfl)
theorem dX0_parse_17 : decode cX0_parse 17 = .ok (.iconst 0, 1) := dk_3 (dk_at dksX0_parse_0 17 rfl rfl)
theorem dX0_parse_18 : decode cX0_parse 18 = .ok (.ireturn, 1) := dk_172 (dk_at dksX0_parse_0 18 rfl rfl)
abbrev cX0_restPrice : ByteArray := method_16_code
def yX0_restPrice : MethodName := ⟨RX0, "restPrice", "(LCopyPrices;IIZ[J)I"⟩
def dkwX0_restPrice_1 : List UInt8 := [172]
abbrev dktX0_restPrice_1 : List UInt8 := dkwX0_restPrice_1 ++ []
def dkwX0_restPrice_0 : List UInt8 := [25, 4, 3, 42, 27, 28, 29, 182, 0, 55, 133, 80, 167, 0, 11, 58, 5, 4, 172, 58, 5, 5, 172, 3]
abbrev dktX0_restPrice_0 : List UInt8 := dkwX0_restPrice_0 ++ dktX0_restPrice_1
theorem dksX0_restPrice_0 : cX0_restPrice.data.toList.drop 0 = dktX0_restPrice_0 := by decide +kernel
theorem dksX0_restPrice_1 : cX0_restPrice.data.toList.drop 24 = dktX0_restPrice_1 := dk_seg dksX0_restPrice_0 24 rfl rfl
theorem dX0_restPrice_0 : decode cX0_restPrice 0 = .ok (.aload 4, 2) := dk_25 4 (dk_at dksX0_restPrice_0 0 rfl rfl)
theorem dX0_restPrice_2 : decode cX0_restPrice 2 = .ok (.iconst 0, 1) := dk_3 (dk_at dksX0_restPrice_0 2 rfl rfl)
theorem dX0_restPrice_3 : decode cX0_restPrice 3 = .ok (.aload_n 0, 1) := dk_42 (dk_at dksX0_restPrice_0 3 rfl rfl)
theorem dX0_restPrice_4 : decode cX0_restPrice 4 = .ok (.iload_n 1, 1) := dk_27 (dk_at dksX0_restPrice_0 4 rfl rfl)
theorem dX0_restPrice_5 : decode cX0_restPrice 5 = .ok (.iload_n 2, 1) := dk_28 (dk_at dksX0_restPrice_0 5 rfl rfl)
theorem dX0_restPrice_6 : decode cX0_restPrice 6 = .ok (.iload_n 3, 1) := dk_29 (dk_at dksX0_restPrice_0 6 rfl rfl)
theorem dX0_restPrice_7 : decode cX0_restPrice 7 = .ok (.invokevirtual 55, 3) := dk_182 0 55 (dk_at dksX0_restPrice_0 7 rfl rfl)
theorem dX0_restPrice_10 : decode cX0_restPrice 10 = .ok (.i2l, 1) := dk_133 (dk_at dksX0_restPrice_0 10 rfl rfl)
theorem dX0_restPrice_11 : decode cX0_restPrice 11 = .ok (.lastore, 1) := dk_80 (dk_at dksX0_restPrice_0 11 rfl rfl)
theorem dX0_restPrice_12 : decode cX0_restPrice 12 = .ok (.goto 11, 3) := dk_167 0 11 (dk_at dksX0_restPrice_0 12 rfl rfl)
theorem dX0_restPrice_15 : decode cX0_restPrice 15 = .ok (.astore 5, 2) := dk_58 5 (dk_at dksX0_restPrice_0 15 rfl rfl)
theorem dX0_restPrice_17 : decode cX0_restPrice 17 = .ok (.iconst 1, 1) := dk_4 (dk_at dksX0_restPrice_0 17 rfl rfl)
theorem dX0_restPrice_18 : decode cX0_restPrice 18 = .ok (.ireturn, 1) := dk_172 (dk_at dksX0_restPrice_0 18 rfl rfl)
theorem dX0_restPrice_19 : decode cX0_restPrice 19 = .ok (.astore 5, 2) := dk_58 5 (dk_at dksX0_restPrice_0 19 rfl rfl)
theorem dX0_restPrice_21 : decode cX0_restPrice 21 = .ok (.iconst 2, 1) := dk_5 (dk_at dksX0_restPrice_0 21 rfl rfl)
theorem dX0_restPrice_22 : decode cX0_restPrice 22 = .ok (.ireturn, 1) := dk_172 (dk_at dksX0_restPrice_0 22 rfl rfl)
theorem dX0_restPrice_23 : decode cX0_restPrice 23 = .ok (.iconst 0, 1) := dk_3 (dk_at dksX0_restPrice_0 23 rfl rfl)
theorem dX0_restPrice_24 : decode cX0_restPrice 24 = .ok (.ireturn, 1) := dk_172 (dk_at dksX0_restPrice_1 0 rfl rfl)
abbrev cX0_through : ByteArray := method_17_code
def yX0_through : MethodName := ⟨RX0, "through", "(LCopyPrices;I[J)I"⟩
def dkwX0_through_0 : List UInt8 := [44, 3, 42, 27, 182, 0, 59, 133, 80, 167, 0, 6, 78, 4, 172, 3, 172]
abbrev dktX0_through_0 : List UInt8 := dkwX0_through_0 ++ []
theorem dksX0_through_0 : cX0_through.data.toList.drop 0 = dktX0_through_0 := by decide +kernel
theorem dX0_through_0 : decode cX0_through 0 = .ok (.aload_n 2, 1) := dk_44 (dk_at dksX0_through_0 0 rfl rfl)
theorem dX0_through_1 : decode cX0_through 1 = .ok (.iconst 0, 1) := dk_3 (dk_at dksX0_through_0 1 rfl rfl)
theorem dX0_through_2 : decode cX0_through 2 = .ok (.aload_n 0, 1) := dk_42 (dk_at dksX0_through_0 2 rfl rfl)
theorem dX0_through_3 : decode cX0_through 3 = .ok (.iload_n 1, 1) := dk_27 (dk_at dksX0_through_0 3 rfl rfl)
theorem dX0_through_4 : decode cX0_through 4 = .ok (.invokevirtual 59, 3) := dk_182 0 59 (dk_at dksX0_through_0 4 rfl rfl)
theorem dX0_through_7 : decode cX0_through 7 = .ok (.i2l, 1) := dk_133 (dk_at dksX0_through_0 7 rfl rfl)
theorem dX0_through_8 : decode cX0_through 8 = .ok (.lastore, 1) := dk_80 (dk_at dksX0_through_0 8 rfl rfl)
theorem dX0_through_9 : decode cX0_through 9 = .ok (.goto 6, 3) := dk_167 0 6 (dk_at dksX0_through_0 9 rfl rfl)
theorem dX0_through_12 : decode cX0_through 12 = .ok (.astore_n 3, 1) := dk_78 (dk_at dksX0_through_0 12 rfl rfl)
theorem dX0_through_13 : decode cX0_through 13 = .ok (.iconst 1, 1) := dk_4 (dk_at dksX0_through_0 13 rfl rfl)
theorem dX0_through_14 : decode cX0_through 14 = .ok (.ireturn, 1) := dk_172 (dk_at dksX0_through_0 14 rfl rfl)
theorem dX0_through_15 : decode cX0_through 15 = .ok (.iconst 0, 1) := dk_3 (dk_at dksX0_through_0 15 rfl rfl)
theorem dX0_through_16 : decode cX0_through 16 = .ok (.ireturn, 1) := dk_172 (dk_at dksX0_through_0 16 rfl rfl)
abbrev cX0_worth : ByteArray := method_18_code
def yX0_worth : MethodName := ⟨RX0, "worth", "(LCopyPrices;III[J)I"⟩
def dkwX0_worth_1 : List UInt8 := [172]
abbrev dktX0_worth_1 : List UInt8 := dkwX0_worth_1 ++ []
def dkwX0_worth_0 : List UInt8 := [25, 4, 3, 42, 27, 28, 29, 182, 0, 62, 133, 80, 167, 0, 11, 58, 5, 4, 172, 58, 5, 5, 172, 3]
abbrev dktX0_worth_0 : List UInt8 := dkwX0_worth_0 ++ dktX0_worth_1
theorem dksX0_worth_0 : cX0_worth.data.toList.drop 0 = dktX0_worth_0 := by decide +kernel
theorem dksX0_worth_1 : cX0_worth.data.toList.drop 24 = dktX0_worth_1 := dk_seg dksX0_worth_0 24 rfl rfl
theorem dX0_worth_0 : decode cX0_worth 0 = .ok (.aload 4, 2) := dk_25 4 (dk_at dksX0_worth_0 0 rfl rfl)
theorem dX0_worth_2 : decode cX0_worth 2 = .ok (.iconst 0, 1) := dk_3 (dk_at dksX0_worth_0 2 rfl rfl)
theorem dX0_worth_3 : decode cX0_worth 3 = .ok (.aload_n 0, 1) := dk_42 (dk_at dksX0_worth_0 3 rfl rfl)
theorem dX0_worth_4 : decode cX0_worth 4 = .ok (.iload_n 1, 1) := dk_27 (dk_at dksX0_worth_0 4 rfl rfl)
theorem dX0_worth_5 : decode cX0_worth 5 = .ok (.iload_n 2, 1) := dk_28 (dk_at dksX0_worth_0 5 rfl rfl)
theorem dX0_worth_6 : decode cX0_worth 6 = .ok (.iload_n 3, 1) := dk_29 (dk_at dksX0_worth_0 6 rfl rfl)
theorem dX0_worth_7 : decode cX0_worth 7 = .ok (.invokevirtual 62, 3) := dk_182 0 62 (dk_at dksX0_worth_0 7 rfl rfl)
theorem dX0_worth_10 : decode cX0_worth 10 = .ok (.i2l, 1) := dk_133 (dk_at dksX0_worth_0 10 rfl rfl)
theorem dX0_worth_11 : decode cX0_worth 11 = .ok (.lastore, 1) := dk_80 (dk_at dksX0_worth_0 11 rfl rfl)
theorem dX0_worth_12 : decode cX0_worth 12 = .ok (.goto 11, 3) := dk_167 0 11 (dk_at dksX0_worth_0 12 rfl rfl)
theorem dX0_worth_15 : decode cX0_worth 15 = .ok (.astore 5, 2) := dk_58 5 (dk_at dksX0_worth_0 15 rfl rfl)
theorem dX0_worth_17 : decode cX0_worth 17 = .ok (.iconst 1, 1) := dk_4 (dk_at dksX0_worth_0 17 rfl rfl)
theorem dX0_worth_18 : decode cX0_worth 18 = .ok (.ireturn, 1) := dk_172 (dk_at dksX0_worth_0 18 rfl rfl)
theorem dX0_worth_19 : decode cX0_worth 19 = .ok (.astore 5, 2) := dk_58 5 (dk_at dksX0_worth_0 19 rfl rfl)
theorem dX0_worth_21 : decode cX0_worth 21 = .ok (.iconst 2, 1) := dk_5 (dk_at dksX0_worth_0 21 rfl rfl)
theorem dX0_worth_22 : decode cX0_worth 22 = .ok (.ireturn, 1) := dk_172 (dk_at dksX0_worth_0 22 rfl rfl)
theorem dX0_worth_23 : decode cX0_worth 23 = .ok (.iconst 0, 1) := dk_3 (dk_at dksX0_worth_0 23 rfl rfl)
theorem dX0_worth_24 : decode cX0_worth 24 = .ok (.ireturn, 1) := dk_172 (dk_at dksX0_worth_1 0 rfl rfl)
abbrev cX0_ifLetter : ByteArray := method_19_code
def yX0_ifLetter : MethodName := ⟨RX0, "ifLetter", "(LCopyPrices;II[J)I"⟩
def dkwX0_ifLetter_0 : List UInt8 := [45, 3, 42, 27, 28, 182, 0, 65, 133, 80, 167, 0, 11, 58, 4, 4, 172, 58, 4, 5, 172, 3, 172]
abbrev dktX0_ifLetter_0 : List UInt8 := dkwX0_ifLetter_0 ++ []
theorem dksX0_ifLetter_0 : cX0_ifLetter.data.toList.drop 0 = dktX0_ifLetter_0 := by decide +kernel
theorem dX0_ifLetter_0 : decode cX0_ifLetter 0 = .ok (.aload_n 3, 1) := dk_45 (dk_at dksX0_ifLetter_0 0 rfl rfl)
theorem dX0_ifLetter_1 : decode cX0_ifLetter 1 = .ok (.iconst 0, 1) := dk_3 (dk_at dksX0_ifLetter_0 1 rfl rfl)
theorem dX0_ifLetter_2 : decode cX0_ifLetter 2 = .ok (.aload_n 0, 1) := dk_42 (dk_at dksX0_ifLetter_0 2 rfl rfl)
theorem dX0_ifLetter_3 : decode cX0_ifLetter 3 = .ok (.iload_n 1, 1) := dk_27 (dk_at dksX0_ifLetter_0 3 rfl rfl)
theorem dX0_ifLetter_4 : decode cX0_ifLetter 4 = .ok (.iload_n 2, 1) := dk_28 (dk_at dksX0_ifLetter_0 4 rfl rfl)
theorem dX0_ifLetter_5 : decode cX0_ifLetter 5 = .ok (.invokevirtual 65, 3) := dk_182 0 65 (dk_at dksX0_ifLetter_0 5 rfl rfl)
theorem dX0_ifLetter_8 : decode cX0_ifLetter 8 = .ok (.i2l, 1) := dk_133 (dk_at dksX0_ifLetter_0 8 rfl rfl)
theorem dX0_ifLetter_9 : decode cX0_ifLetter 9 = .ok (.lastore, 1) := dk_80 (dk_at dksX0_ifLetter_0 9 rfl rfl)
theorem dX0_ifLetter_10 : decode cX0_ifLetter 10 = .ok (.goto 11, 3) := dk_167 0 11 (dk_at dksX0_ifLetter_0 10 rfl rfl)
theorem dX0_ifLetter_13 : decode cX0_ifLetter 13 = .ok (.astore 4, 2) := dk_58 4 (dk_at dksX0_ifLetter_0 13 rfl rfl)
theorem dX0_ifLetter_15 : decode cX0_ifLetter 15 = .ok (.iconst 1, 1) := dk_4 (dk_at dksX0_ifLetter_0 15 rfl rfl)
theorem dX0_ifLetter_16 : decode cX0_ifLetter 16 = .ok (.ireturn, 1) := dk_172 (dk_at dksX0_ifLetter_0 16 rfl rfl)
theorem dX0_ifLetter_17 : decode cX0_ifLetter 17 = .ok (.astore 4, 2) := dk_58 4 (dk_at dksX0_ifLetter_0 17 rfl rfl)
theorem dX0_ifLetter_19 : decode cX0_ifLetter 19 = .ok (.iconst 2, 1) := dk_5 (dk_at dksX0_ifLetter_0 19 rfl rfl)
theorem dX0_ifLetter_20 : decode cX0_ifLetter 20 = .ok (.ireturn, 1) := dk_172 (dk_at dksX0_ifLetter_0 20 rfl rfl)
theorem dX0_ifLetter_21 : decode cX0_ifLetter 21 = .ok (.iconst 0, 1) := dk_3 (dk_at dksX0_ifLetter_0 21 rfl rfl)
theorem dX0_ifLetter_22 : decode cX0_ifLetter 22 = .ok (.ireturn, 1) := dk_172 (dk_at dksX0_ifLetter_0 22 rfl rfl)
abbrev cX0_pinCost : ByteArray := method_20_code
def yX0_pinCost : MethodName := ⟨RX0, "pinCost", "(LCopyPrices;I[J)I"⟩
def dkwX0_pinCost_0 : List UInt8 := [44, 3, 42, 27, 182, 0, 68, 133, 80, 167, 0, 6, 78, 4, 172, 3, 172]
abbrev dktX0_pinCost_0 : List UInt8 := dkwX0_pinCost_0 ++ []
theorem dksX0_pinCost_0 : cX0_pinCost.data.toList.drop 0 = dktX0_pinCost_0 := by decide +kernel
theorem dX0_pinCost_0 : decode cX0_pinCost 0 = .ok (.aload_n 2, 1) := dk_44 (dk_at dksX0_pinCost_0 0 rfl rfl)
theorem dX0_pinCost_1 : decode cX0_pinCost 1 = .ok (.iconst 0, 1) := dk_3 (dk_at dksX0_pinCost_0 1 rfl rfl)
theorem dX0_pinCost_2 : decode cX0_pinCost 2 = .ok (.aload_n 0, 1) := dk_42 (dk_at dksX0_pinCost_0 2 rfl rfl)
theorem dX0_pinCost_3 : decode cX0_pinCost 3 = .ok (.iload_n 1, 1) := dk_27 (dk_at dksX0_pinCost_0 3 rfl rfl)
theorem dX0_pinCost_4 : decode cX0_pinCost 4 = .ok (.invokevirtual 68, 3) := dk_182 0 68 (dk_at dksX0_pinCost_0 4 rfl rfl)
theorem dX0_pinCost_7 : decode cX0_pinCost 7 = .ok (.i2l, 1) := dk_133 (dk_at dksX0_pinCost_0 7 rfl rfl)
theorem dX0_pinCost_8 : decode cX0_pinCost 8 = .ok (.lastore, 1) := dk_80 (dk_at dksX0_pinCost_0 8 rfl rfl)
theorem dX0_pinCost_9 : decode cX0_pinCost 9 = .ok (.goto 6, 3) := dk_167 0 6 (dk_at dksX0_pinCost_0 9 rfl rfl)
theorem dX0_pinCost_12 : decode cX0_pinCost 12 = .ok (.astore_n 3, 1) := dk_78 (dk_at dksX0_pinCost_0 12 rfl rfl)
theorem dX0_pinCost_13 : decode cX0_pinCost 13 = .ok (.iconst 1, 1) := dk_4 (dk_at dksX0_pinCost_0 13 rfl rfl)
theorem dX0_pinCost_14 : decode cX0_pinCost 14 = .ok (.ireturn, 1) := dk_172 (dk_at dksX0_pinCost_0 14 rfl rfl)
theorem dX0_pinCost_15 : decode cX0_pinCost 15 = .ok (.iconst 0, 1) := dk_3 (dk_at dksX0_pinCost_0 15 rfl rfl)
theorem dX0_pinCost_16 : decode cX0_pinCost 16 = .ok (.ireturn, 1) := dk_172 (dk_at dksX0_pinCost_0 16 rfl rfl)
abbrev cX0_enough : ByteArray := method_21_code
def yX0_enough : MethodName := ⟨RX0, "enough", "(LCopyPrices;I[J)I"⟩
def dkwX0_enough_0 : List UInt8 := [44, 3, 42, 27, 182, 0, 71, 133, 80, 167, 0, 6, 78, 4, 172, 3, 172]
abbrev dktX0_enough_0 : List UInt8 := dkwX0_enough_0 ++ []
theorem dksX0_enough_0 : cX0_enough.data.toList.drop 0 = dktX0_enough_0 := by decide +kernel
theorem dX0_enough_0 : decode cX0_enough 0 = .ok (.aload_n 2, 1) := dk_44 (dk_at dksX0_enough_0 0 rfl rfl)
theorem dX0_enough_1 : decode cX0_enough 1 = .ok (.iconst 0, 1) := dk_3 (dk_at dksX0_enough_0 1 rfl rfl)
theorem dX0_enough_2 : decode cX0_enough 2 = .ok (.aload_n 0, 1) := dk_42 (dk_at dksX0_enough_0 2 rfl rfl)
theorem dX0_enough_3 : decode cX0_enough 3 = .ok (.iload_n 1, 1) := dk_27 (dk_at dksX0_enough_0 3 rfl rfl)
theorem dX0_enough_4 : decode cX0_enough 4 = .ok (.invokevirtual 71, 3) := dk_182 0 71 (dk_at dksX0_enough_0 4 rfl rfl)
theorem dX0_enough_7 : decode cX0_enough 7 = .ok (.i2l, 1) := dk_133 (dk_at dksX0_enough_0 7 rfl rfl)
theorem dX0_enough_8 : decode cX0_enough 8 = .ok (.lastore, 1) := dk_80 (dk_at dksX0_enough_0 8 rfl rfl)
theorem dX0_enough_9 : decode cX0_enough 9 = .ok (.goto 6, 3) := dk_167 0 6 (dk_at dksX0_enough_0 9 rfl rfl)
theorem dX0_enough_12 : decode cX0_enough 12 = .ok (.astore_n 3, 1) := dk_78 (dk_at dksX0_enough_0 12 rfl rfl)
theorem dX0_enough_13 : decode cX0_enough 13 = .ok (.iconst 1, 1) := dk_4 (dk_at dksX0_enough_0 13 rfl rfl)
theorem dX0_enough_14 : decode cX0_enough 14 = .ok (.ireturn, 1) := dk_172 (dk_at dksX0_enough_0 14 rfl rfl)
theorem dX0_enough_15 : decode cX0_enough 15 = .ok (.iconst 0, 1) := dk_3 (dk_at dksX0_enough_0 15 rfl rfl)
theorem dX0_enough_16 : decode cX0_enough 16 = .ok (.ireturn, 1) := dk_172 (dk_at dksX0_enough_0 16 rfl rfl)
abbrev cX0_meanLength : ByteArray := method_22_code
def yX0_meanLength : MethodName := ⟨RX0, "meanLength", "(LCopyPrices;I[D)I"⟩
def dkwX0_meanLength_0 : List UInt8 := [44, 3, 42, 27, 182, 0, 74, 82, 167, 0, 6, 78, 4, 172, 3, 172]
abbrev dktX0_meanLength_0 : List UInt8 := dkwX0_meanLength_0 ++ []
theorem dksX0_meanLength_0 : cX0_meanLength.data.toList.drop 0 = dktX0_meanLength_0 := by decide +kernel
theorem dX0_meanLength_0 : decode cX0_meanLength 0 = .ok (.aload_n 2, 1) := dk_44 (dk_at dksX0_meanLength_0 0 rfl rfl)
theorem dX0_meanLength_1 : decode cX0_meanLength 1 = .ok (.iconst 0, 1) := dk_3 (dk_at dksX0_meanLength_0 1 rfl rfl)
theorem dX0_meanLength_2 : decode cX0_meanLength 2 = .ok (.aload_n 0, 1) := dk_42 (dk_at dksX0_meanLength_0 2 rfl rfl)
theorem dX0_meanLength_3 : decode cX0_meanLength 3 = .ok (.iload_n 1, 1) := dk_27 (dk_at dksX0_meanLength_0 3 rfl rfl)
theorem dX0_meanLength_4 : decode cX0_meanLength 4 = .ok (.invokevirtual 74, 3) := dk_182 0 74 (dk_at dksX0_meanLength_0 4 rfl rfl)
theorem dX0_meanLength_7 : decode cX0_meanLength 7 = .ok (.dastore, 1) := dk_82 (dk_at dksX0_meanLength_0 7 rfl rfl)
theorem dX0_meanLength_8 : decode cX0_meanLength 8 = .ok (.goto 6, 3) := dk_167 0 6 (dk_at dksX0_meanLength_0 8 rfl rfl)
theorem dX0_meanLength_11 : decode cX0_meanLength 11 = .ok (.astore_n 3, 1) := dk_78 (dk_at dksX0_meanLength_0 11 rfl rfl)
theorem dX0_meanLength_12 : decode cX0_meanLength 12 = .ok (.iconst 1, 1) := dk_4 (dk_at dksX0_meanLength_0 12 rfl rfl)
theorem dX0_meanLength_13 : decode cX0_meanLength 13 = .ok (.ireturn, 1) := dk_172 (dk_at dksX0_meanLength_0 13 rfl rfl)
theorem dX0_meanLength_14 : decode cX0_meanLength 14 = .ok (.iconst 0, 1) := dk_3 (dk_at dksX0_meanLength_0 14 rfl rfl)
theorem dX0_meanLength_15 : decode cX0_meanLength 15 = .ok (.ireturn, 1) := dk_172 (dk_at dksX0_meanLength_0 15 rfl rfl)
abbrev cX0_put : ByteArray := method_23_code
def yX0_put : MethodName := ⟨RX0, "put", "(LCopyPrices;II[J)I"⟩
def dkwX0_put_0 : List UInt8 := [45, 3, 42, 27, 28, 182, 0, 78, 133, 80, 167, 0, 11, 58, 4, 4, 172, 58, 4, 5, 172, 3, 172]
abbrev dktX0_put_0 : List UInt8 := dkwX0_put_0 ++ []
theorem dksX0_put_0 : cX0_put.data.toList.drop 0 = dktX0_put_0 := by decide +kernel
theorem dX0_put_0 : decode cX0_put 0 = .ok (.aload_n 3, 1) := dk_45 (dk_at dksX0_put_0 0 rfl rfl)
theorem dX0_put_1 : decode cX0_put 1 = .ok (.iconst 0, 1) := dk_3 (dk_at dksX0_put_0 1 rfl rfl)
theorem dX0_put_2 : decode cX0_put 2 = .ok (.aload_n 0, 1) := dk_42 (dk_at dksX0_put_0 2 rfl rfl)
theorem dX0_put_3 : decode cX0_put 3 = .ok (.iload_n 1, 1) := dk_27 (dk_at dksX0_put_0 3 rfl rfl)
theorem dX0_put_4 : decode cX0_put 4 = .ok (.iload_n 2, 1) := dk_28 (dk_at dksX0_put_0 4 rfl rfl)
theorem dX0_put_5 : decode cX0_put 5 = .ok (.invokevirtual 78, 3) := dk_182 0 78 (dk_at dksX0_put_0 5 rfl rfl)
theorem dX0_put_8 : decode cX0_put 8 = .ok (.i2l, 1) := dk_133 (dk_at dksX0_put_0 8 rfl rfl)
theorem dX0_put_9 : decode cX0_put 9 = .ok (.lastore, 1) := dk_80 (dk_at dksX0_put_0 9 rfl rfl)
theorem dX0_put_10 : decode cX0_put 10 = .ok (.goto 11, 3) := dk_167 0 11 (dk_at dksX0_put_0 10 rfl rfl)
theorem dX0_put_13 : decode cX0_put 13 = .ok (.astore 4, 2) := dk_58 4 (dk_at dksX0_put_0 13 rfl rfl)
theorem dX0_put_15 : decode cX0_put 15 = .ok (.iconst 1, 1) := dk_4 (dk_at dksX0_put_0 15 rfl rfl)
theorem dX0_put_16 : decode cX0_put 16 = .ok (.ireturn, 1) := dk_172 (dk_at dksX0_put_0 16 rfl rfl)
theorem dX0_put_17 : decode cX0_put 17 = .ok (.astore 4, 2) := dk_58 4 (dk_at dksX0_put_0 17 rfl rfl)
theorem dX0_put_19 : decode cX0_put 19 = .ok (.iconst 2, 1) := dk_5 (dk_at dksX0_put_0 19 rfl rfl)
theorem dX0_put_20 : decode cX0_put 20 = .ok (.ireturn, 1) := dk_172 (dk_at dksX0_put_0 20 rfl rfl)
theorem dX0_put_21 : decode cX0_put 21 = .ok (.iconst 0, 1) := dk_3 (dk_at dksX0_put_0 21 rfl rfl)
theorem dX0_put_22 : decode cX0_put 22 = .ok (.ireturn, 1) := dk_172 (dk_at dksX0_put_0 22 rfl rfl)
abbrev cX0_add : ByteArray := method_24_code
def yX0_add : MethodName := ⟨RX0, "add", "(LCopyPrices;I[J)I"⟩
def dkwX0_add_0 : List UInt8 := [44, 3, 42, 27, 182, 0, 81, 133, 80, 167, 0, 9, 78, 4, 172, 78, 5, 172, 3, 172]
abbrev dktX0_add_0 : List UInt8 := dkwX0_add_0 ++ []
theorem dksX0_add_0 : cX0_add.data.toList.drop 0 = dktX0_add_0 := by decide +kernel
theorem dX0_add_0 : decode cX0_add 0 = .ok (.aload_n 2, 1) := dk_44 (dk_at dksX0_add_0 0 rfl rfl)
theorem dX0_add_1 : decode cX0_add 1 = .ok (.iconst 0, 1) := dk_3 (dk_at dksX0_add_0 1 rfl rfl)
theorem dX0_add_2 : decode cX0_add 2 = .ok (.aload_n 0, 1) := dk_42 (dk_at dksX0_add_0 2 rfl rfl)
theorem dX0_add_3 : decode cX0_add 3 = .ok (.iload_n 1, 1) := dk_27 (dk_at dksX0_add_0 3 rfl rfl)
theorem dX0_add_4 : decode cX0_add 4 = .ok (.invokevirtual 81, 3) := dk_182 0 81 (dk_at dksX0_add_0 4 rfl rfl)
theorem dX0_add_7 : decode cX0_add 7 = .ok (.i2l, 1) := dk_133 (dk_at dksX0_add_0 7 rfl rfl)
theorem dX0_add_8 : decode cX0_add 8 = .ok (.lastore, 1) := dk_80 (dk_at dksX0_add_0 8 rfl rfl)
theorem dX0_add_9 : decode cX0_add 9 = .ok (.goto 9, 3) := dk_167 0 9 (dk_at dksX0_add_0 9 rfl rfl)
theorem dX0_add_12 : decode cX0_add 12 = .ok (.astore_n 3, 1) := dk_78 (dk_at dksX0_add_0 12 rfl rfl)
theorem dX0_add_13 : decode cX0_add 13 = .ok (.iconst 1, 1) := dk_4 (dk_at dksX0_add_0 13 rfl rfl)
theorem dX0_add_14 : decode cX0_add 14 = .ok (.ireturn, 1) := dk_172 (dk_at dksX0_add_0 14 rfl rfl)
theorem dX0_add_15 : decode cX0_add 15 = .ok (.astore_n 3, 1) := dk_78 (dk_at dksX0_add_0 15 rfl rfl)
theorem dX0_add_16 : decode cX0_add 16 = .ok (.iconst 2, 1) := dk_5 (dk_at dksX0_add_0 16 rfl rfl)
theorem dX0_add_17 : decode cX0_add 17 = .ok (.ireturn, 1) := dk_172 (dk_at dksX0_add_0 17 rfl rfl)
theorem dX0_add_18 : decode cX0_add 18 = .ok (.iconst 0, 1) := dk_3 (dk_at dksX0_add_0 18 rfl rfl)
theorem dX0_add_19 : decode cX0_add 19 = .ok (.ireturn, 1) := dk_172 (dk_at dksX0_add_0 19 rfl rfl)
abbrev cX0_cut : ByteArray := method_25_code
def yX0_cut : MethodName := ⟨RX0, "cut", "(LCopyPrices;I[J)I"⟩
def dkwX0_cut_0 : List UInt8 := [44, 3, 42, 27, 182, 0, 86, 133, 80, 167, 0, 9, 78, 4, 172, 78, 5, 172, 3, 172]
abbrev dktX0_cut_0 : List UInt8 := dkwX0_cut_0 ++ []
theorem dksX0_cut_0 : cX0_cut.data.toList.drop 0 = dktX0_cut_0 := by decide +kernel
theorem dX0_cut_0 : decode cX0_cut 0 = .ok (.aload_n 2, 1) := dk_44 (dk_at dksX0_cut_0 0 rfl rfl)
theorem dX0_cut_1 : decode cX0_cut 1 = .ok (.iconst 0, 1) := dk_3 (dk_at dksX0_cut_0 1 rfl rfl)
theorem dX0_cut_2 : decode cX0_cut 2 = .ok (.aload_n 0, 1) := dk_42 (dk_at dksX0_cut_0 2 rfl rfl)
theorem dX0_cut_3 : decode cX0_cut 3 = .ok (.iload_n 1, 1) := dk_27 (dk_at dksX0_cut_0 3 rfl rfl)
theorem dX0_cut_4 : decode cX0_cut 4 = .ok (.invokevirtual 86, 3) := dk_182 0 86 (dk_at dksX0_cut_0 4 rfl rfl)
theorem dX0_cut_7 : decode cX0_cut 7 = .ok (.i2l, 1) := dk_133 (dk_at dksX0_cut_0 7 rfl rfl)
theorem dX0_cut_8 : decode cX0_cut 8 = .ok (.lastore, 1) := dk_80 (dk_at dksX0_cut_0 8 rfl rfl)
theorem dX0_cut_9 : decode cX0_cut 9 = .ok (.goto 9, 3) := dk_167 0 9 (dk_at dksX0_cut_0 9 rfl rfl)
theorem dX0_cut_12 : decode cX0_cut 12 = .ok (.astore_n 3, 1) := dk_78 (dk_at dksX0_cut_0 12 rfl rfl)
theorem dX0_cut_13 : decode cX0_cut 13 = .ok (.iconst 1, 1) := dk_4 (dk_at dksX0_cut_0 13 rfl rfl)
theorem dX0_cut_14 : decode cX0_cut 14 = .ok (.ireturn, 1) := dk_172 (dk_at dksX0_cut_0 14 rfl rfl)
theorem dX0_cut_15 : decode cX0_cut 15 = .ok (.astore_n 3, 1) := dk_78 (dk_at dksX0_cut_0 15 rfl rfl)
theorem dX0_cut_16 : decode cX0_cut 16 = .ok (.iconst 2, 1) := dk_5 (dk_at dksX0_cut_0 16 rfl rfl)
theorem dX0_cut_17 : decode cX0_cut 17 = .ok (.ireturn, 1) := dk_172 (dk_at dksX0_cut_0 17 rfl rfl)
theorem dX0_cut_18 : decode cX0_cut 18 = .ok (.iconst 0, 1) := dk_3 (dk_at dksX0_cut_0 18 rfl rfl)
theorem dX0_cut_19 : decode cX0_cut 19 = .ok (.ireturn, 1) := dk_172 (dk_at dksX0_cut_0 19 rfl rfl)
abbrev cX0_pin : ByteArray := method_26_code
def yX0_pin : MethodName := ⟨RX0, "pin", "(LCopyPrices;IZ[J)I"⟩
def dkwX0_pin_0 : List UInt8 := [45, 3, 42, 27, 28, 182, 0, 89, 133, 80, 167, 0, 11, 58, 4, 4, 172, 58, 4, 5, 172, 3, 172]
abbrev dktX0_pin_0 : List UInt8 := dkwX0_pin_0 ++ []
theorem dksX0_pin_0 : cX0_pin.data.toList.drop 0 = dktX0_pin_0 := by decide +kernel
theorem dX0_pin_0 : decode cX0_pin 0 = .ok (.aload_n 3, 1) := dk_45 (dk_at dksX0_pin_0 0 rfl rfl)
theorem dX0_pin_1 : decode cX0_pin 1 = .ok (.iconst 0, 1) := dk_3 (dk_at dksX0_pin_0 1 rfl rfl)
theorem dX0_pin_2 : decode cX0_pin 2 = .ok (.aload_n 0, 1) := dk_42 (dk_at dksX0_pin_0 2 rfl rfl)
theorem dX0_pin_3 : decode cX0_pin 3 = .ok (.iload_n 1, 1) := dk_27 (dk_at dksX0_pin_0 3 rfl rfl)
theorem dX0_pin_4 : decode cX0_pin 4 = .ok (.iload_n 2, 1) := dk_28 (dk_at dksX0_pin_0 4 rfl rfl)
theorem dX0_pin_5 : decode cX0_pin 5 = .ok (.invokevirtual 89, 3) := dk_182 0 89 (dk_at dksX0_pin_0 5 rfl rfl)
theorem dX0_pin_8 : decode cX0_pin 8 = .ok (.i2l, 1) := dk_133 (dk_at dksX0_pin_0 8 rfl rfl)
theorem dX0_pin_9 : decode cX0_pin 9 = .ok (.lastore, 1) := dk_80 (dk_at dksX0_pin_0 9 rfl rfl)
theorem dX0_pin_10 : decode cX0_pin 10 = .ok (.goto 11, 3) := dk_167 0 11 (dk_at dksX0_pin_0 10 rfl rfl)
theorem dX0_pin_13 : decode cX0_pin 13 = .ok (.astore 4, 2) := dk_58 4 (dk_at dksX0_pin_0 13 rfl rfl)
theorem dX0_pin_15 : decode cX0_pin 15 = .ok (.iconst 1, 1) := dk_4 (dk_at dksX0_pin_0 15 rfl rfl)
theorem dX0_pin_16 : decode cX0_pin 16 = .ok (.ireturn, 1) := dk_172 (dk_at dksX0_pin_0 16 rfl rfl)
theorem dX0_pin_17 : decode cX0_pin 17 = .ok (.astore 4, 2) := dk_58 4 (dk_at dksX0_pin_0 17 rfl rfl)
theorem dX0_pin_19 : decode cX0_pin 19 = .ok (.iconst 2, 1) := dk_5 (dk_at dksX0_pin_0 19 rfl rfl)
theorem dX0_pin_20 : decode cX0_pin 20 = .ok (.ireturn, 1) := dk_172 (dk_at dksX0_pin_0 20 rfl rfl)
theorem dX0_pin_21 : decode cX0_pin 21 = .ok (.iconst 0, 1) := dk_3 (dk_at dksX0_pin_0 21 rfl rfl)
theorem dX0_pin_22 : decode cX0_pin 22 = .ok (.ireturn, 1) := dk_172 (dk_at dksX0_pin_0 22 rfl rfl)
abbrev cX0_set : ByteArray := method_27_code
def yX0_set : MethodName := ⟨RX0, "set", "(LCopyPrices;II[J)I"⟩
def dkwX0_set_0 : List UInt8 := [45, 3, 42, 27, 28, 182, 0, 93, 133, 80, 167, 0, 7, 58, 4, 4, 172, 3, 172]
abbrev dktX0_set_0 : List UInt8 := dkwX0_set_0 ++ []
theorem dksX0_set_0 : cX0_set.data.toList.drop 0 = dktX0_set_0 := by decide +kernel
theorem dX0_set_0 : decode cX0_set 0 = .ok (.aload_n 3, 1) := dk_45 (dk_at dksX0_set_0 0 rfl rfl)
theorem dX0_set_1 : decode cX0_set 1 = .ok (.iconst 0, 1) := dk_3 (dk_at dksX0_set_0 1 rfl rfl)
theorem dX0_set_2 : decode cX0_set 2 = .ok (.aload_n 0, 1) := dk_42 (dk_at dksX0_set_0 2 rfl rfl)
theorem dX0_set_3 : decode cX0_set 3 = .ok (.iload_n 1, 1) := dk_27 (dk_at dksX0_set_0 3 rfl rfl)
theorem dX0_set_4 : decode cX0_set 4 = .ok (.iload_n 2, 1) := dk_28 (dk_at dksX0_set_0 4 rfl rfl)
theorem dX0_set_5 : decode cX0_set 5 = .ok (.invokevirtual 93, 3) := dk_182 0 93 (dk_at dksX0_set_0 5 rfl rfl)
theorem dX0_set_8 : decode cX0_set 8 = .ok (.i2l, 1) := dk_133 (dk_at dksX0_set_0 8 rfl rfl)
theorem dX0_set_9 : decode cX0_set 9 = .ok (.lastore, 1) := dk_80 (dk_at dksX0_set_0 9 rfl rfl)
theorem dX0_set_10 : decode cX0_set 10 = .ok (.goto 7, 3) := dk_167 0 7 (dk_at dksX0_set_0 10 rfl rfl)
theorem dX0_set_13 : decode cX0_set 13 = .ok (.astore 4, 2) := dk_58 4 (dk_at dksX0_set_0 13 rfl rfl)
theorem dX0_set_15 : decode cX0_set 15 = .ok (.iconst 1, 1) := dk_4 (dk_at dksX0_set_0 15 rfl rfl)
theorem dX0_set_16 : decode cX0_set 16 = .ok (.ireturn, 1) := dk_172 (dk_at dksX0_set_0 16 rfl rfl)
theorem dX0_set_17 : decode cX0_set 17 = .ok (.iconst 0, 1) := dk_3 (dk_at dksX0_set_0 17 rfl rfl)
theorem dX0_set_18 : decode cX0_set 18 = .ok (.ireturn, 1) := dk_172 (dk_at dksX0_set_0 18 rfl rfl)
abbrev cX0_setPrice : ByteArray := method_28_code
def yX0_setPrice : MethodName := ⟨RX0, "setPrice", "(LCopyPrices;II[J)I"⟩
def dkwX0_setPrice_0 : List UInt8 := [45, 3, 42, 27, 28, 182, 0, 96, 133, 80, 167, 0, 7, 58, 4, 4, 172, 3, 172]
abbrev dktX0_setPrice_0 : List UInt8 := dkwX0_setPrice_0 ++ []
theorem dksX0_setPrice_0 : cX0_setPrice.data.toList.drop 0 = dktX0_setPrice_0 := by decide +kernel
theorem dX0_setPrice_0 : decode cX0_setPrice 0 = .ok (.aload_n 3, 1) := dk_45 (dk_at dksX0_setPrice_0 0 rfl rfl)
theorem dX0_setPrice_1 : decode cX0_setPrice 1 = .ok (.iconst 0, 1) := dk_3 (dk_at dksX0_setPrice_0 1 rfl rfl)
theorem dX0_setPrice_2 : decode cX0_setPrice 2 = .ok (.aload_n 0, 1) := dk_42 (dk_at dksX0_setPrice_0 2 rfl rfl)
theorem dX0_setPrice_3 : decode cX0_setPrice 3 = .ok (.iload_n 1, 1) := dk_27 (dk_at dksX0_setPrice_0 3 rfl rfl)
theorem dX0_setPrice_4 : decode cX0_setPrice 4 = .ok (.iload_n 2, 1) := dk_28 (dk_at dksX0_setPrice_0 4 rfl rfl)
theorem dX0_setPrice_5 : decode cX0_setPrice 5 = .ok (.invokevirtual 96, 3) := dk_182 0 96 (dk_at dksX0_setPrice_0 5 rfl rfl)
theorem dX0_setPrice_8 : decode cX0_setPrice 8 = .ok (.i2l, 1) := dk_133 (dk_at dksX0_setPrice_0 8 rfl rfl)
theorem dX0_setPrice_9 : decode cX0_setPrice 9 = .ok (.lastore, 1) := dk_80 (dk_at dksX0_setPrice_0 9 rfl rfl)
theorem dX0_setPrice_10 : decode cX0_setPrice 10 = .ok (.goto 7, 3) := dk_167 0 7 (dk_at dksX0_setPrice_0 10 rfl rfl)
theorem dX0_setPrice_13 : decode cX0_setPrice 13 = .ok (.astore 4, 2) := dk_58 4 (dk_at dksX0_setPrice_0 13 rfl rfl)
theorem dX0_setPrice_15 : decode cX0_setPrice 15 = .ok (.iconst 1, 1) := dk_4 (dk_at dksX0_setPrice_0 15 rfl rfl)
theorem dX0_setPrice_16 : decode cX0_setPrice 16 = .ok (.ireturn, 1) := dk_172 (dk_at dksX0_setPrice_0 16 rfl rfl)
theorem dX0_setPrice_17 : decode cX0_setPrice 17 = .ok (.iconst 0, 1) := dk_3 (dk_at dksX0_setPrice_0 17 rfl rfl)
theorem dX0_setPrice_18 : decode cX0_setPrice 18 = .ok (.ireturn, 1) := dk_172 (dk_at dksX0_setPrice_0 18 rfl rfl)
abbrev cX0_undo : ByteArray := method_29_code
def yX0_undo : MethodName := ⟨RX0, "undo", "(LCopyPrices;[J)I"⟩
def dkwX0_undo_0 : List UInt8 := [43, 3, 42, 182, 0, 99, 133, 80, 167, 0, 6, 77, 4, 172, 3, 172]
abbrev dktX0_undo_0 : List UInt8 := dkwX0_undo_0 ++ []
theorem dksX0_undo_0 : cX0_undo.data.toList.drop 0 = dktX0_undo_0 := by decide +kernel
theorem dX0_undo_0 : decode cX0_undo 0 = .ok (.aload_n 1, 1) := dk_43 (dk_at dksX0_undo_0 0 rfl rfl)
theorem dX0_undo_1 : decode cX0_undo 1 = .ok (.iconst 0, 1) := dk_3 (dk_at dksX0_undo_0 1 rfl rfl)
theorem dX0_undo_2 : decode cX0_undo 2 = .ok (.aload_n 0, 1) := dk_42 (dk_at dksX0_undo_0 2 rfl rfl)
theorem dX0_undo_3 : decode cX0_undo 3 = .ok (.invokevirtual 99, 3) := dk_182 0 99 (dk_at dksX0_undo_0 3 rfl rfl)
theorem dX0_undo_6 : decode cX0_undo 6 = .ok (.i2l, 1) := dk_133 (dk_at dksX0_undo_0 6 rfl rfl)
theorem dX0_undo_7 : decode cX0_undo 7 = .ok (.lastore, 1) := dk_80 (dk_at dksX0_undo_0 7 rfl rfl)
theorem dX0_undo_8 : decode cX0_undo 8 = .ok (.goto 6, 3) := dk_167 0 6 (dk_at dksX0_undo_0 8 rfl rfl)
theorem dX0_undo_11 : decode cX0_undo 11 = .ok (.astore_n 2, 1) := dk_77 (dk_at dksX0_undo_0 11 rfl rfl)
theorem dX0_undo_12 : decode cX0_undo 12 = .ok (.iconst 1, 1) := dk_4 (dk_at dksX0_undo_0 12 rfl rfl)
theorem dX0_undo_13 : decode cX0_undo 13 = .ok (.ireturn, 1) := dk_172 (dk_at dksX0_undo_0 13 rfl rfl)
theorem dX0_undo_14 : decode cX0_undo 14 = .ok (.iconst 0, 1) := dk_3 (dk_at dksX0_undo_0 14 rfl rfl)
theorem dX0_undo_15 : decode cX0_undo 15 = .ok (.ireturn, 1) := dk_172 (dk_at dksX0_undo_0 15 rfl rfl)
abbrev cX0_printParse : ByteArray := method_30_code
def yX0_printParse : MethodName := ⟨RX0, "printParse", "(LCopyPrices;I[J)I"⟩
def dkwX0_printParse_0 : List UInt8 := [44, 3, 42, 27, 182, 0, 105, 133, 80, 167, 0, 6, 78, 4, 172, 3, 172]
abbrev dktX0_printParse_0 : List UInt8 := dkwX0_printParse_0 ++ []
theorem dksX0_printParse_0 : cX0_printParse.data.toList.drop 0 = dktX0_printParse_0 := by decide +kernel
theorem dX0_printParse_0 : decode cX0_printParse 0 = .ok (.aload_n 2, 1) := dk_44 (dk_at dksX0_printParse_0 0 rfl rfl)
theorem dX0_printParse_1 : decode cX0_printParse 1 = .ok (.iconst 0, 1) := dk_3 (dk_at dksX0_printParse_0 1 rfl rfl)
theorem dX0_printParse_2 : decode cX0_printParse 2 = .ok (.aload_n 0, 1) := dk_42 (dk_at dksX0_printParse_0 2 rfl rfl)
theorem dX0_printParse_3 : decode cX0_printParse 3 = .ok (.iload_n 1, 1) := dk_27 (dk_at dksX0_printParse_0 3 rfl rfl)
theorem dX0_printParse_4 : decode cX0_printParse 4 = .ok (.invokevirtual 105, 3) := dk_182 0 105 (dk_at dksX0_printParse_0 4 rfl rfl)
theorem dX0_printParse_7 : decode cX0_printParse 7 = .ok (.i2l, 1) := dk_133 (dk_at dksX0_printParse_0 7 rfl rfl)
theorem dX0_printParse_8 : decode cX0_printParse 8 = .ok (.lastore, 1) := dk_80 (dk_at dksX0_printParse_0 8 rfl rfl)
theorem dX0_printParse_9 : decode cX0_printParse 9 = .ok (.goto 6, 3) := dk_167 0 6 (dk_at dksX0_printParse_0 9 rfl rfl)
theorem dX0_printParse_12 : decode cX0_printParse 12 = .ok (.astore_n 3, 1) := dk_78 (dk_at dksX0_printParse_0 12 rfl rfl)
theorem dX0_printParse_13 : decode cX0_printParse 13 = .ok (.iconst 1, 1) := dk_4 (dk_at dksX0_printParse_0 13 rfl rfl)
theorem dX0_printParse_14 : decode cX0_printParse 14 = .ok (.ireturn, 1) := dk_172 (dk_at dksX0_printParse_0 14 rfl rfl)
theorem dX0_printParse_15 : decode cX0_printParse 15 = .ok (.iconst 0, 1) := dk_3 (dk_at dksX0_printParse_0 15 rfl rfl)
theorem dX0_printParse_16 : decode cX0_printParse 16 = .ok (.ireturn, 1) := dk_172 (dk_at dksX0_printParse_0 16 rfl rfl)
abbrev cX0_restoreState : ByteArray := method_31_code
def yX0_restoreState : MethodName := ⟨RX0, "restoreState", "(LCopyPrices;[J)I"⟩
def dkwX0_restoreState_0 : List UInt8 := [43, 3, 42, 182, 0, 108, 133, 80, 167, 0, 6, 77, 4, 172, 3, 172]
abbrev dktX0_restoreState_0 : List UInt8 := dkwX0_restoreState_0 ++ []
theorem dksX0_restoreState_0 : cX0_restoreState.data.toList.drop 0 = dktX0_restoreState_0 := by decide +kernel
theorem dX0_restoreState_0 : decode cX0_restoreState 0 = .ok (.aload_n 1, 1) := dk_43 (dk_at dksX0_restoreState_0 0 rfl rfl)
theorem dX0_restoreState_1 : decode cX0_restoreState 1 = .ok (.iconst 0, 1) := dk_3 (dk_at dksX0_restoreState_0 1 rfl rfl)
theorem dX0_restoreState_2 : decode cX0_restoreState 2 = .ok (.aload_n 0, 1) := dk_42 (dk_at dksX0_restoreState_0 2 rfl rfl)
theorem dX0_restoreState_3 : decode cX0_restoreState 3 = .ok (.invokevirtual 108, 3) := dk_182 0 108 (dk_at dksX0_restoreState_0 3 rfl rfl)
theorem dX0_restoreState_6 : decode cX0_restoreState 6 = .ok (.i2l, 1) := dk_133 (dk_at dksX0_restoreState_0 6 rfl rfl)
theorem dX0_restoreState_7 : decode cX0_restoreState 7 = .ok (.lastore, 1) := dk_80 (dk_at dksX0_restoreState_0 7 rfl rfl)
theorem dX0_restoreState_8 : decode cX0_restoreState 8 = .ok (.goto 6, 3) := dk_167 0 6 (dk_at dksX0_restoreState_0 8 rfl rfl)
theorem dX0_restoreState_11 : decode cX0_restoreState 11 = .ok (.astore_n 2, 1) := dk_77 (dk_at dksX0_restoreState_0 11 rfl rfl)
theorem dX0_restoreState_12 : decode cX0_restoreState 12 = .ok (.iconst 1, 1) := dk_4 (dk_at dksX0_restoreState_0 12 rfl rfl)
theorem dX0_restoreState_13 : decode cX0_restoreState 13 = .ok (.ireturn, 1) := dk_172 (dk_at dksX0_restoreState_0 13 rfl rfl)
theorem dX0_restoreState_14 : decode cX0_restoreState 14 = .ok (.iconst 0, 1) := dk_3 (dk_at dksX0_restoreState_0 14 rfl rfl)
theorem dX0_restoreState_15 : decode cX0_restoreState 15 = .ok (.ireturn, 1) := dk_172 (dk_at dksX0_restoreState_0 15 rfl rfl)
theorem q137 : (Jvm.Cond.initialized "CopyPricesLaw") ∈ lw_all := lw_g (lw_at lw_m1 0 rfl) rfl
theorem q173 : (Jvm.Cond.classLink "CopyPricesLaw" (8 : Nat) "CopyPrices") ∈ lw_all := lw_g (lw_at lw_m1 36 rfl) rfl
theorem q175 : (Jvm.Cond.methodLink "CopyPricesLaw" (111 : Nat) ({ cls := "CopyPrices", name := "<init>", desc := "()V" } : Jvm.MethodName)) ∈ lw_all := lw_g (lw_at lw_m1 38 rfl) rfl
theorem q655 : (Jvm.Cond.methodLink "CopyPricesLaw" (115 : Nat) ({ cls := "CopyPrices", name := "appendInput", desc := "(IIIII)I" } : Jvm.MethodName)) ∈ lw_all := lw_g (lw_at lw_m3 38 rfl) rfl
theorem q663 : (Jvm.Cond.methodLink "CopyPricesLaw" (120 : Nat) ({ cls := "CopyPrices", name := "truncateInput", desc := "(I)Z" } : Jvm.MethodName)) ∈ lw_all := lw_g (lw_at lw_m3 46 rfl) rfl
theorem q670 : (Jvm.Cond.methodLink "CopyPricesLaw" (125 : Nat) ({ cls := "CopyPrices", name := "loadText", desc := "()I" } : Jvm.MethodName)) ∈ lw_all := lw_g (lw_at lw_m3 53 rfl) rfl
theorem q940 : (Jvm.Cond.methodLink "CopyPricesLaw" (129 : Nat) ({ cls := "CopyPrices", name := "errorCode", desc := "()I" } : Jvm.MethodName)) ∈ lw_all := lw_g (lw_at lw_m4 83 rfl) rfl
theorem q944 : (Jvm.Cond.methodLink "CopyPricesLaw" (133 : Nat) ({ cls := "CopyPrices", name := "errorOffset", desc := "()I" } : Jvm.MethodName)) ∈ lw_all := lw_g (lw_at lw_m4 87 rfl) rfl
theorem q948 : (Jvm.Cond.methodLink "CopyPricesLaw" (194 : Nat) ({ cls := "CopyPrices", name := "agree", desc := "()Z" } : Jvm.MethodName)) ∈ lw_all := lw_g (lw_at lw_m4 91 rfl) rfl
theorem q1339 : (Jvm.Cond.methodLink "CopyPricesLaw" (205 : Nat) ({ cls := "CopyPrices", name := "costliestPin", desc := "()I" } : Jvm.MethodName)) ∈ lw_all := lw_g (lw_at lw_m6 2 rfl) rfl
theorem q1347 : (Jvm.Cond.methodLink "CopyPricesLaw" (212 : Nat) ({ cls := "CopyPrices", name := "bestWait", desc := "()I" } : Jvm.MethodName)) ∈ lw_all := lw_g (lw_at lw_m6 10 rfl) rfl
theorem q1356 : (Jvm.Cond.methodLink "CopyPricesLaw" (216 : Nat) ({ cls := "CopyPrices", name := "bestShare", desc := "()F" } : Jvm.MethodName)) ∈ lw_all := lw_g (lw_at lw_m6 19 rfl) rfl
theorem q1360 : (Jvm.Cond.methodLink "CopyPricesLaw" (251 : Nat) ({ cls := "CopyPrices", name := "printText", desc := "()I" } : Jvm.MethodName)) ∈ lw_all := lw_g (lw_at lw_m6 23 rfl) rfl
theorem q1374 : (Jvm.Cond.methodLink "CopyPricesLaw" (255 : Nat) ({ cls := "CopyPrices", name := "outputByte", desc := "(I)I" } : Jvm.MethodName)) ∈ lw_all := lw_g (lw_at lw_m6 37 rfl) rfl
theorem q1379 : (Jvm.Cond.methodLink "CopyPricesLaw" (259 : Nat) ({ cls := "CopyPrices", name := "saveState", desc := "()I" } : Jvm.MethodName)) ∈ lw_all := lw_g (lw_at lw_m6 42 rfl) rfl
theorem q1389 : (Jvm.Cond.methodLink "CopyPricesLaw" (137 : Nat) ({ cls := "CopyPricesLaw", name := "count", desc := "(LCopyPrices;I[J)I" } : Jvm.MethodName)) ∈ lw_all := lw_g (lw_at lw_m6 52 rfl) rfl
theorem q1390 : (Jvm.Cond.static ({ cls := "CopyPricesLaw", name := "count", desc := "(LCopyPrices;I[J)I" } : Jvm.MethodName)) ∈ lw_all := lw_g (lw_at lw_m6 53 rfl) rfl
theorem q1391 : (Jvm.Cond.codeWith ({ cls := "CopyPricesLaw", name := "count", desc := "(LCopyPrices;I[J)I" } : Jvm.MethodName) method_3_code (4 : Nat) (Option.some Jvm.ClassFile.FieldType.int) [((0 : Nat), (9 : Nat), (12 : Nat), (13 : Nat))]) ∈ lw_all := lw_g (lw_at lw_m6 54 rfl) rfl
theorem q1392 : (Jvm.Cond.classLink "CopyPricesLaw" (13 : Nat) "java/lang/IllegalArgumentException") ∈ lw_all := lw_g (lw_at lw_m6 55 rfl) rfl
theorem q1393 : (Jvm.Cond.methodLink "CopyPricesLaw" (7 : Nat) ({ cls := "CopyPrices", name := "count", desc := "(I)I" } : Jvm.MethodName)) ∈ lw_all := lw_g (lw_at lw_m6 56 rfl) rfl
theorem q1460 : (Jvm.Cond.methodLink "CopyPricesLaw" (146 : Nat) ({ cls := "CopyPricesLaw", name := "account", desc := "(LCopyPrices;I[J)I" } : Jvm.MethodName)) ∈ lw_all := lw_g (lw_at lw_m6 123 rfl) rfl
theorem q1461 : (Jvm.Cond.static ({ cls := "CopyPricesLaw", name := "account", desc := "(LCopyPrices;I[J)I" } : Jvm.MethodName)) ∈ lw_all := lw_g (lw_at lw_m6 124 rfl) rfl
theorem q1462 : (Jvm.Cond.codeWith ({ cls := "CopyPricesLaw", name := "account", desc := "(LCopyPrices;I[J)I" } : Jvm.MethodName) method_4_code (4 : Nat) (Option.some Jvm.ClassFile.FieldType.int) [((0 : Nat), (9 : Nat), (12 : Nat), (13 : Nat))]) ∈ lw_all := lw_g (lw_at lw_m6 125 rfl) rfl
theorem q1463 : (Jvm.Cond.methodLink "CopyPricesLaw" (15 : Nat) ({ cls := "CopyPrices", name := "account", desc := "(I)I" } : Jvm.MethodName)) ∈ lw_all := lw_g (lw_at lw_m6 126 rfl) rfl
theorem q1471 : (Jvm.Cond.methodLink "CopyPricesLaw" (149 : Nat) ({ cls := "CopyPricesLaw", name := "setting", desc := "(LCopyPrices;I[J)I" } : Jvm.MethodName)) ∈ lw_all := lw_g (lw_at lw_m6 134 rfl) rfl
theorem q1472 : (Jvm.Cond.static ({ cls := "CopyPricesLaw", name := "setting", desc := "(LCopyPrices;I[J)I" } : Jvm.MethodName)) ∈ lw_all := lw_g (lw_at lw_m6 135 rfl) rfl
theorem q1473 : (Jvm.Cond.codeWith ({ cls := "CopyPricesLaw", name := "setting", desc := "(LCopyPrices;I[J)I" } : Jvm.MethodName) method_5_code (4 : Nat) (Option.some Jvm.ClassFile.FieldType.int) [((0 : Nat), (9 : Nat), (12 : Nat), (13 : Nat))]) ∈ lw_all := lw_g (lw_at lw_m6 136 rfl) rfl
theorem q1474 : (Jvm.Cond.methodLink "CopyPricesLaw" (18 : Nat) ({ cls := "CopyPrices", name := "setting", desc := "(I)I" } : Jvm.MethodName)) ∈ lw_all := lw_g (lw_at lw_m6 137 rfl) rfl
theorem q1479 : (Jvm.Cond.methodLink "CopyPricesLaw" (152 : Nat) ({ cls := "CopyPricesLaw", name := "price", desc := "(LCopyPrices;I[J)I" } : Jvm.MethodName)) ∈ lw_all := lw_g (lw_at lw_m6 142 rfl) rfl
theorem q1480 : (Jvm.Cond.static ({ cls := "CopyPricesLaw", name := "price", desc := "(LCopyPrices;I[J)I" } : Jvm.MethodName)) ∈ lw_all := lw_g (lw_at lw_m6 143 rfl) rfl
theorem q1481 : (Jvm.Cond.codeWith ({ cls := "CopyPricesLaw", name := "price", desc := "(LCopyPrices;I[J)I" } : Jvm.MethodName) method_6_code (4 : Nat) (Option.some Jvm.ClassFile.FieldType.int) [((0 : Nat), (9 : Nat), (12 : Nat), (13 : Nat))]) ∈ lw_all := lw_g (lw_at lw_m6 144 rfl) rfl
theorem q1482 : (Jvm.Cond.methodLink "CopyPricesLaw" (21 : Nat) ({ cls := "CopyPrices", name := "price", desc := "(I)I" } : Jvm.MethodName)) ∈ lw_all := lw_g (lw_at lw_m6 145 rfl) rfl
theorem q1487 : (Jvm.Cond.methodLink "CopyPricesLaw" (155 : Nat) ({ cls := "CopyPricesLaw", name := "place", desc := "(LCopyPrices;II[J)I" } : Jvm.MethodName)) ∈ lw_all := lw_g (lw_at lw_m6 150 rfl) rfl
theorem q1488 : (Jvm.Cond.static ({ cls := "CopyPricesLaw", name := "place", desc := "(LCopyPrices;II[J)I" } : Jvm.MethodName)) ∈ lw_all := lw_g (lw_at lw_m6 151 rfl) rfl
theorem q1489 : (Jvm.Cond.codeWith ({ cls := "CopyPricesLaw", name := "place", desc := "(LCopyPrices;II[J)I" } : Jvm.MethodName) method_7_code (5 : Nat) (Option.some Jvm.ClassFile.FieldType.int) [((0 : Nat), (10 : Nat), (13 : Nat), (28 : Nat)), ((0 : Nat), (10 : Nat), (17 : Nat), (13 : Nat))]) ∈ lw_all := lw_g (lw_at lw_m6 152 rfl) rfl
theorem q1490 : (Jvm.Cond.classLink "CopyPricesLaw" (28 : Nat) "java/lang/IndexOutOfBoundsException") ∈ lw_all := lw_g (lw_at lw_m6 153 rfl) rfl
theorem q1493 : (Jvm.Cond.methodLink "CopyPricesLaw" (24 : Nat) ({ cls := "CopyPrices", name := "place", desc := "(II)I" } : Jvm.MethodName)) ∈ lw_all := lw_g (lw_at lw_m6 156 rfl) rfl
theorem q1525 : (Jvm.Cond.methodLink "CopyPricesLaw" (159 : Nat) ({ cls := "CopyPricesLaw", name := "candidate", desc := "(LCopyPrices;II[J)I" } : Jvm.MethodName)) ∈ lw_all := lw_g (lw_at lw_m6 188 rfl) rfl
theorem q1526 : (Jvm.Cond.static ({ cls := "CopyPricesLaw", name := "candidate", desc := "(LCopyPrices;II[J)I" } : Jvm.MethodName)) ∈ lw_all := lw_g (lw_at lw_m6 189 rfl) rfl
theorem q1527 : (Jvm.Cond.codeWith ({ cls := "CopyPricesLaw", name := "candidate", desc := "(LCopyPrices;II[J)I" } : Jvm.MethodName) method_8_code (5 : Nat) (Option.some Jvm.ClassFile.FieldType.int) [((0 : Nat), (10 : Nat), (13 : Nat), (28 : Nat))]) ∈ lw_all := lw_g (lw_at lw_m6 190 rfl) rfl
theorem q1528 : (Jvm.Cond.methodLink "CopyPricesLaw" (30 : Nat) ({ cls := "CopyPrices", name := "candidate", desc := "(II)I" } : Jvm.MethodName)) ∈ lw_all := lw_g (lw_at lw_m6 191 rfl) rfl
theorem q1533 : (Jvm.Cond.methodLink "CopyPricesLaw" (162 : Nat) ({ cls := "CopyPricesLaw", name := "why", desc := "(LCopyPrices;III[J)I" } : Jvm.MethodName)) ∈ lw_all := lw_g (lw_at lw_m6 196 rfl) rfl
theorem q1534 : (Jvm.Cond.static ({ cls := "CopyPricesLaw", name := "why", desc := "(LCopyPrices;III[J)I" } : Jvm.MethodName)) ∈ lw_all := lw_g (lw_at lw_m6 197 rfl) rfl
theorem q1535 : (Jvm.Cond.codeWith ({ cls := "CopyPricesLaw", name := "why", desc := "(LCopyPrices;III[J)I" } : Jvm.MethodName) method_9_code (6 : Nat) (Option.some Jvm.ClassFile.FieldType.int) [((0 : Nat), (12 : Nat), (15 : Nat), (28 : Nat)), ((0 : Nat), (12 : Nat), (19 : Nat), (13 : Nat))]) ∈ lw_all := lw_g (lw_at lw_m6 198 rfl) rfl
theorem q1536 : (Jvm.Cond.methodLink "CopyPricesLaw" (33 : Nat) ({ cls := "CopyPrices", name := "why", desc := "(III)I" } : Jvm.MethodName)) ∈ lw_all := lw_g (lw_at lw_m6 199 rfl) rfl
theorem q1554 : (Jvm.Cond.methodLink "CopyPricesLaw" (166 : Nat) ({ cls := "CopyPricesLaw", name := "same", desc := "(LCopyPrices;II[J)I" } : Jvm.MethodName)) ∈ lw_all := lw_g (lw_at lw_m6 217 rfl) rfl
theorem q1555 : (Jvm.Cond.static ({ cls := "CopyPricesLaw", name := "same", desc := "(LCopyPrices;II[J)I" } : Jvm.MethodName)) ∈ lw_all := lw_g (lw_at lw_m6 218 rfl) rfl
theorem q1556 : (Jvm.Cond.codeWith ({ cls := "CopyPricesLaw", name := "same", desc := "(LCopyPrices;II[J)I" } : Jvm.MethodName) method_10_code (5 : Nat) (Option.some Jvm.ClassFile.FieldType.int) [((0 : Nat), (10 : Nat), (13 : Nat), (28 : Nat)), ((0 : Nat), (10 : Nat), (17 : Nat), (13 : Nat))]) ∈ lw_all := lw_g (lw_at lw_m6 219 rfl) rfl
theorem q1557 : (Jvm.Cond.methodLink "CopyPricesLaw" (37 : Nat) ({ cls := "CopyPrices", name := "same", desc := "(II)I" } : Jvm.MethodName)) ∈ lw_all := lw_g (lw_at lw_m6 220 rfl) rfl
theorem q1562 : (Jvm.Cond.methodLink "CopyPricesLaw" (169 : Nat) ({ cls := "CopyPricesLaw", name := "copyPrice", desc := "(LCopyPrices;III[J)I" } : Jvm.MethodName)) ∈ lw_all := lw_g (lw_at lw_m6 225 rfl) rfl
theorem q1563 : (Jvm.Cond.static ({ cls := "CopyPricesLaw", name := "copyPrice", desc := "(LCopyPrices;III[J)I" } : Jvm.MethodName)) ∈ lw_all := lw_g (lw_at lw_m6 226 rfl) rfl
theorem q1564 : (Jvm.Cond.codeWith ({ cls := "CopyPricesLaw", name := "copyPrice", desc := "(LCopyPrices;III[J)I" } : Jvm.MethodName) method_11_code (6 : Nat) (Option.some Jvm.ClassFile.FieldType.int) [((0 : Nat), (12 : Nat), (15 : Nat), (13 : Nat))]) ∈ lw_all := lw_g (lw_at lw_m6 227 rfl) rfl
theorem q1565 : (Jvm.Cond.methodLink "CopyPricesLaw" (40 : Nat) ({ cls := "CopyPrices", name := "copyPrice", desc := "(III)I" } : Jvm.MethodName)) ∈ lw_all := lw_g (lw_at lw_m6 228 rfl) rfl
theorem q1570 : (Jvm.Cond.methodLink "CopyPricesLaw" (172 : Nat) ({ cls := "CopyPricesLaw", name := "steps", desc := "(LCopyPrices;I[J)I" } : Jvm.MethodName)) ∈ lw_all := lw_g (lw_at lw_m6 233 rfl) rfl
theorem q1571 : (Jvm.Cond.static ({ cls := "CopyPricesLaw", name := "steps", desc := "(LCopyPrices;I[J)I" } : Jvm.MethodName)) ∈ lw_all := lw_g (lw_at lw_m6 234 rfl) rfl
theorem q1572 : (Jvm.Cond.codeWith ({ cls := "CopyPricesLaw", name := "steps", desc := "(LCopyPrices;I[J)I" } : Jvm.MethodName) method_12_code (4 : Nat) (Option.some Jvm.ClassFile.FieldType.int) [((0 : Nat), (9 : Nat), (12 : Nat), (13 : Nat))]) ∈ lw_all := lw_g (lw_at lw_m6 235 rfl) rfl
theorem q1573 : (Jvm.Cond.methodLink "CopyPricesLaw" (43 : Nat) ({ cls := "CopyPrices", name := "steps", desc := "(I)I" } : Jvm.MethodName)) ∈ lw_all := lw_g (lw_at lw_m6 236 rfl) rfl
theorem q1584 : (Jvm.Cond.methodLink "CopyPricesLaw" (175 : Nat) ({ cls := "CopyPricesLaw", name := "step", desc := "(LCopyPrices;III[J)I" } : Jvm.MethodName)) ∈ lw_all := lw_g (lw_at lw_m7 7 rfl) rfl
theorem q1585 : (Jvm.Cond.static ({ cls := "CopyPricesLaw", name := "step", desc := "(LCopyPrices;III[J)I" } : Jvm.MethodName)) ∈ lw_all := lw_g (lw_at lw_m7 8 rfl) rfl
theorem q1586 : (Jvm.Cond.codeWith ({ cls := "CopyPricesLaw", name := "step", desc := "(LCopyPrices;III[J)I" } : Jvm.MethodName) method_13_code (6 : Nat) (Option.some Jvm.ClassFile.FieldType.int) [((0 : Nat), (12 : Nat), (15 : Nat), (13 : Nat)), ((0 : Nat), (12 : Nat), (19 : Nat), (28 : Nat))]) ∈ lw_all := lw_g (lw_at lw_m7 9 rfl) rfl
theorem q1587 : (Jvm.Cond.methodLink "CopyPricesLaw" (46 : Nat) ({ cls := "CopyPrices", name := "step", desc := "(III)I" } : Jvm.MethodName)) ∈ lw_all := lw_g (lw_at lw_m7 10 rfl) rfl
theorem q1598 : (Jvm.Cond.methodLink "CopyPricesLaw" (178 : Nat) ({ cls := "CopyPricesLaw", name := "stepAt", desc := "(LCopyPrices;II[J)I" } : Jvm.MethodName)) ∈ lw_all := lw_g (lw_at lw_m7 21 rfl) rfl
theorem q1599 : (Jvm.Cond.static ({ cls := "CopyPricesLaw", name := "stepAt", desc := "(LCopyPrices;II[J)I" } : Jvm.MethodName)) ∈ lw_all := lw_g (lw_at lw_m7 22 rfl) rfl
theorem q1600 : (Jvm.Cond.codeWith ({ cls := "CopyPricesLaw", name := "stepAt", desc := "(LCopyPrices;II[J)I" } : Jvm.MethodName) method_14_code (5 : Nat) (Option.some Jvm.ClassFile.FieldType.int) [((0 : Nat), (10 : Nat), (13 : Nat), (13 : Nat)), ((0 : Nat), (10 : Nat), (17 : Nat), (28 : Nat))]) ∈ lw_all := lw_g (lw_at lw_m7 23 rfl) rfl
theorem q1601 : (Jvm.Cond.methodLink "CopyPricesLaw" (49 : Nat) ({ cls := "CopyPrices", name := "stepAt", desc := "(II)I" } : Jvm.MethodName)) ∈ lw_all := lw_g (lw_at lw_m7 24 rfl) rfl
theorem q1607 : (Jvm.Cond.methodLink "CopyPricesLaw" (181 : Nat) ({ cls := "CopyPricesLaw", name := "parse", desc := "(LCopyPrices;II[J)I" } : Jvm.MethodName)) ∈ lw_all := lw_g (lw_at lw_m7 30 rfl) rfl
theorem q1608 : (Jvm.Cond.static ({ cls := "CopyPricesLaw", name := "parse", desc := "(LCopyPrices;II[J)I" } : Jvm.MethodName)) ∈ lw_all := lw_g (lw_at lw_m7 31 rfl) rfl
theorem q1609 : (Jvm.Cond.codeWith ({ cls := "CopyPricesLaw", name := "parse", desc := "(LCopyPrices;II[J)I" } : Jvm.MethodName) method_15_code (5 : Nat) (Option.some Jvm.ClassFile.FieldType.int) [((0 : Nat), (10 : Nat), (13 : Nat), (13 : Nat))]) ∈ lw_all := lw_g (lw_at lw_m7 32 rfl) rfl
theorem q1610 : (Jvm.Cond.methodLink "CopyPricesLaw" (52 : Nat) ({ cls := "CopyPrices", name := "parse", desc := "(II)I" } : Jvm.MethodName)) ∈ lw_all := lw_g (lw_at lw_m7 33 rfl) rfl
theorem q1631 : (Jvm.Cond.methodLink "CopyPricesLaw" (184 : Nat) ({ cls := "CopyPricesLaw", name := "restPrice", desc := "(LCopyPrices;IIZ[J)I" } : Jvm.MethodName)) ∈ lw_all := lw_g (lw_at lw_m7 54 rfl) rfl
theorem q1632 : (Jvm.Cond.static ({ cls := "CopyPricesLaw", name := "restPrice", desc := "(LCopyPrices;IIZ[J)I" } : Jvm.MethodName)) ∈ lw_all := lw_g (lw_at lw_m7 55 rfl) rfl
theorem q1633 : (Jvm.Cond.codeWith ({ cls := "CopyPricesLaw", name := "restPrice", desc := "(LCopyPrices;IIZ[J)I" } : Jvm.MethodName) method_16_code (6 : Nat) (Option.some Jvm.ClassFile.FieldType.int) [((0 : Nat), (12 : Nat), (15 : Nat), (28 : Nat)), ((0 : Nat), (12 : Nat), (19 : Nat), (13 : Nat))]) ∈ lw_all := lw_g (lw_at lw_m7 56 rfl) rfl
theorem q1634 : (Jvm.Cond.methodLink "CopyPricesLaw" (55 : Nat) ({ cls := "CopyPrices", name := "restPrice", desc := "(IIZ)I" } : Jvm.MethodName)) ∈ lw_all := lw_g (lw_at lw_m7 57 rfl) rfl
theorem q1641 : (Jvm.Cond.methodLink "CopyPricesLaw" (188 : Nat) ({ cls := "CopyPricesLaw", name := "through", desc := "(LCopyPrices;I[J)I" } : Jvm.MethodName)) ∈ lw_all := lw_g (lw_at lw_m7 64 rfl) rfl
theorem q1642 : (Jvm.Cond.static ({ cls := "CopyPricesLaw", name := "through", desc := "(LCopyPrices;I[J)I" } : Jvm.MethodName)) ∈ lw_all := lw_g (lw_at lw_m7 65 rfl) rfl
theorem q1643 : (Jvm.Cond.codeWith ({ cls := "CopyPricesLaw", name := "through", desc := "(LCopyPrices;I[J)I" } : Jvm.MethodName) method_17_code (4 : Nat) (Option.some Jvm.ClassFile.FieldType.int) [((0 : Nat), (9 : Nat), (12 : Nat), (28 : Nat))]) ∈ lw_all := lw_g (lw_at lw_m7 66 rfl) rfl
theorem q1644 : (Jvm.Cond.methodLink "CopyPricesLaw" (59 : Nat) ({ cls := "CopyPrices", name := "through", desc := "(I)I" } : Jvm.MethodName)) ∈ lw_all := lw_g (lw_at lw_m7 67 rfl) rfl
theorem q1648 : (Jvm.Cond.methodLink "CopyPricesLaw" (191 : Nat) ({ cls := "CopyPricesLaw", name := "worth", desc := "(LCopyPrices;III[J)I" } : Jvm.MethodName)) ∈ lw_all := lw_g (lw_at lw_m7 71 rfl) rfl
theorem q1649 : (Jvm.Cond.static ({ cls := "CopyPricesLaw", name := "worth", desc := "(LCopyPrices;III[J)I" } : Jvm.MethodName)) ∈ lw_all := lw_g (lw_at lw_m7 72 rfl) rfl
theorem q1650 : (Jvm.Cond.codeWith ({ cls := "CopyPricesLaw", name := "worth", desc := "(LCopyPrices;III[J)I" } : Jvm.MethodName) method_18_code (6 : Nat) (Option.some Jvm.ClassFile.FieldType.int) [((0 : Nat), (12 : Nat), (15 : Nat), (28 : Nat)), ((0 : Nat), (12 : Nat), (19 : Nat), (13 : Nat))]) ∈ lw_all := lw_g (lw_at lw_m7 73 rfl) rfl
theorem q1651 : (Jvm.Cond.methodLink "CopyPricesLaw" (62 : Nat) ({ cls := "CopyPrices", name := "worth", desc := "(III)I" } : Jvm.MethodName)) ∈ lw_all := lw_g (lw_at lw_m7 74 rfl) rfl
theorem q1659 : (Jvm.Cond.methodLink "CopyPricesLaw" (199 : Nat) ({ cls := "CopyPricesLaw", name := "ifLetter", desc := "(LCopyPrices;II[J)I" } : Jvm.MethodName)) ∈ lw_all := lw_g (lw_at lw_m7 82 rfl) rfl
theorem q1660 : (Jvm.Cond.static ({ cls := "CopyPricesLaw", name := "ifLetter", desc := "(LCopyPrices;II[J)I" } : Jvm.MethodName)) ∈ lw_all := lw_g (lw_at lw_m7 83 rfl) rfl
theorem q1661 : (Jvm.Cond.codeWith ({ cls := "CopyPricesLaw", name := "ifLetter", desc := "(LCopyPrices;II[J)I" } : Jvm.MethodName) method_19_code (5 : Nat) (Option.some Jvm.ClassFile.FieldType.int) [((0 : Nat), (10 : Nat), (13 : Nat), (28 : Nat)), ((0 : Nat), (10 : Nat), (17 : Nat), (13 : Nat))]) ∈ lw_all := lw_g (lw_at lw_m7 84 rfl) rfl
theorem q1662 : (Jvm.Cond.methodLink "CopyPricesLaw" (65 : Nat) ({ cls := "CopyPrices", name := "ifLetter", desc := "(II)I" } : Jvm.MethodName)) ∈ lw_all := lw_g (lw_at lw_m7 85 rfl) rfl
theorem q1667 : (Jvm.Cond.methodLink "CopyPricesLaw" (202 : Nat) ({ cls := "CopyPricesLaw", name := "pinCost", desc := "(LCopyPrices;I[J)I" } : Jvm.MethodName)) ∈ lw_all := lw_g (lw_at lw_m7 90 rfl) rfl
theorem q1668 : (Jvm.Cond.static ({ cls := "CopyPricesLaw", name := "pinCost", desc := "(LCopyPrices;I[J)I" } : Jvm.MethodName)) ∈ lw_all := lw_g (lw_at lw_m7 91 rfl) rfl
theorem q1669 : (Jvm.Cond.codeWith ({ cls := "CopyPricesLaw", name := "pinCost", desc := "(LCopyPrices;I[J)I" } : Jvm.MethodName) method_20_code (4 : Nat) (Option.some Jvm.ClassFile.FieldType.int) [((0 : Nat), (9 : Nat), (12 : Nat), (28 : Nat))]) ∈ lw_all := lw_g (lw_at lw_m7 92 rfl) rfl
theorem q1670 : (Jvm.Cond.methodLink "CopyPricesLaw" (68 : Nat) ({ cls := "CopyPrices", name := "pinCost", desc := "(I)I" } : Jvm.MethodName)) ∈ lw_all := lw_g (lw_at lw_m7 93 rfl) rfl
theorem q1674 : (Jvm.Cond.methodLink "CopyPricesLaw" (209 : Nat) ({ cls := "CopyPricesLaw", name := "enough", desc := "(LCopyPrices;I[J)I" } : Jvm.MethodName)) ∈ lw_all := lw_g (lw_at lw_m7 97 rfl) rfl
theorem q1675 : (Jvm.Cond.static ({ cls := "CopyPricesLaw", name := "enough", desc := "(LCopyPrices;I[J)I" } : Jvm.MethodName)) ∈ lw_all := lw_g (lw_at lw_m7 98 rfl) rfl
theorem q1676 : (Jvm.Cond.codeWith ({ cls := "CopyPricesLaw", name := "enough", desc := "(LCopyPrices;I[J)I" } : Jvm.MethodName) method_21_code (4 : Nat) (Option.some Jvm.ClassFile.FieldType.int) [((0 : Nat), (9 : Nat), (12 : Nat), (13 : Nat))]) ∈ lw_all := lw_g (lw_at lw_m7 99 rfl) rfl
theorem q1677 : (Jvm.Cond.methodLink "CopyPricesLaw" (71 : Nat) ({ cls := "CopyPrices", name := "enough", desc := "(I)I" } : Jvm.MethodName)) ∈ lw_all := lw_g (lw_at lw_m7 100 rfl) rfl
theorem q1683 : (Jvm.Cond.methodLink "CopyPricesLaw" (221 : Nat) ({ cls := "CopyPricesLaw", name := "meanLength", desc := "(LCopyPrices;I[D)I" } : Jvm.MethodName)) ∈ lw_all := lw_g (lw_at lw_m7 106 rfl) rfl
theorem q1684 : (Jvm.Cond.static ({ cls := "CopyPricesLaw", name := "meanLength", desc := "(LCopyPrices;I[D)I" } : Jvm.MethodName)) ∈ lw_all := lw_g (lw_at lw_m7 107 rfl) rfl
theorem q1685 : (Jvm.Cond.codeWith ({ cls := "CopyPricesLaw", name := "meanLength", desc := "(LCopyPrices;I[D)I" } : Jvm.MethodName) method_22_code (4 : Nat) (Option.some Jvm.ClassFile.FieldType.int) [((0 : Nat), (8 : Nat), (11 : Nat), (13 : Nat))]) ∈ lw_all := lw_g (lw_at lw_m7 108 rfl) rfl
theorem q1686 : (Jvm.Cond.methodLink "CopyPricesLaw" (74 : Nat) ({ cls := "CopyPrices", name := "meanLength", desc := "(I)D" } : Jvm.MethodName)) ∈ lw_all := lw_g (lw_at lw_m7 109 rfl) rfl
theorem q1694 : (Jvm.Cond.methodLink "CopyPricesLaw" (225 : Nat) ({ cls := "CopyPricesLaw", name := "put", desc := "(LCopyPrices;II[J)I" } : Jvm.MethodName)) ∈ lw_all := lw_g (lw_at lw_m7 117 rfl) rfl
theorem q1695 : (Jvm.Cond.static ({ cls := "CopyPricesLaw", name := "put", desc := "(LCopyPrices;II[J)I" } : Jvm.MethodName)) ∈ lw_all := lw_g (lw_at lw_m7 118 rfl) rfl
theorem q1696 : (Jvm.Cond.codeWith ({ cls := "CopyPricesLaw", name := "put", desc := "(LCopyPrices;II[J)I" } : Jvm.MethodName) method_23_code (5 : Nat) (Option.some Jvm.ClassFile.FieldType.int) [((0 : Nat), (10 : Nat), (13 : Nat), (28 : Nat)), ((0 : Nat), (10 : Nat), (17 : Nat), (13 : Nat))]) ∈ lw_all := lw_g (lw_at lw_m7 119 rfl) rfl
theorem q1697 : (Jvm.Cond.methodLink "CopyPricesLaw" (78 : Nat) ({ cls := "CopyPrices", name := "put", desc := "(II)I" } : Jvm.MethodName)) ∈ lw_all := lw_g (lw_at lw_m7 120 rfl) rfl
theorem q1795 : (Jvm.Cond.methodLink "CopyPricesLaw" (228 : Nat) ({ cls := "CopyPricesLaw", name := "add", desc := "(LCopyPrices;I[J)I" } : Jvm.MethodName)) ∈ lw_all := lw_g (lw_at lw_m7 218 rfl) rfl
theorem q1796 : (Jvm.Cond.static ({ cls := "CopyPricesLaw", name := "add", desc := "(LCopyPrices;I[J)I" } : Jvm.MethodName)) ∈ lw_all := lw_g (lw_at lw_m7 219 rfl) rfl
theorem q1797 : (Jvm.Cond.codeWith ({ cls := "CopyPricesLaw", name := "add", desc := "(LCopyPrices;I[J)I" } : Jvm.MethodName) method_24_code (4 : Nat) (Option.some Jvm.ClassFile.FieldType.int) [((0 : Nat), (9 : Nat), (12 : Nat), (13 : Nat)), ((0 : Nat), (9 : Nat), (15 : Nat), (84 : Nat))]) ∈ lw_all := lw_g (lw_at lw_m7 220 rfl) rfl
theorem q1798 : (Jvm.Cond.classLink "CopyPricesLaw" (84 : Nat) "java/lang/IllegalStateException") ∈ lw_all := lw_g (lw_at lw_m7 221 rfl) rfl
theorem q1799 : (Jvm.Cond.methodLink "CopyPricesLaw" (81 : Nat) ({ cls := "CopyPrices", name := "add", desc := "(I)I" } : Jvm.MethodName)) ∈ lw_all := lw_g (lw_at lw_m7 222 rfl) rfl
theorem q1811 : (Jvm.Cond.methodLink "CopyPricesLaw" (231 : Nat) ({ cls := "CopyPricesLaw", name := "cut", desc := "(LCopyPrices;I[J)I" } : Jvm.MethodName)) ∈ lw_all := lw_g (lw_at lw_m7 234 rfl) rfl
theorem q1812 : (Jvm.Cond.static ({ cls := "CopyPricesLaw", name := "cut", desc := "(LCopyPrices;I[J)I" } : Jvm.MethodName)) ∈ lw_all := lw_g (lw_at lw_m7 235 rfl) rfl
theorem q1813 : (Jvm.Cond.codeWith ({ cls := "CopyPricesLaw", name := "cut", desc := "(LCopyPrices;I[J)I" } : Jvm.MethodName) method_25_code (4 : Nat) (Option.some Jvm.ClassFile.FieldType.int) [((0 : Nat), (9 : Nat), (12 : Nat), (13 : Nat)), ((0 : Nat), (9 : Nat), (15 : Nat), (84 : Nat))]) ∈ lw_all := lw_g (lw_at lw_m7 236 rfl) rfl
theorem q1814 : (Jvm.Cond.methodLink "CopyPricesLaw" (86 : Nat) ({ cls := "CopyPrices", name := "cut", desc := "(I)I" } : Jvm.MethodName)) ∈ lw_all := lw_g (lw_at lw_m7 237 rfl) rfl
theorem q1818 : (Jvm.Cond.methodLink "CopyPricesLaw" (234 : Nat) ({ cls := "CopyPricesLaw", name := "pin", desc := "(LCopyPrices;IZ[J)I" } : Jvm.MethodName)) ∈ lw_all := lw_g (lw_at lw_m8 1 rfl) rfl
theorem q1819 : (Jvm.Cond.static ({ cls := "CopyPricesLaw", name := "pin", desc := "(LCopyPrices;IZ[J)I" } : Jvm.MethodName)) ∈ lw_all := lw_g (lw_at lw_m8 2 rfl) rfl
theorem q1820 : (Jvm.Cond.codeWith ({ cls := "CopyPricesLaw", name := "pin", desc := "(LCopyPrices;IZ[J)I" } : Jvm.MethodName) method_26_code (5 : Nat) (Option.some Jvm.ClassFile.FieldType.int) [((0 : Nat), (10 : Nat), (13 : Nat), (28 : Nat)), ((0 : Nat), (10 : Nat), (17 : Nat), (84 : Nat))]) ∈ lw_all := lw_g (lw_at lw_m8 3 rfl) rfl
theorem q1821 : (Jvm.Cond.methodLink "CopyPricesLaw" (89 : Nat) ({ cls := "CopyPrices", name := "pin", desc := "(IZ)I" } : Jvm.MethodName)) ∈ lw_all := lw_g (lw_at lw_m8 4 rfl) rfl
theorem q1826 : (Jvm.Cond.methodLink "CopyPricesLaw" (238 : Nat) ({ cls := "CopyPricesLaw", name := "set", desc := "(LCopyPrices;II[J)I" } : Jvm.MethodName)) ∈ lw_all := lw_g (lw_at lw_m8 9 rfl) rfl
theorem q1827 : (Jvm.Cond.static ({ cls := "CopyPricesLaw", name := "set", desc := "(LCopyPrices;II[J)I" } : Jvm.MethodName)) ∈ lw_all := lw_g (lw_at lw_m8 10 rfl) rfl
theorem q1828 : (Jvm.Cond.codeWith ({ cls := "CopyPricesLaw", name := "set", desc := "(LCopyPrices;II[J)I" } : Jvm.MethodName) method_27_code (5 : Nat) (Option.some Jvm.ClassFile.FieldType.int) [((0 : Nat), (10 : Nat), (13 : Nat), (13 : Nat))]) ∈ lw_all := lw_g (lw_at lw_m8 11 rfl) rfl
theorem q1829 : (Jvm.Cond.methodLink "CopyPricesLaw" (93 : Nat) ({ cls := "CopyPrices", name := "set", desc := "(II)I" } : Jvm.MethodName)) ∈ lw_all := lw_g (lw_at lw_m8 12 rfl) rfl
theorem q1833 : (Jvm.Cond.methodLink "CopyPricesLaw" (241 : Nat) ({ cls := "CopyPricesLaw", name := "setPrice", desc := "(LCopyPrices;II[J)I" } : Jvm.MethodName)) ∈ lw_all := lw_g (lw_at lw_m8 16 rfl) rfl
theorem q1834 : (Jvm.Cond.static ({ cls := "CopyPricesLaw", name := "setPrice", desc := "(LCopyPrices;II[J)I" } : Jvm.MethodName)) ∈ lw_all := lw_g (lw_at lw_m8 17 rfl) rfl
theorem q1835 : (Jvm.Cond.codeWith ({ cls := "CopyPricesLaw", name := "setPrice", desc := "(LCopyPrices;II[J)I" } : Jvm.MethodName) method_28_code (5 : Nat) (Option.some Jvm.ClassFile.FieldType.int) [((0 : Nat), (10 : Nat), (13 : Nat), (13 : Nat))]) ∈ lw_all := lw_g (lw_at lw_m8 18 rfl) rfl
theorem q1836 : (Jvm.Cond.methodLink "CopyPricesLaw" (96 : Nat) ({ cls := "CopyPrices", name := "setPrice", desc := "(II)I" } : Jvm.MethodName)) ∈ lw_all := lw_g (lw_at lw_m8 19 rfl) rfl
theorem q1841 : (Jvm.Cond.methodLink "CopyPricesLaw" (244 : Nat) ({ cls := "CopyPricesLaw", name := "undo", desc := "(LCopyPrices;[J)I" } : Jvm.MethodName)) ∈ lw_all := lw_g (lw_at lw_m8 24 rfl) rfl
theorem q1842 : (Jvm.Cond.static ({ cls := "CopyPricesLaw", name := "undo", desc := "(LCopyPrices;[J)I" } : Jvm.MethodName)) ∈ lw_all := lw_g (lw_at lw_m8 25 rfl) rfl
theorem q1843 : (Jvm.Cond.codeWith ({ cls := "CopyPricesLaw", name := "undo", desc := "(LCopyPrices;[J)I" } : Jvm.MethodName) method_29_code (3 : Nat) (Option.some Jvm.ClassFile.FieldType.int) [((0 : Nat), (8 : Nat), (11 : Nat), (103 : Nat))]) ∈ lw_all := lw_g (lw_at lw_m8 26 rfl) rfl
theorem q1844 : (Jvm.Cond.classLink "CopyPricesLaw" (103 : Nat) "java/util/NoSuchElementException") ∈ lw_all := lw_g (lw_at lw_m8 27 rfl) rfl
theorem q1845 : (Jvm.Cond.methodLink "CopyPricesLaw" (99 : Nat) ({ cls := "CopyPrices", name := "undo", desc := "()I" } : Jvm.MethodName)) ∈ lw_all := lw_g (lw_at lw_m8 28 rfl) rfl
theorem q1866 : (Jvm.Cond.methodLink "CopyPricesLaw" (248 : Nat) ({ cls := "CopyPricesLaw", name := "printParse", desc := "(LCopyPrices;I[J)I" } : Jvm.MethodName)) ∈ lw_all := lw_g (lw_at lw_m8 49 rfl) rfl
theorem q1867 : (Jvm.Cond.static ({ cls := "CopyPricesLaw", name := "printParse", desc := "(LCopyPrices;I[J)I" } : Jvm.MethodName)) ∈ lw_all := lw_g (lw_at lw_m8 50 rfl) rfl
theorem q1868 : (Jvm.Cond.codeWith ({ cls := "CopyPricesLaw", name := "printParse", desc := "(LCopyPrices;I[J)I" } : Jvm.MethodName) method_30_code (4 : Nat) (Option.some Jvm.ClassFile.FieldType.int) [((0 : Nat), (9 : Nat), (12 : Nat), (13 : Nat))]) ∈ lw_all := lw_g (lw_at lw_m8 51 rfl) rfl
theorem q1869 : (Jvm.Cond.methodLink "CopyPricesLaw" (105 : Nat) ({ cls := "CopyPrices", name := "printParse", desc := "(I)I" } : Jvm.MethodName)) ∈ lw_all := lw_g (lw_at lw_m8 52 rfl) rfl
theorem q1885 : (Jvm.Cond.methodLink "CopyPricesLaw" (263 : Nat) ({ cls := "CopyPricesLaw", name := "restoreState", desc := "(LCopyPrices;[J)I" } : Jvm.MethodName)) ∈ lw_all := lw_g (lw_at lw_m8 68 rfl) rfl
theorem q1886 : (Jvm.Cond.static ({ cls := "CopyPricesLaw", name := "restoreState", desc := "(LCopyPrices;[J)I" } : Jvm.MethodName)) ∈ lw_all := lw_g (lw_at lw_m8 69 rfl) rfl
theorem q1887 : (Jvm.Cond.codeWith ({ cls := "CopyPricesLaw", name := "restoreState", desc := "(LCopyPrices;[J)I" } : Jvm.MethodName) method_31_code (3 : Nat) (Option.some Jvm.ClassFile.FieldType.int) [((0 : Nat), (8 : Nat), (11 : Nat), (103 : Nat))]) ∈ lw_all := lw_g (lw_at lw_m8 70 rfl) rfl
theorem q1888 : (Jvm.Cond.methodLink "CopyPricesLaw" (108 : Nat) ({ cls := "CopyPrices", name := "restoreState", desc := "()I" } : Jvm.MethodName)) ∈ lw_all := lw_g (lw_at lw_m8 71 rfl) rfl
theorem q1892 : (Jvm.Cond.methodLink "CopyPricesLaw" (143 : Nat) ({ cls := "CopyPricesModel", name := "thrown", desc := "()I" } : Jvm.MethodName)) ∈ lw_all := lw_g (lw_at lw_m8 75 rfl) rfl
theorem q1896 : (Jvm.Cond.classLink "CopyPricesLaw" (112 : Nat) "CopyPricesModel") ∈ lw_all := lw_g (lw_at lw_m8 79 rfl) rfl
theorem q1898 : (Jvm.Cond.methodLink "CopyPricesLaw" (114 : Nat) ({ cls := "CopyPricesModel", name := "<init>", desc := "()V" } : Jvm.MethodName)) ∈ lw_all := lw_g (lw_at lw_m8 81 rfl) rfl
theorem q2000 : (Jvm.Cond.methodLink "CopyPricesLaw" (119 : Nat) ({ cls := "CopyPricesModel", name := "appendInput", desc := "(IIIII)I" } : Jvm.MethodName)) ∈ lw_all := lw_g (lw_at lw_m8 183 rfl) rfl
theorem q2008 : (Jvm.Cond.methodLink "CopyPricesLaw" (124 : Nat) ({ cls := "CopyPricesModel", name := "truncateInput", desc := "(I)Z" } : Jvm.MethodName)) ∈ lw_all := lw_g (lw_at lw_m8 191 rfl) rfl
theorem q2015 : (Jvm.Cond.methodLink "CopyPricesLaw" (132 : Nat) ({ cls := "CopyPricesModel", name := "errorCode", desc := "()I" } : Jvm.MethodName)) ∈ lw_all := lw_g (lw_at lw_m8 198 rfl) rfl
theorem q2019 : (Jvm.Cond.methodLink "CopyPricesLaw" (136 : Nat) ({ cls := "CopyPricesModel", name := "errorOffset", desc := "()I" } : Jvm.MethodName)) ∈ lw_all := lw_g (lw_at lw_m8 202 rfl) rfl
theorem q2023 : (Jvm.Cond.methodLink "CopyPricesLaw" (128 : Nat) ({ cls := "CopyPricesModel", name := "loadText", desc := "()I" } : Jvm.MethodName)) ∈ lw_all := lw_g (lw_at lw_m8 206 rfl) rfl
theorem q2137 : (Jvm.Cond.methodLink "CopyPricesLaw" (142 : Nat) ({ cls := "CopyPricesModel", name := "count", desc := "(I)I" } : Jvm.MethodName)) ∈ lw_all := lw_g (lw_at lw_m9 80 rfl) rfl
theorem q2230 : (Jvm.Cond.methodLink "CopyPricesLaw" (148 : Nat) ({ cls := "CopyPricesModel", name := "account", desc := "(I)I" } : Jvm.MethodName)) ∈ lw_all := lw_g (lw_at lw_m9 173 rfl) rfl
theorem q2234 : (Jvm.Cond.methodLink "CopyPricesLaw" (151 : Nat) ({ cls := "CopyPricesModel", name := "setting", desc := "(I)I" } : Jvm.MethodName)) ∈ lw_all := lw_g (lw_at lw_m9 177 rfl) rfl
theorem q2241 : (Jvm.Cond.methodLink "CopyPricesLaw" (154 : Nat) ({ cls := "CopyPricesModel", name := "price", desc := "(I)I" } : Jvm.MethodName)) ∈ lw_all := lw_g (lw_at lw_m9 184 rfl) rfl
theorem q2252 : (Jvm.Cond.methodLink "CopyPricesLaw" (158 : Nat) ({ cls := "CopyPricesModel", name := "place", desc := "(II)I" } : Jvm.MethodName)) ∈ lw_all := lw_g (lw_at lw_m9 195 rfl) rfl
theorem q2268 : (Jvm.Cond.methodLink "CopyPricesLaw" (161 : Nat) ({ cls := "CopyPricesModel", name := "candidate", desc := "(II)I" } : Jvm.MethodName)) ∈ lw_all := lw_g (lw_at lw_m9 211 rfl) rfl
theorem q2276 : (Jvm.Cond.methodLink "CopyPricesLaw" (165 : Nat) ({ cls := "CopyPricesModel", name := "why", desc := "(III)I" } : Jvm.MethodName)) ∈ lw_all := lw_g (lw_at lw_m9 219 rfl) rfl
theorem q2291 : (Jvm.Cond.methodLink "CopyPricesLaw" (168 : Nat) ({ cls := "CopyPricesModel", name := "same", desc := "(II)I" } : Jvm.MethodName)) ∈ lw_all := lw_g (lw_at lw_m9 234 rfl) rfl
theorem q2295 : (Jvm.Cond.methodLink "CopyPricesLaw" (171 : Nat) ({ cls := "CopyPricesModel", name := "copyPrice", desc := "(III)I" } : Jvm.MethodName)) ∈ lw_all := lw_g (lw_at lw_m9 238 rfl) rfl
theorem q2306 : (Jvm.Cond.methodLink "CopyPricesLaw" (174 : Nat) ({ cls := "CopyPricesModel", name := "steps", desc := "(I)I" } : Jvm.MethodName)) ∈ lw_all := lw_g (lw_at lw_m10 9 rfl) rfl
theorem q2369 : (Jvm.Cond.methodLink "CopyPricesLaw" (177 : Nat) ({ cls := "CopyPricesModel", name := "step", desc := "(III)I" } : Jvm.MethodName)) ∈ lw_all := lw_g (lw_at lw_m10 72 rfl) rfl
theorem q2381 : (Jvm.Cond.methodLink "CopyPricesLaw" (180 : Nat) ({ cls := "CopyPricesModel", name := "stepAt", desc := "(II)I" } : Jvm.MethodName)) ∈ lw_all := lw_g (lw_at lw_m10 84 rfl) rfl
theorem q2385 : (Jvm.Cond.methodLink "CopyPricesLaw" (183 : Nat) ({ cls := "CopyPricesModel", name := "parse", desc := "(II)I" } : Jvm.MethodName)) ∈ lw_all := lw_g (lw_at lw_m10 88 rfl) rfl
theorem q2413 : (Jvm.Cond.methodLink "CopyPricesLaw" (187 : Nat) ({ cls := "CopyPricesModel", name := "restPrice", desc := "(IIZ)I" } : Jvm.MethodName)) ∈ lw_all := lw_g (lw_at lw_m10 116 rfl) rfl
theorem q2417 : (Jvm.Cond.methodLink "CopyPricesLaw" (190 : Nat) ({ cls := "CopyPricesModel", name := "through", desc := "(I)I" } : Jvm.MethodName)) ∈ lw_all := lw_g (lw_at lw_m10 120 rfl) rfl
theorem q2437 : (Jvm.Cond.methodLink "CopyPricesLaw" (193 : Nat) ({ cls := "CopyPricesModel", name := "worth", desc := "(III)I" } : Jvm.MethodName)) ∈ lw_all := lw_g (lw_at lw_m10 140 rfl) rfl
theorem q2445 : (Jvm.Cond.methodLink "CopyPricesLaw" (198 : Nat) ({ cls := "CopyPricesModel", name := "agree", desc := "()Z" } : Jvm.MethodName)) ∈ lw_all := lw_g (lw_at lw_m10 148 rfl) rfl
theorem q2461 : (Jvm.Cond.methodLink "CopyPricesLaw" (201 : Nat) ({ cls := "CopyPricesModel", name := "ifLetter", desc := "(II)I" } : Jvm.MethodName)) ∈ lw_all := lw_g (lw_at lw_m10 164 rfl) rfl
theorem q2477 : (Jvm.Cond.methodLink "CopyPricesLaw" (204 : Nat) ({ cls := "CopyPricesModel", name := "pinCost", desc := "(I)I" } : Jvm.MethodName)) ∈ lw_all := lw_g (lw_at lw_m10 180 rfl) rfl
theorem q2485 : (Jvm.Cond.methodLink "CopyPricesLaw" (208 : Nat) ({ cls := "CopyPricesModel", name := "costliestPin", desc := "()I" } : Jvm.MethodName)) ∈ lw_all := lw_g (lw_at lw_m10 188 rfl) rfl
theorem q2489 : (Jvm.Cond.methodLink "CopyPricesLaw" (211 : Nat) ({ cls := "CopyPricesModel", name := "enough", desc := "(I)I" } : Jvm.MethodName)) ∈ lw_all := lw_g (lw_at lw_m10 192 rfl) rfl
theorem q2493 : (Jvm.Cond.methodLink "CopyPricesLaw" (215 : Nat) ({ cls := "CopyPricesModel", name := "bestWait", desc := "()I" } : Jvm.MethodName)) ∈ lw_all := lw_g (lw_at lw_m10 196 rfl) rfl
theorem q2501 : (Jvm.Cond.methodLink "CopyPricesLaw" (220 : Nat) ({ cls := "CopyPricesModel", name := "bestShare", desc := "()F" } : Jvm.MethodName)) ∈ lw_all := lw_g (lw_at lw_m10 204 rfl) rfl
theorem q2505 : (Jvm.Cond.methodLink "CopyPricesLaw" (224 : Nat) ({ cls := "CopyPricesModel", name := "meanLength", desc := "(I)D" } : Jvm.MethodName)) ∈ lw_all := lw_g (lw_at lw_m10 208 rfl) rfl
theorem q2509 : (Jvm.Cond.methodLink "CopyPricesLaw" (227 : Nat) ({ cls := "CopyPricesModel", name := "put", desc := "(II)I" } : Jvm.MethodName)) ∈ lw_all := lw_g (lw_at lw_m10 212 rfl) rfl
theorem q2525 : (Jvm.Cond.methodLink "CopyPricesLaw" (230 : Nat) ({ cls := "CopyPricesModel", name := "add", desc := "(I)I" } : Jvm.MethodName)) ∈ lw_all := lw_g (lw_at lw_m10 228 rfl) rfl
theorem q2529 : (Jvm.Cond.methodLink "CopyPricesLaw" (233 : Nat) ({ cls := "CopyPricesModel", name := "cut", desc := "(I)I" } : Jvm.MethodName)) ∈ lw_all := lw_g (lw_at lw_m10 232 rfl) rfl
theorem q2533 : (Jvm.Cond.methodLink "CopyPricesLaw" (237 : Nat) ({ cls := "CopyPricesModel", name := "pin", desc := "(IZ)I" } : Jvm.MethodName)) ∈ lw_all := lw_g (lw_at lw_m10 236 rfl) rfl
theorem q2537 : (Jvm.Cond.methodLink "CopyPricesLaw" (240 : Nat) ({ cls := "CopyPricesModel", name := "set", desc := "(II)I" } : Jvm.MethodName)) ∈ lw_all := lw_g (lw_at lw_m11 0 rfl) rfl
theorem q2541 : (Jvm.Cond.methodLink "CopyPricesLaw" (243 : Nat) ({ cls := "CopyPricesModel", name := "setPrice", desc := "(II)I" } : Jvm.MethodName)) ∈ lw_all := lw_g (lw_at lw_m11 4 rfl) rfl
theorem q2545 : (Jvm.Cond.methodLink "CopyPricesLaw" (247 : Nat) ({ cls := "CopyPricesModel", name := "undo", desc := "()I" } : Jvm.MethodName)) ∈ lw_all := lw_g (lw_at lw_m11 8 rfl) rfl
theorem q2549 : (Jvm.Cond.methodLink "CopyPricesLaw" (250 : Nat) ({ cls := "CopyPricesModel", name := "printParse", desc := "(I)I" } : Jvm.MethodName)) ∈ lw_all := lw_g (lw_at lw_m11 12 rfl) rfl
theorem q2565 : (Jvm.Cond.methodLink "CopyPricesLaw" (254 : Nat) ({ cls := "CopyPricesModel", name := "printText", desc := "()I" } : Jvm.MethodName)) ∈ lw_all := lw_g (lw_at lw_m11 28 rfl) rfl
theorem q2569 : (Jvm.Cond.methodLink "CopyPricesLaw" (258 : Nat) ({ cls := "CopyPricesModel", name := "outputByte", desc := "(I)I" } : Jvm.MethodName)) ∈ lw_all := lw_g (lw_at lw_m11 32 rfl) rfl
theorem q2573 : (Jvm.Cond.methodLink "CopyPricesLaw" (262 : Nat) ({ cls := "CopyPricesModel", name := "saveState", desc := "()I" } : Jvm.MethodName)) ∈ lw_all := lw_g (lw_at lw_m11 36 rfl) rfl
theorem q2577 : (Jvm.Cond.methodLink "CopyPricesLaw" (265 : Nat) ({ cls := "CopyPricesModel", name := "restoreState", desc := "()I" } : Jvm.MethodName)) ∈ lw_all := lw_g (lw_at lw_m11 40 rfl) rfl
/-! the law's own entry -/
set_option maxRecDepth 100000
abbrev cL_law : ByteArray := code
def dkwL_law_96 : List UInt8 := [4, 172]
abbrev dktL_law_96 : List UInt8 := dkwL_law_96 ++ []
def dkwL_law_95 : List UInt8 := [154, 0, 15, 45, 3, 47, 21, 7, 133, 148, 153, 0, 5, 3, 172, 167, 0, 3, 132, 5, 6, 167, 246, 198]
abbrev dktL_law_95 : List UInt8 := dkwL_law_95 ++ dktL_law_96
def dkwL_law_94 : List UInt8 := [184, 1, 7, 54, 6, 44, 182, 1, 9, 54, 7, 44, 182, 0, 143, 21, 6, 159, 0, 5, 3, 172, 21, 6]
abbrev dktL_law_94 : List UInt8 := dkwL_law_94 ++ dktL_law_95
def dkwL_law_93 : List UInt8 := [46, 182, 1, 2, 159, 0, 62, 3, 172, 43, 182, 1, 3, 44, 182, 1, 6, 159, 0, 49, 3, 172, 43, 45]
abbrev dktL_law_93 : List UInt8 := dkwL_law_93 ++ dktL_law_94
def dkwL_law_92 : List UInt8 := [182, 0, 254, 159, 0, 87, 3, 172, 43, 42, 21, 5, 4, 96, 46, 182, 0, 255, 44, 42, 21, 5, 4, 96]
abbrev dktL_law_92 : List UInt8 := dkwL_law_92 ++ dktL_law_93
def dkwL_law_91 : List UInt8 := [154, 0, 15, 45, 3, 47, 21, 7, 133, 148, 153, 0, 5, 3, 172, 167, 0, 98, 43, 182, 0, 251, 44]
abbrev dktL_law_91 : List UInt8 := dkwL_law_91 ++ dktL_law_92
def dkwL_law_90 : List UInt8 := [21, 5, 4, 96, 46, 182, 0, 250, 54, 7, 44, 182, 0, 143, 21, 6, 159, 0, 5, 3, 172, 21, 6]
abbrev dktL_law_90 : List UInt8 := dkwL_law_90 ++ dktL_law_91
def dkwL_law_89 : List UInt8 := [153, 0, 5, 3, 172, 167, 0, 154, 43, 42, 21, 5, 4, 96, 46, 45, 184, 0, 248, 54, 6, 44, 42]
abbrev dktL_law_89 : List UInt8 := dkwL_law_89 ++ dktL_law_90
def dkwL_law_88 : List UInt8 := [182, 0, 143, 21, 6, 159, 0, 5, 3, 172, 21, 6, 154, 0, 15, 45, 3, 47, 21, 7, 133, 148]
abbrev dktL_law_88 : List UInt8 := dkwL_law_88 ++ dktL_law_89
def dkwL_law_87 : List UInt8 := [153, 0, 5, 3, 172, 167, 0, 198, 43, 45, 184, 0, 244, 54, 6, 44, 182, 0, 247, 54, 7, 44]
abbrev dktL_law_87 : List UInt8 := dkwL_law_87 ++ dktL_law_88
def dkwL_law_86 : List UInt8 := [182, 0, 143, 21, 6, 159, 0, 5, 3, 172, 21, 6, 154, 0, 15, 45, 3, 47, 21, 7, 133, 148]
abbrev dktL_law_86 : List UInt8 := dkwL_law_86 ++ dktL_law_87
def dkwL_law_85 : List UInt8 := [184, 0, 241, 54, 6, 44, 42, 21, 5, 4, 96, 46, 42, 21, 5, 5, 96, 46, 182, 0, 243, 54, 7, 44]
abbrev dktL_law_85 : List UInt8 := dkwL_law_85 ++ dktL_law_86
def dkwL_law_84 : List UInt8 := [148, 153, 0, 5, 3, 172, 167, 1, 10, 43, 42, 21, 5, 4, 96, 46, 42, 21, 5, 5, 96, 46, 45]
abbrev dktL_law_84 : List UInt8 := dkwL_law_84 ++ dktL_law_85
def dkwL_law_83 : List UInt8 := [54, 7, 44, 182, 0, 143, 21, 6, 159, 0, 5, 3, 172, 21, 6, 154, 0, 15, 45, 3, 47, 21, 7, 133]
abbrev dktL_law_83 : List UInt8 := dkwL_law_83 ++ dktL_law_84
def dkwL_law_82 : List UInt8 := [46, 45, 184, 0, 238, 54, 6, 44, 42, 21, 5, 4, 96, 46, 42, 21, 5, 5, 96, 46, 182, 0, 240]
abbrev dktL_law_82 : List UInt8 := dkwL_law_82 ++ dktL_law_83
def dkwL_law_81 : List UInt8 := [21, 7, 133, 148, 153, 0, 5, 3, 172, 167, 1, 78, 43, 42, 21, 5, 4, 96, 46, 42, 21, 5, 5, 96]
abbrev dktL_law_81 : List UInt8 := dkwL_law_81 ++ dktL_law_82
def dkwL_law_80 : List UInt8 := [182, 0, 237, 54, 7, 44, 182, 0, 143, 21, 6, 159, 0, 5, 3, 172, 21, 6, 154, 0, 15, 45, 3, 47]
abbrev dktL_law_80 : List UInt8 := dkwL_law_80 ++ dktL_law_81
def dkwL_law_79 : List UInt8 := [54, 6, 44, 42, 21, 5, 4, 96, 46, 42, 21, 5, 5, 96, 46, 153, 0, 7, 4, 167, 0, 4, 3]
abbrev dktL_law_79 : List UInt8 := dkwL_law_79 ++ dktL_law_80
def dkwL_law_78 : List UInt8 := [21, 5, 4, 96, 46, 42, 21, 5, 5, 96, 46, 153, 0, 7, 4, 167, 0, 4, 3, 45, 184, 0, 234]
abbrev dktL_law_78 : List UInt8 := dkwL_law_78 ++ dktL_law_79
def dkwL_law_77 : List UInt8 := [172, 21, 6, 154, 0, 15, 45, 3, 47, 21, 7, 133, 148, 153, 0, 5, 3, 172, 167, 1, 162, 43, 42]
abbrev dktL_law_77 : List UInt8 := dkwL_law_77 ++ dktL_law_78
def dkwL_law_76 : List UInt8 := [54, 6, 44, 42, 21, 5, 4, 96, 46, 182, 0, 233, 54, 7, 44, 182, 0, 143, 21, 6, 159, 0, 5, 3]
abbrev dktL_law_76 : List UInt8 := dkwL_law_76 ++ dktL_law_77
def dkwL_law_75 : List UInt8 := [21, 7, 133, 148, 153, 0, 5, 3, 172, 167, 1, 218, 43, 42, 21, 5, 4, 96, 46, 45, 184, 0, 231]
abbrev dktL_law_75 : List UInt8 := dkwL_law_75 ++ dktL_law_76
def dkwL_law_74 : List UInt8 := [182, 0, 230, 54, 7, 44, 182, 0, 143, 21, 6, 159, 0, 5, 3, 172, 21, 6, 154, 0, 15, 45, 3, 47]
abbrev dktL_law_74 : List UInt8 := dkwL_law_74 ++ dktL_law_75
def dkwL_law_73 : List UInt8 := [167, 2, 18, 43, 42, 21, 5, 4, 96, 46, 45, 184, 0, 228, 54, 6, 44, 42, 21, 5, 4, 96, 46]
abbrev dktL_law_73 : List UInt8 := dkwL_law_73 ++ dktL_law_74
def dkwL_law_72 : List UInt8 := [159, 0, 5, 3, 172, 21, 6, 154, 0, 15, 45, 3, 47, 21, 7, 133, 148, 153, 0, 5, 3, 172]
abbrev dktL_law_72 : List UInt8 := dkwL_law_72 ++ dktL_law_73
def dkwL_law_71 : List UInt8 := [42, 21, 5, 4, 96, 46, 42, 21, 5, 5, 96, 46, 182, 0, 227, 54, 7, 44, 182, 0, 143, 21, 6]
abbrev dktL_law_71 : List UInt8 := dkwL_law_71 ++ dktL_law_72
def dkwL_law_70 : List UInt8 := [172, 167, 2, 86, 43, 42, 21, 5, 4, 96, 46, 42, 21, 5, 5, 96, 46, 45, 184, 0, 225, 54, 6, 44]
abbrev dktL_law_70 : List UInt8 := dkwL_law_70 ++ dktL_law_71
def dkwL_law_69 : List UInt8 := [153, 0, 25, 25, 4, 3, 49, 25, 4, 3, 49, 151, 153, 0, 11, 24, 7, 24, 7, 151, 154, 0, 5, 3]
abbrev dktL_law_69 : List UInt8 := dkwL_law_69 ++ dktL_law_70
def dkwL_law_68 : List UInt8 := [182, 0, 143, 21, 6, 159, 0, 5, 3, 172, 21, 6, 154, 0, 35, 25, 4, 3, 49, 24, 7, 151]
abbrev dktL_law_68 : List UInt8 := dkwL_law_68 ++ dktL_law_69
def dkwL_law_67 : List UInt8 := [96, 46, 25, 4, 184, 0, 221, 54, 6, 44, 42, 21, 5, 4, 96, 46, 182, 0, 224, 57, 7, 44]
abbrev dktL_law_67 : List UInt8 := dkwL_law_67 ++ dktL_law_68
def dkwL_law_66 : List UInt8 := [24, 6, 151, 153, 0, 11, 24, 8, 24, 8, 151, 154, 0, 5, 3, 172, 167, 2, 163, 43, 42, 21, 5, 4]
abbrev dktL_law_66 : List UInt8 := dkwL_law_66 ++ dktL_law_67
def dkwL_law_65 : List UInt8 := [182, 0, 216, 141, 57, 6, 44, 182, 0, 220, 141, 57, 8, 24, 6, 24, 8, 151, 153, 0, 21, 24, 6]
abbrev dktL_law_65 : List UInt8 := dkwL_law_65 ++ dktL_law_66
def dkwL_law_64 : List UInt8 := [153, 0, 5, 3, 172, 167, 2, 219, 43, 182, 0, 212, 44, 182, 0, 215, 159, 2, 208, 3, 172, 43]
abbrev dktL_law_64 : List UInt8 := dkwL_law_64 ++ dktL_law_65
def dkwL_law_63 : List UInt8 := [182, 0, 143, 21, 6, 159, 0, 5, 3, 172, 21, 6, 154, 0, 15, 45, 3, 47, 21, 7, 133, 148]
abbrev dktL_law_63 : List UInt8 := dkwL_law_63 ++ dktL_law_64
def dkwL_law_62 : List UInt8 := [21, 5, 4, 96, 46, 45, 184, 0, 209, 54, 6, 44, 42, 21, 5, 4, 96, 46, 182, 0, 211, 54, 7, 44]
abbrev dktL_law_62 : List UInt8 := dkwL_law_62 ++ dktL_law_63
def dkwL_law_61 : List UInt8 := [153, 0, 5, 3, 172, 167, 3, 32, 43, 182, 0, 205, 44, 182, 0, 208, 159, 3, 21, 3, 172, 43, 42]
abbrev dktL_law_61 : List UInt8 := dkwL_law_61 ++ dktL_law_62
def dkwL_law_60 : List UInt8 := [182, 0, 143, 21, 6, 159, 0, 5, 3, 172, 21, 6, 154, 0, 15, 45, 3, 47, 21, 7, 133, 148]
abbrev dktL_law_60 : List UInt8 := dkwL_law_60 ++ dktL_law_61
def dkwL_law_59 : List UInt8 := [21, 5, 4, 96, 46, 45, 184, 0, 202, 54, 6, 44, 42, 21, 5, 4, 96, 46, 182, 0, 204, 54, 7, 44]
abbrev dktL_law_59 : List UInt8 := dkwL_law_59 ++ dktL_law_60
def dkwL_law_58 : List UInt8 := [172, 21, 6, 154, 0, 15, 45, 3, 47, 21, 7, 133, 148, 153, 0, 5, 3, 172, 167, 3, 88, 43, 42]
abbrev dktL_law_58 : List UInt8 := dkwL_law_58 ++ dktL_law_59
def dkwL_law_57 : List UInt8 := [4, 96, 46, 42, 21, 5, 5, 96, 46, 182, 0, 201, 54, 7, 44, 182, 0, 143, 21, 6, 159, 0, 5, 3]
abbrev dktL_law_57 : List UInt8 := dkwL_law_57 ++ dktL_law_58
def dkwL_law_56 : List UInt8 := [172, 43, 42, 21, 5, 4, 96, 46, 42, 21, 5, 5, 96, 46, 45, 184, 0, 199, 54, 6, 44, 42, 21, 5]
abbrev dktL_law_56 : List UInt8 := dkwL_law_56 ++ dktL_law_57
def dkwL_law_55 : List UInt8 := [21, 7, 133, 148, 153, 0, 5, 3, 172, 167, 3, 169, 43, 182, 0, 194, 44, 182, 0, 198, 159, 3, 158, 3]
abbrev dktL_law_55 : List UInt8 := dkwL_law_55 ++ dktL_law_56
def dkwL_law_54 : List UInt8 := [182, 0, 193, 54, 7, 44, 182, 0, 143, 21, 6, 159, 0, 5, 3, 172, 21, 6, 154, 0, 15, 45, 3, 47]
abbrev dktL_law_54 : List UInt8 := dkwL_law_54 ++ dktL_law_55
def dkwL_law_53 : List UInt8 := [184, 0, 191, 54, 6, 44, 42, 21, 5, 4, 96, 46, 42, 21, 5, 5, 96, 46, 42, 21, 5, 6, 96, 46]
abbrev dktL_law_53 : List UInt8 := dkwL_law_53 ++ dktL_law_54
def dkwL_law_52 : List UInt8 := [167, 3, 249, 43, 42, 21, 5, 4, 96, 46, 42, 21, 5, 5, 96, 46, 42, 21, 5, 6, 96, 46, 45]
abbrev dktL_law_52 : List UInt8 := dkwL_law_52 ++ dktL_law_53
def dkwL_law_51 : List UInt8 := [21, 6, 159, 0, 5, 3, 172, 21, 6, 154, 0, 15, 45, 3, 47, 21, 7, 133, 148, 153, 0, 5, 3, 172]
abbrev dktL_law_51 : List UInt8 := dkwL_law_51 ++ dktL_law_52
def dkwL_law_50 : List UInt8 := [46, 45, 184, 0, 188, 54, 6, 44, 42, 21, 5, 4, 96, 46, 182, 0, 190, 54, 7, 44, 182, 0, 143]
abbrev dktL_law_50 : List UInt8 := dkwL_law_50 ++ dktL_law_51
def dkwL_law_49 : List UInt8 := [154, 0, 15, 45, 3, 47, 21, 7, 133, 148, 153, 0, 5, 3, 172, 167, 4, 49, 43, 42, 21, 5, 4, 96]
abbrev dktL_law_49 : List UInt8 := dkwL_law_49 ++ dktL_law_50
def dkwL_law_48 : List UInt8 := [167, 0, 4, 3, 182, 0, 187, 54, 7, 44, 182, 0, 143, 21, 6, 159, 0, 5, 3, 172, 21, 6]
abbrev dktL_law_48 : List UInt8 := dkwL_law_48 ++ dktL_law_49
def dkwL_law_47 : List UInt8 := [42, 21, 5, 4, 96, 46, 42, 21, 5, 5, 96, 46, 42, 21, 5, 6, 96, 46, 153, 0, 7, 4]
abbrev dktL_law_47 : List UInt8 := dkwL_law_47 ++ dktL_law_48
def dkwL_law_46 : List UInt8 := [5, 96, 46, 42, 21, 5, 6, 96, 46, 153, 0, 7, 4, 167, 0, 4, 3, 45, 184, 0, 184, 54, 6, 44]
abbrev dktL_law_46 : List UInt8 := dkwL_law_46 ++ dktL_law_47
def dkwL_law_45 : List UInt8 := [3, 47, 21, 7, 133, 148, 153, 0, 5, 3, 172, 167, 4, 145, 43, 42, 21, 5, 4, 96, 46, 42, 21, 5]
abbrev dktL_law_45 : List UInt8 := dkwL_law_45 ++ dktL_law_46
def dkwL_law_44 : List UInt8 := [96, 46, 182, 0, 183, 54, 7, 44, 182, 0, 143, 21, 6, 159, 0, 5, 3, 172, 21, 6, 154, 0, 15, 45]
abbrev dktL_law_44 : List UInt8 := dkwL_law_44 ++ dktL_law_45
def dkwL_law_43 : List UInt8 := [46, 42, 21, 5, 5, 96, 46, 45, 184, 0, 181, 54, 6, 44, 42, 21, 5, 4, 96, 46, 42, 21, 5, 5]
abbrev dktL_law_43 : List UInt8 := dkwL_law_43 ++ dktL_law_44
def dkwL_law_42 : List UInt8 := [154, 0, 15, 45, 3, 47, 21, 7, 133, 148, 153, 0, 5, 3, 172, 167, 4, 213, 43, 42, 21, 5, 4, 96]
abbrev dktL_law_42 : List UInt8 := dkwL_law_42 ++ dktL_law_43
def dkwL_law_41 : List UInt8 := [21, 5, 5, 96, 46, 182, 0, 180, 54, 7, 44, 182, 0, 143, 21, 6, 159, 0, 5, 3, 172, 21, 6]
abbrev dktL_law_41 : List UInt8 := dkwL_law_41 ++ dktL_law_42
def dkwL_law_40 : List UInt8 := [4, 96, 46, 42, 21, 5, 5, 96, 46, 45, 184, 0, 178, 54, 6, 44, 42, 21, 5, 4, 96, 46, 42]
abbrev dktL_law_40 : List UInt8 := dkwL_law_40 ++ dktL_law_41
def dkwL_law_39 : List UInt8 := [21, 6, 154, 0, 15, 45, 3, 47, 21, 7, 133, 148, 153, 0, 5, 3, 172, 167, 5, 25, 43, 42, 21, 5]
abbrev dktL_law_39 : List UInt8 := dkwL_law_39 ++ dktL_law_40
def dkwL_law_38 : List UInt8 := [96, 46, 42, 21, 5, 6, 96, 46, 182, 0, 177, 54, 7, 44, 182, 0, 143, 21, 6, 159, 0, 5, 3, 172]
abbrev dktL_law_38 : List UInt8 := dkwL_law_38 ++ dktL_law_39
def dkwL_law_37 : List UInt8 := [46, 42, 21, 5, 6, 96, 46, 45, 184, 0, 175, 54, 6, 44, 42, 21, 5, 4, 96, 46, 42, 21, 5, 5]
abbrev dktL_law_37 : List UInt8 := dkwL_law_37 ++ dktL_law_38
def dkwL_law_36 : List UInt8 := [21, 7, 133, 148, 153, 0, 5, 3, 172, 167, 5, 105, 43, 42, 21, 5, 4, 96, 46, 42, 21, 5, 5, 96]
abbrev dktL_law_36 : List UInt8 := dkwL_law_36 ++ dktL_law_37
def dkwL_law_35 : List UInt8 := [182, 0, 174, 54, 7, 44, 182, 0, 143, 21, 6, 159, 0, 5, 3, 172, 21, 6, 154, 0, 15, 45, 3, 47]
abbrev dktL_law_35 : List UInt8 := dkwL_law_35 ++ dktL_law_36
def dkwL_law_34 : List UInt8 := [167, 5, 161, 43, 42, 21, 5, 4, 96, 46, 45, 184, 0, 172, 54, 6, 44, 42, 21, 5, 4, 96, 46]
abbrev dktL_law_34 : List UInt8 := dkwL_law_34 ++ dktL_law_35
def dkwL_law_33 : List UInt8 := [159, 0, 5, 3, 172, 21, 6, 154, 0, 15, 45, 3, 47, 21, 7, 133, 148, 153, 0, 5, 3, 172]
abbrev dktL_law_33 : List UInt8 := dkwL_law_33 ++ dktL_law_34
def dkwL_law_32 : List UInt8 := [21, 5, 5, 96, 46, 42, 21, 5, 6, 96, 46, 182, 0, 171, 54, 7, 44, 182, 0, 143, 21, 6]
abbrev dktL_law_32 : List UInt8 := dkwL_law_32 ++ dktL_law_33
def dkwL_law_31 : List UInt8 := [5, 96, 46, 42, 21, 5, 6, 96, 46, 45, 184, 0, 169, 54, 6, 44, 42, 21, 5, 4, 96, 46, 42]
abbrev dktL_law_31 : List UInt8 := dkwL_law_31 ++ dktL_law_32
def dkwL_law_30 : List UInt8 := [3, 47, 21, 7, 133, 148, 153, 0, 5, 3, 172, 167, 5, 241, 43, 42, 21, 5, 4, 96, 46, 42, 21, 5]
abbrev dktL_law_30 : List UInt8 := dkwL_law_30 ++ dktL_law_31
def dkwL_law_29 : List UInt8 := [96, 46, 182, 0, 168, 54, 7, 44, 182, 0, 143, 21, 6, 159, 0, 5, 3, 172, 21, 6, 154, 0, 15, 45]
abbrev dktL_law_29 : List UInt8 := dkwL_law_29 ++ dktL_law_30
def dkwL_law_28 : List UInt8 := [46, 42, 21, 5, 5, 96, 46, 45, 184, 0, 166, 54, 6, 44, 42, 21, 5, 4, 96, 46, 42, 21, 5, 5]
abbrev dktL_law_28 : List UInt8 := dkwL_law_28 ++ dktL_law_29
def dkwL_law_27 : List UInt8 := [154, 0, 15, 45, 3, 47, 21, 7, 133, 148, 153, 0, 5, 3, 172, 167, 6, 53, 43, 42, 21, 5, 4, 96]
abbrev dktL_law_27 : List UInt8 := dkwL_law_27 ++ dktL_law_28
def dkwL_law_26 : List UInt8 := [21, 5, 6, 96, 46, 182, 0, 165, 54, 7, 44, 182, 0, 143, 21, 6, 159, 0, 5, 3, 172, 21, 6]
abbrev dktL_law_26 : List UInt8 := dkwL_law_26 ++ dktL_law_27
def dkwL_law_25 : List UInt8 := [6, 96, 46, 45, 184, 0, 162, 54, 6, 44, 42, 21, 5, 4, 96, 46, 42, 21, 5, 5, 96, 46, 42]
abbrev dktL_law_25 : List UInt8 := dkwL_law_25 ++ dktL_law_26
def dkwL_law_24 : List UInt8 := [153, 0, 5, 3, 172, 167, 6, 133, 43, 42, 21, 5, 4, 96, 46, 42, 21, 5, 5, 96, 46, 42, 21, 5]
abbrev dktL_law_24 : List UInt8 := dkwL_law_24 ++ dktL_law_25
def dkwL_law_23 : List UInt8 := [182, 0, 143, 21, 6, 159, 0, 5, 3, 172, 21, 6, 154, 0, 15, 45, 3, 47, 21, 7, 133, 148]
abbrev dktL_law_23 : List UInt8 := dkwL_law_23 ++ dktL_law_24
def dkwL_law_22 : List UInt8 := [184, 0, 159, 54, 6, 44, 42, 21, 5, 4, 96, 46, 42, 21, 5, 5, 96, 46, 182, 0, 161, 54, 7, 44]
abbrev dktL_law_22 : List UInt8 := dkwL_law_22 ++ dktL_law_23
def dkwL_law_21 : List UInt8 := [153, 0, 5, 3, 172, 167, 6, 201, 43, 42, 21, 5, 4, 96, 46, 42, 21, 5, 5, 96, 46, 45]
abbrev dktL_law_21 : List UInt8 := dkwL_law_21 ++ dktL_law_22
def dkwL_law_20 : List UInt8 := [182, 0, 143, 21, 6, 159, 0, 5, 3, 172, 21, 6, 154, 0, 15, 45, 3, 47, 21, 7, 133, 148]
abbrev dktL_law_20 : List UInt8 := dkwL_law_20 ++ dktL_law_21
def dkwL_law_19 : List UInt8 := [184, 0, 155, 54, 6, 44, 42, 21, 5, 4, 96, 46, 42, 21, 5, 5, 96, 46, 182, 0, 158, 54, 7, 44]
abbrev dktL_law_19 : List UInt8 := dkwL_law_19 ++ dktL_law_20
def dkwL_law_18 : List UInt8 := [153, 0, 5, 3, 172, 167, 7, 13, 43, 42, 21, 5, 4, 96, 46, 42, 21, 5, 5, 96, 46, 45]
abbrev dktL_law_18 : List UInt8 := dkwL_law_18 ++ dktL_law_19
def dkwL_law_17 : List UInt8 := [182, 0, 143, 21, 6, 159, 0, 5, 3, 172, 21, 6, 154, 0, 15, 45, 3, 47, 21, 7, 133, 148]
abbrev dktL_law_17 : List UInt8 := dkwL_law_17 ++ dktL_law_18
def dkwL_law_16 : List UInt8 := [21, 5, 4, 96, 46, 45, 184, 0, 152, 54, 6, 44, 42, 21, 5, 4, 96, 46, 182, 0, 154, 54, 7, 44]
abbrev dktL_law_16 : List UInt8 := dkwL_law_16 ++ dktL_law_17
def dkwL_law_15 : List UInt8 := [172, 21, 6, 154, 0, 15, 45, 3, 47, 21, 7, 133, 148, 153, 0, 5, 3, 172, 167, 7, 69, 43, 42]
abbrev dktL_law_15 : List UInt8 := dkwL_law_15 ++ dktL_law_16
def dkwL_law_14 : List UInt8 := [54, 6, 44, 42, 21, 5, 4, 96, 46, 182, 0, 151, 54, 7, 44, 182, 0, 143, 21, 6, 159, 0, 5, 3]
abbrev dktL_law_14 : List UInt8 := dkwL_law_14 ++ dktL_law_15
def dkwL_law_13 : List UInt8 := [21, 7, 133, 148, 153, 0, 5, 3, 172, 167, 7, 125, 43, 42, 21, 5, 4, 96, 46, 45, 184, 0, 149]
abbrev dktL_law_13 : List UInt8 := dkwL_law_13 ++ dktL_law_14
def dkwL_law_12 : List UInt8 := [182, 0, 148, 54, 7, 44, 182, 0, 143, 21, 6, 159, 0, 5, 3, 172, 21, 6, 154, 0, 15, 45, 3, 47]
abbrev dktL_law_12 : List UInt8 := dkwL_law_12 ++ dktL_law_13
def dkwL_law_11 : List UInt8 := [167, 7, 181, 43, 42, 21, 5, 4, 96, 46, 45, 184, 0, 146, 54, 6, 44, 42, 21, 5, 4, 96, 46]
abbrev dktL_law_11 : List UInt8 := dkwL_law_11 ++ dktL_law_12
def dkwL_law_10 : List UInt8 := [21, 6, 159, 0, 5, 3, 172, 21, 6, 154, 0, 15, 45, 3, 47, 21, 7, 133, 148, 153, 0, 5, 3, 172]
abbrev dktL_law_10 : List UInt8 := dkwL_law_10 ++ dktL_law_11
def dkwL_law_9 : List UInt8 := [46, 45, 184, 0, 137, 54, 6, 44, 42, 21, 5, 4, 96, 46, 182, 0, 142, 54, 7, 44, 182, 0, 143]
abbrev dktL_law_9 : List UInt8 := dkwL_law_9 ++ dktL_law_10
def dkwL_law_8 : List UInt8 := [159, 7, 252, 3, 172, 43, 182, 0, 133, 44, 182, 0, 136, 159, 7, 239, 3, 172, 43, 42, 21, 5, 4, 96]
abbrev dktL_law_8 : List UInt8 := dkwL_law_8 ++ dktL_law_9
def dkwL_law_7 : List UInt8 := [3, 172, 43, 182, 0, 125, 44, 182, 0, 128, 159, 8, 9, 3, 172, 43, 182, 0, 129, 44, 182, 0, 132]
abbrev dktL_law_7 : List UInt8 := dkwL_law_7 ++ dktL_law_8
def dkwL_law_6 : List UInt8 := [172, 43, 42, 21, 5, 4, 96, 46, 182, 0, 120, 44, 42, 21, 5, 4, 96, 46, 182, 0, 124, 159, 8, 22]
abbrev dktL_law_6 : List UInt8 := dkwL_law_6 ++ dktL_law_7
def dkwL_law_5 : List UInt8 := [21, 5, 6, 96, 46, 42, 21, 5, 7, 96, 46, 42, 21, 5, 8, 96, 46, 182, 0, 119, 159, 8, 47, 3]
abbrev dktL_law_5 : List UInt8 := dkwL_law_5 ++ dktL_law_6
def dkwL_law_4 : List UInt8 := [46, 42, 21, 5, 8, 96, 46, 182, 0, 115, 44, 42, 21, 5, 4, 96, 46, 42, 21, 5, 5, 96, 46, 42]
abbrev dktL_law_4 : List UInt8 := dkwL_law_4 ++ dktL_law_5
def dkwL_law_3 : List UInt8 := [43, 42, 21, 5, 4, 96, 46, 42, 21, 5, 5, 96, 46, 42, 21, 5, 6, 96, 46, 42, 21, 5, 7, 96]
abbrev dktL_law_3 : List UInt8 := dkwL_law_3 ++ dktL_law_4
def dkwL_law_2 : List UInt8 := [170, 0, 0, 0, 0, 9, 38, 0, 0, 0, 0, 0, 0, 0, 40, 0, 0, 0, 179, 0, 0, 0, 252, 0, 0, 1, 21, 0, 0, 1, 34, 0, 0, 1, 47, 0, 0, 1, 60, 0, 0, 1, 116, 0, 0, 1, 172, 0, 0, 1, 228, 0, 0, 2, 28, 0, 0, 2, 96, 0, 0, 2, 164, 0, 0, 2, 244, 0, 0, 3, 56, 0, 0, 3, 136, 0, 0, 3, 192, 0, 0, 4, 16, 0, 0, 4, 84, 0, 0, 4, 152, 0, 0, 4, 248, 0, 0, 5, 48, 0, 0, 5, 128, 0, 0, 5, 141, 0, 0, 5, 209, 0, 0, 6, 9, 0, 0, 6, 22, 0, 0, 6, 78, 0, 0, 6, 91, 0, 0, 6, 134, 0, 0, 6, 211, 0, 0, 7, 23, 0, 0, 7, 79, 0, 0, 7, 135, 0, 0, 7, 219, 0, 0, 8, 31, 0, 0, 8, 99, 0, 0, 8, 143, 0, 0, 8, 199, 0, 0, 8, 212, 0, 0, 8, 237, 0, 0, 8, 250]
abbrev dktL_law_2 : List UInt8 := dkwL_law_2 ++ dktL_law_3
def dkwL_law_1 : List UInt8 := [58, 4, 3, 54, 5, 21, 5, 42, 190, 16, 6, 100, 163, 9, 54, 42, 21, 5, 46, 16, 63, 126]
abbrev dktL_law_1 : List UInt8 := dkwL_law_1 ++ dktL_law_2
def dkwL_law_0 : List UInt8 := [187, 0, 8, 89, 183, 0, 111, 76, 187, 0, 112, 89, 183, 0, 114, 77, 4, 188, 11, 78, 4, 188, 7]
abbrev dktL_law_0 : List UInt8 := dkwL_law_0 ++ dktL_law_1
theorem dksL_law_0 : cL_law.data.toList.drop 0 = dktL_law_0 := by decide +kernel
theorem dksL_law_1 : cL_law.data.toList.drop 23 = dktL_law_1 := dk_seg dksL_law_0 23 rfl rfl
theorem dksL_law_2 : cL_law.data.toList.drop 45 = dktL_law_2 := dk_seg dksL_law_1 22 rfl rfl
theorem dksL_law_3 : cL_law.data.toList.drop 224 = dktL_law_3 := dk_seg dksL_law_2 179 rfl rfl
theorem dksL_law_4 : cL_law.data.toList.drop 248 = dktL_law_4 := dk_seg dksL_law_3 24 rfl rfl
theorem dksL_law_5 : cL_law.data.toList.drop 272 = dktL_law_5 := dk_seg dksL_law_4 24 rfl rfl
theorem dksL_law_6 : cL_law.data.toList.drop 296 = dktL_law_6 := dk_seg dksL_law_5 24 rfl rfl
theorem dksL_law_7 : cL_law.data.toList.drop 320 = dktL_law_7 := dk_seg dksL_law_6 24 rfl rfl
theorem dksL_law_8 : cL_law.data.toList.drop 343 = dktL_law_8 := dk_seg dksL_law_7 23 rfl rfl
theorem dksL_law_9 : cL_law.data.toList.drop 367 = dktL_law_9 := dk_seg dksL_law_8 24 rfl rfl
theorem dksL_law_10 : cL_law.data.toList.drop 390 = dktL_law_10 := dk_seg dksL_law_9 23 rfl rfl
theorem dksL_law_11 : cL_law.data.toList.drop 414 = dktL_law_11 := dk_seg dksL_law_10 24 rfl rfl
theorem dksL_law_12 : cL_law.data.toList.drop 437 = dktL_law_12 := dk_seg dksL_law_11 23 rfl rfl
theorem dksL_law_13 : cL_law.data.toList.drop 461 = dktL_law_13 := dk_seg dksL_law_12 24 rfl rfl
theorem dksL_law_14 : cL_law.data.toList.drop 484 = dktL_law_14 := dk_seg dksL_law_13 23 rfl rfl
theorem dksL_law_15 : cL_law.data.toList.drop 508 = dktL_law_15 := dk_seg dksL_law_14 24 rfl rfl
theorem dksL_law_16 : cL_law.data.toList.drop 531 = dktL_law_16 := dk_seg dksL_law_15 23 rfl rfl
theorem dksL_law_17 : cL_law.data.toList.drop 555 = dktL_law_17 := dk_seg dksL_law_16 24 rfl rfl
theorem dksL_law_18 : cL_law.data.toList.drop 577 = dktL_law_18 := dk_seg dksL_law_17 22 rfl rfl
theorem dksL_law_19 : cL_law.data.toList.drop 599 = dktL_law_19 := dk_seg dksL_law_18 22 rfl rfl
theorem dksL_law_20 : cL_law.data.toList.drop 623 = dktL_law_20 := dk_seg dksL_law_19 24 rfl rfl
theorem dksL_law_21 : cL_law.data.toList.drop 645 = dktL_law_21 := dk_seg dksL_law_20 22 rfl rfl
theorem dksL_law_22 : cL_law.data.toList.drop 667 = dktL_law_22 := dk_seg dksL_law_21 22 rfl rfl
theorem dksL_law_23 : cL_law.data.toList.drop 691 = dktL_law_23 := dk_seg dksL_law_22 24 rfl rfl
theorem dksL_law_24 : cL_law.data.toList.drop 713 = dktL_law_24 := dk_seg dksL_law_23 22 rfl rfl
theorem dksL_law_25 : cL_law.data.toList.drop 737 = dktL_law_25 := dk_seg dksL_law_24 24 rfl rfl
theorem dksL_law_26 : cL_law.data.toList.drop 760 = dktL_law_26 := dk_seg dksL_law_25 23 rfl rfl
theorem dksL_law_27 : cL_law.data.toList.drop 783 = dktL_law_27 := dk_seg dksL_law_26 23 rfl rfl
theorem dksL_law_28 : cL_law.data.toList.drop 807 = dktL_law_28 := dk_seg dksL_law_27 24 rfl rfl
theorem dksL_law_29 : cL_law.data.toList.drop 831 = dktL_law_29 := dk_seg dksL_law_28 24 rfl rfl
theorem dksL_law_30 : cL_law.data.toList.drop 855 = dktL_law_30 := dk_seg dksL_law_29 24 rfl rfl
theorem dksL_law_31 : cL_law.data.toList.drop 879 = dktL_law_31 := dk_seg dksL_law_30 24 rfl rfl
theorem dksL_law_32 : cL_law.data.toList.drop 902 = dktL_law_32 := dk_seg dksL_law_31 23 rfl rfl
theorem dksL_law_33 : cL_law.data.toList.drop 924 = dktL_law_33 := dk_seg dksL_law_32 22 rfl rfl
theorem dksL_law_34 : cL_law.data.toList.drop 946 = dktL_law_34 := dk_seg dksL_law_33 22 rfl rfl
theorem dksL_law_35 : cL_law.data.toList.drop 969 = dktL_law_35 := dk_seg dksL_law_34 23 rfl rfl
theorem dksL_law_36 : cL_law.data.toList.drop 993 = dktL_law_36 := dk_seg dksL_law_35 24 rfl rfl
theorem dksL_law_37 : cL_law.data.toList.drop 1017 = dktL_law_37 := dk_seg dksL_law_36 24 rfl rfl
theorem dksL_law_38 : cL_law.data.toList.drop 1041 = dktL_law_38 := dk_seg dksL_law_37 24 rfl rfl
theorem dksL_law_39 : cL_law.data.toList.drop 1065 = dktL_law_39 := dk_seg dksL_law_38 24 rfl rfl
theorem dksL_law_40 : cL_law.data.toList.drop 1089 = dktL_law_40 := dk_seg dksL_law_39 24 rfl rfl
theorem dksL_law_41 : cL_law.data.toList.drop 1112 = dktL_law_41 := dk_seg dksL_law_40 23 rfl rfl
theorem dksL_law_42 : cL_law.data.toList.drop 1135 = dktL_law_42 := dk_seg dksL_law_41 23 rfl rfl
theorem dksL_law_43 : cL_law.data.toList.drop 1159 = dktL_law_43 := dk_seg dksL_law_42 24 rfl rfl
theorem dksL_law_44 : cL_law.data.toList.drop 1183 = dktL_law_44 := dk_seg dksL_law_43 24 rfl rfl
theorem dksL_law_45 : cL_law.data.toList.drop 1207 = dktL_law_45 := dk_seg dksL_law_44 24 rfl rfl
theorem dksL_law_46 : cL_law.data.toList.drop 1231 = dktL_law_46 := dk_seg dksL_law_45 24 rfl rfl
theorem dksL_law_47 : cL_law.data.toList.drop 1255 = dktL_law_47 := dk_seg dksL_law_46 24 rfl rfl
theorem dksL_law_48 : cL_law.data.toList.drop 1277 = dktL_law_48 := dk_seg dksL_law_47 22 rfl rfl
theorem dksL_law_49 : cL_law.data.toList.drop 1299 = dktL_law_49 := dk_seg dksL_law_48 22 rfl rfl
theorem dksL_law_50 : cL_law.data.toList.drop 1323 = dktL_law_50 := dk_seg dksL_law_49 24 rfl rfl
theorem dksL_law_51 : cL_law.data.toList.drop 1346 = dktL_law_51 := dk_seg dksL_law_50 23 rfl rfl
theorem dksL_law_52 : cL_law.data.toList.drop 1370 = dktL_law_52 := dk_seg dksL_law_51 24 rfl rfl
theorem dksL_law_53 : cL_law.data.toList.drop 1393 = dktL_law_53 := dk_seg dksL_law_52 23 rfl rfl
theorem dksL_law_54 : cL_law.data.toList.drop 1417 = dktL_law_54 := dk_seg dksL_law_53 24 rfl rfl
theorem dksL_law_55 : cL_law.data.toList.drop 1441 = dktL_law_55 := dk_seg dksL_law_54 24 rfl rfl
theorem dksL_law_56 : cL_law.data.toList.drop 1465 = dktL_law_56 := dk_seg dksL_law_55 24 rfl rfl
theorem dksL_law_57 : cL_law.data.toList.drop 1489 = dktL_law_57 := dk_seg dksL_law_56 24 rfl rfl
theorem dksL_law_58 : cL_law.data.toList.drop 1513 = dktL_law_58 := dk_seg dksL_law_57 24 rfl rfl
theorem dksL_law_59 : cL_law.data.toList.drop 1536 = dktL_law_59 := dk_seg dksL_law_58 23 rfl rfl
theorem dksL_law_60 : cL_law.data.toList.drop 1560 = dktL_law_60 := dk_seg dksL_law_59 24 rfl rfl
theorem dksL_law_61 : cL_law.data.toList.drop 1582 = dktL_law_61 := dk_seg dksL_law_60 22 rfl rfl
theorem dksL_law_62 : cL_law.data.toList.drop 1605 = dktL_law_62 := dk_seg dksL_law_61 23 rfl rfl
theorem dksL_law_63 : cL_law.data.toList.drop 1629 = dktL_law_63 := dk_seg dksL_law_62 24 rfl rfl
theorem dksL_law_64 : cL_law.data.toList.drop 1651 = dktL_law_64 := dk_seg dksL_law_63 22 rfl rfl
theorem dksL_law_65 : cL_law.data.toList.drop 1673 = dktL_law_65 := dk_seg dksL_law_64 22 rfl rfl
theorem dksL_law_66 : cL_law.data.toList.drop 1696 = dktL_law_66 := dk_seg dksL_law_65 23 rfl rfl
theorem dksL_law_67 : cL_law.data.toList.drop 1720 = dktL_law_67 := dk_seg dksL_law_66 24 rfl rfl
theorem dksL_law_68 : cL_law.data.toList.drop 1742 = dktL_law_68 := dk_seg dksL_law_67 22 rfl rfl
theorem dksL_law_69 : cL_law.data.toList.drop 1764 = dktL_law_69 := dk_seg dksL_law_68 22 rfl rfl
theorem dksL_law_70 : cL_law.data.toList.drop 1788 = dktL_law_70 := dk_seg dksL_law_69 24 rfl rfl
theorem dksL_law_71 : cL_law.data.toList.drop 1812 = dktL_law_71 := dk_seg dksL_law_70 24 rfl rfl
theorem dksL_law_72 : cL_law.data.toList.drop 1835 = dktL_law_72 := dk_seg dksL_law_71 23 rfl rfl
theorem dksL_law_73 : cL_law.data.toList.drop 1857 = dktL_law_73 := dk_seg dksL_law_72 22 rfl rfl
theorem dksL_law_74 : cL_law.data.toList.drop 1880 = dktL_law_74 := dk_seg dksL_law_73 23 rfl rfl
theorem dksL_law_75 : cL_law.data.toList.drop 1904 = dktL_law_75 := dk_seg dksL_law_74 24 rfl rfl
theorem dksL_law_76 : cL_law.data.toList.drop 1927 = dktL_law_76 := dk_seg dksL_law_75 23 rfl rfl
theorem dksL_law_77 : cL_law.data.toList.drop 1951 = dktL_law_77 := dk_seg dksL_law_76 24 rfl rfl
theorem dksL_law_78 : cL_law.data.toList.drop 1974 = dktL_law_78 := dk_seg dksL_law_77 23 rfl rfl
theorem dksL_law_79 : cL_law.data.toList.drop 1997 = dktL_law_79 := dk_seg dksL_law_78 23 rfl rfl
theorem dksL_law_80 : cL_law.data.toList.drop 2020 = dktL_law_80 := dk_seg dksL_law_79 23 rfl rfl
theorem dksL_law_81 : cL_law.data.toList.drop 2044 = dktL_law_81 := dk_seg dksL_law_80 24 rfl rfl
theorem dksL_law_82 : cL_law.data.toList.drop 2068 = dktL_law_82 := dk_seg dksL_law_81 24 rfl rfl
theorem dksL_law_83 : cL_law.data.toList.drop 2091 = dktL_law_83 := dk_seg dksL_law_82 23 rfl rfl
theorem dksL_law_84 : cL_law.data.toList.drop 2115 = dktL_law_84 := dk_seg dksL_law_83 24 rfl rfl
theorem dksL_law_85 : cL_law.data.toList.drop 2138 = dktL_law_85 := dk_seg dksL_law_84 23 rfl rfl
theorem dksL_law_86 : cL_law.data.toList.drop 2162 = dktL_law_86 := dk_seg dksL_law_85 24 rfl rfl
theorem dksL_law_87 : cL_law.data.toList.drop 2184 = dktL_law_87 := dk_seg dksL_law_86 22 rfl rfl
theorem dksL_law_88 : cL_law.data.toList.drop 2206 = dktL_law_88 := dk_seg dksL_law_87 22 rfl rfl
theorem dksL_law_89 : cL_law.data.toList.drop 2228 = dktL_law_89 := dk_seg dksL_law_88 22 rfl rfl
theorem dksL_law_90 : cL_law.data.toList.drop 2251 = dktL_law_90 := dk_seg dksL_law_89 23 rfl rfl
theorem dksL_law_91 : cL_law.data.toList.drop 2274 = dktL_law_91 := dk_seg dksL_law_90 23 rfl rfl
theorem dksL_law_92 : cL_law.data.toList.drop 2297 = dktL_law_92 := dk_seg dksL_law_91 23 rfl rfl
theorem dksL_law_93 : cL_law.data.toList.drop 2321 = dktL_law_93 := dk_seg dksL_law_92 24 rfl rfl
theorem dksL_law_94 : cL_law.data.toList.drop 2345 = dktL_law_94 := dk_seg dksL_law_93 24 rfl rfl
theorem dksL_law_95 : cL_law.data.toList.drop 2369 = dktL_law_95 := dk_seg dksL_law_94 24 rfl rfl
theorem dksL_law_96 : cL_law.data.toList.drop 2393 = dktL_law_96 := dk_seg dksL_law_95 24 rfl rfl
theorem dL_law_0 : decode cL_law 0 = .ok (.new 8, 3) := dk_187 0 8 (dk_at dksL_law_0 0 rfl rfl)
theorem dL_law_3 : decode cL_law 3 = .ok (.dup, 1) := dk_89 (dk_at dksL_law_0 3 rfl rfl)
theorem dL_law_4 : decode cL_law 4 = .ok (.invokespecial 111, 3) := dk_183 0 111 (dk_at dksL_law_0 4 rfl rfl)
theorem dL_law_7 : decode cL_law 7 = .ok (.astore_n 1, 1) := dk_76 (dk_at dksL_law_0 7 rfl rfl)
theorem dL_law_8 : decode cL_law 8 = .ok (.new 112, 3) := dk_187 0 112 (dk_at dksL_law_0 8 rfl rfl)
theorem dL_law_11 : decode cL_law 11 = .ok (.dup, 1) := dk_89 (dk_at dksL_law_0 11 rfl rfl)
theorem dL_law_12 : decode cL_law 12 = .ok (.invokespecial 114, 3) := dk_183 0 114 (dk_at dksL_law_0 12 rfl rfl)
theorem dL_law_15 : decode cL_law 15 = .ok (.astore_n 2, 1) := dk_77 (dk_at dksL_law_0 15 rfl rfl)
theorem dL_law_16 : decode cL_law 16 = .ok (.iconst 1, 1) := dk_4 (dk_at dksL_law_0 16 rfl rfl)
theorem dL_law_17 : decode cL_law 17 = .ok (.newarray .long, 2) := dk_188_11 (dk_at dksL_law_0 17 rfl rfl)
theorem dL_law_19 : decode cL_law 19 = .ok (.astore_n 3, 1) := dk_78 (dk_at dksL_law_0 19 rfl rfl)
theorem dL_law_20 : decode cL_law 20 = .ok (.iconst 1, 1) := dk_4 (dk_at dksL_law_0 20 rfl rfl)
theorem dL_law_21 : decode cL_law 21 = .ok (.newarray .double, 2) := dk_188_7 (dk_at dksL_law_0 21 rfl rfl)
theorem dL_law_23 : decode cL_law 23 = .ok (.astore 4, 2) := dk_58 4 (dk_at dksL_law_1 0 rfl rfl)
theorem dL_law_25 : decode cL_law 25 = .ok (.iconst 0, 1) := dk_3 (dk_at dksL_law_1 2 rfl rfl)
theorem dL_law_26 : decode cL_law 26 = .ok (.istore 5, 2) := dk_54 5 (dk_at dksL_law_1 3 rfl rfl)
theorem dL_law_28 : decode cL_law 28 = .ok (.iload 5, 2) := dk_21 5 (dk_at dksL_law_1 5 rfl rfl)
theorem dL_law_30 : decode cL_law 30 = .ok (.aload_n 0, 1) := dk_42 (dk_at dksL_law_1 7 rfl rfl)
theorem dL_law_31 : decode cL_law 31 = .ok (.arraylength, 1) := dk_190 (dk_at dksL_law_1 8 rfl rfl)
theorem dL_law_32 : decode cL_law 32 = .ok (.bipush 6, 2) := dk_16 6 (dk_at dksL_law_1 9 rfl rfl)
theorem dL_law_34 : decode cL_law 34 = .ok (.isub, 1) := dk_100 (dk_at dksL_law_1 11 rfl rfl)
theorem dL_law_35 : decode cL_law 35 = .ok (.if_icmp .gt 2358, 3) := dk_163 9 54 (dk_at dksL_law_1 12 rfl rfl)
theorem dL_law_38 : decode cL_law 38 = .ok (.aload_n 0, 1) := dk_42 (dk_at dksL_law_1 15 rfl rfl)
theorem dL_law_39 : decode cL_law 39 = .ok (.iload 5, 2) := dk_21 5 (dk_at dksL_law_1 16 rfl rfl)
theorem dL_law_41 : decode cL_law 41 = .ok (.iaload, 1) := dk_46 (dk_at dksL_law_1 18 rfl rfl)
theorem dL_law_42 : decode cL_law 42 = .ok (.bipush 63, 2) := dk_16 63 (dk_at dksL_law_1 19 rfl rfl)
theorem dL_law_44 : decode cL_law 44 = .ok (.iand, 1) := dk_126 (dk_at dksL_law_1 21 rfl rfl)
theorem dL_law_45 : decode cL_law 45 = .ok (.tableswitch 2342 0 40 #[179, 252, 277, 290, 303, 316, 372, 428, 484, 540, 608, 676, 756, 824, 904, 960, 1040, 1108, 1176, 1272, 1328, 1408, 1421, 1489, 1545, 1558, 1614, 1627, 1670, 1747, 1815, 1871, 1927, 2011, 2079, 2147, 2191, 2247, 2260, 2285, 2298], 179) := by decide +kernel
theorem dL_law_224 : decode cL_law 224 = .ok (.aload_n 1, 1) := dk_43 (dk_at dksL_law_3 0 rfl rfl)
theorem dL_law_225 : decode cL_law 225 = .ok (.aload_n 0, 1) := dk_42 (dk_at dksL_law_3 1 rfl rfl)
theorem dL_law_226 : decode cL_law 226 = .ok (.iload 5, 2) := dk_21 5 (dk_at dksL_law_3 2 rfl rfl)
theorem dL_law_228 : decode cL_law 228 = .ok (.iconst 1, 1) := dk_4 (dk_at dksL_law_3 4 rfl rfl)
theorem dL_law_229 : decode cL_law 229 = .ok (.iadd, 1) := dk_96 (dk_at dksL_law_3 5 rfl rfl)
theorem dL_law_230 : decode cL_law 230 = .ok (.iaload, 1) := dk_46 (dk_at dksL_law_3 6 rfl rfl)
theorem dL_law_231 : decode cL_law 231 = .ok (.aload_n 0, 1) := dk_42 (dk_at dksL_law_3 7 rfl rfl)
theorem dL_law_232 : decode cL_law 232 = .ok (.iload 5, 2) := dk_21 5 (dk_at dksL_law_3 8 rfl rfl)
theorem dL_law_234 : decode cL_law 234 = .ok (.iconst 2, 1) := dk_5 (dk_at dksL_law_3 10 rfl rfl)
theorem dL_law_235 : decode cL_law 235 = .ok (.iadd, 1) := dk_96 (dk_at dksL_law_3 11 rfl rfl)
theorem dL_law_236 : decode cL_law 236 = .ok (.iaload, 1) := dk_46 (dk_at dksL_law_3 12 rfl rfl)
theorem dL_law_237 : decode cL_law 237 = .ok (.aload_n 0, 1) := dk_42 (dk_at dksL_law_3 13 rfl rfl)
theorem dL_law_238 : decode cL_law 238 = .ok (.iload 5, 2) := dk_21 5 (dk_at dksL_law_3 14 rfl rfl)
theorem dL_law_240 : decode cL_law 240 = .ok (.iconst 3, 1) := dk_6 (dk_at dksL_law_3 16 rfl rfl)
theorem dL_law_241 : decode cL_law 241 = .ok (.iadd, 1) := dk_96 (dk_at dksL_law_3 17 rfl rfl)
theorem dL_law_242 : decode cL_law 242 = .ok (.iaload, 1) := dk_46 (dk_at dksL_law_3 18 rfl rfl)
theorem dL_law_243 : decode cL_law 243 = .ok (.aload_n 0, 1) := dk_42 (dk_at dksL_law_3 19 rfl rfl)
theorem dL_law_244 : decode cL_law 244 = .ok (.iload 5, 2) := dk_21 5 (dk_at dksL_law_3 20 rfl rfl)
theorem dL_law_246 : decode cL_law 246 = .ok (.iconst 4, 1) := dk_7 (dk_at dksL_law_3 22 rfl rfl)
theorem dL_law_247 : decode cL_law 247 = .ok (.iadd, 1) := dk_96 (dk_at dksL_law_3 23 rfl rfl)
theorem dL_law_248 : decode cL_law 248 = .ok (.iaload, 1) := dk_46 (dk_at dksL_law_4 0 rfl rfl)
theorem dL_law_249 : decode cL_law 249 = .ok (.aload_n 0, 1) := dk_42 (dk_at dksL_law_4 1 rfl rfl)
theorem dL_law_250 : decode cL_law 250 = .ok (.iload 5, 2) := dk_21 5 (dk_at dksL_law_4 2 rfl rfl)
theorem dL_law_252 : decode cL_law 252 = .ok (.iconst 5, 1) := dk_8 (dk_at dksL_law_4 4 rfl rfl)
theorem dL_law_253 : decode cL_law 253 = .ok (.iadd, 1) := dk_96 (dk_at dksL_law_4 5 rfl rfl)
theorem dL_law_254 : decode cL_law 254 = .ok (.iaload, 1) := dk_46 (dk_at dksL_law_4 6 rfl rfl)
theorem dL_law_255 : decode cL_law 255 = .ok (.invokevirtual 115, 3) := dk_182 0 115 (dk_at dksL_law_4 7 rfl rfl)
theorem dL_law_258 : decode cL_law 258 = .ok (.aload_n 2, 1) := dk_44 (dk_at dksL_law_4 10 rfl rfl)
theorem dL_law_259 : decode cL_law 259 = .ok (.aload_n 0, 1) := dk_42 (dk_at dksL_law_4 11 rfl rfl)
theorem dL_law_260 : decode cL_law 260 = .ok (.iload 5, 2) := dk_21 5 (dk_at dksL_law_4 12 rfl rfl)
theorem dL_law_262 : decode cL_law 262 = .ok (.iconst 1, 1) := dk_4 (dk_at dksL_law_4 14 rfl rfl)
theorem dL_law_263 : decode cL_law 263 = .ok (.iadd, 1) := dk_96 (dk_at dksL_law_4 15 rfl rfl)
theorem dL_law_264 : decode cL_law 264 = .ok (.iaload, 1) := dk_46 (dk_at dksL_law_4 16 rfl rfl)
theorem dL_law_265 : decode cL_law 265 = .ok (.aload_n 0, 1) := dk_42 (dk_at dksL_law_4 17 rfl rfl)
theorem dL_law_266 : decode cL_law 266 = .ok (.iload 5, 2) := dk_21 5 (dk_at dksL_law_4 18 rfl rfl)
theorem dL_law_268 : decode cL_law 268 = .ok (.iconst 2, 1) := dk_5 (dk_at dksL_law_4 20 rfl rfl)
theorem dL_law_269 : decode cL_law 269 = .ok (.iadd, 1) := dk_96 (dk_at dksL_law_4 21 rfl rfl)
theorem dL_law_270 : decode cL_law 270 = .ok (.iaload, 1) := dk_46 (dk_at dksL_law_4 22 rfl rfl)
theorem dL_law_271 : decode cL_law 271 = .ok (.aload_n 0, 1) := dk_42 (dk_at dksL_law_4 23 rfl rfl)
theorem dL_law_272 : decode cL_law 272 = .ok (.iload 5, 2) := dk_21 5 (dk_at dksL_law_5 0 rfl rfl)
theorem dL_law_274 : decode cL_law 274 = .ok (.iconst 3, 1) := dk_6 (dk_at dksL_law_5 2 rfl rfl)
theorem dL_law_275 : decode cL_law 275 = .ok (.iadd, 1) := dk_96 (dk_at dksL_law_5 3 rfl rfl)
theorem dL_law_276 : decode cL_law 276 = .ok (.iaload, 1) := dk_46 (dk_at dksL_law_5 4 rfl rfl)
theorem dL_law_277 : decode cL_law 277 = .ok (.aload_n 0, 1) := dk_42 (dk_at dksL_law_5 5 rfl rfl)
theorem dL_law_278 : decode cL_law 278 = .ok (.iload 5, 2) := dk_21 5 (dk_at dksL_law_5 6 rfl rfl)
theorem dL_law_280 : decode cL_law 280 = .ok (.iconst 4, 1) := dk_7 (dk_at dksL_law_5 8 rfl rfl)
theorem dL_law_281 : decode cL_law 281 = .ok (.iadd, 1) := dk_96 (dk_at dksL_law_5 9 rfl rfl)
theorem dL_law_282 : decode cL_law 282 = .ok (.iaload, 1) := dk_46 (dk_at dksL_law_5 10 rfl rfl)
theorem dL_law_283 : decode cL_law 283 = .ok (.aload_n 0, 1) := dk_42 (dk_at dksL_law_5 11 rfl rfl)
theorem dL_law_284 : decode cL_law 284 = .ok (.iload 5, 2) := dk_21 5 (dk_at dksL_law_5 12 rfl rfl)
theorem dL_law_286 : decode cL_law 286 = .ok (.iconst 5, 1) := dk_8 (dk_at dksL_law_5 14 rfl rfl)
theorem dL_law_287 : decode cL_law 287 = .ok (.iadd, 1) := dk_96 (dk_at dksL_law_5 15 rfl rfl)
theorem dL_law_288 : decode cL_law 288 = .ok (.iaload, 1) := dk_46 (dk_at dksL_law_5 16 rfl rfl)
theorem dL_law_289 : decode cL_law 289 = .ok (.invokevirtual 119, 3) := dk_182 0 119 (dk_at dksL_law_5 17 rfl rfl)
theorem dL_law_292 : decode cL_law 292 = .ok (.if_icmp .eq 2095, 3) := dk_159 8 47 (dk_at dksL_law_5 20 rfl rfl)
theorem dL_law_295 : decode cL_law 295 = .ok (.iconst 0, 1) := dk_3 (dk_at dksL_law_5 23 rfl rfl)
theorem dL_law_296 : decode cL_law 296 = .ok (.ireturn, 1) := dk_172 (dk_at dksL_law_6 0 rfl rfl)
theorem dL_law_297 : decode cL_law 297 = .ok (.aload_n 1, 1) := dk_43 (dk_at dksL_law_6 1 rfl rfl)
theorem dL_law_298 : decode cL_law 298 = .ok (.aload_n 0, 1) := dk_42 (dk_at dksL_law_6 2 rfl rfl)
theorem dL_law_299 : decode cL_law 299 = .ok (.iload 5, 2) := dk_21 5 (dk_at dksL_law_6 3 rfl rfl)
theorem dL_law_301 : decode cL_law 301 = .ok (.iconst 1, 1) := dk_4 (dk_at dksL_law_6 5 rfl rfl)
theorem dL_law_302 : decode cL_law 302 = .ok (.iadd, 1) := dk_96 (dk_at dksL_law_6 6 rfl rfl)
theorem dL_law_303 : decode cL_law 303 = .ok (.iaload, 1) := dk_46 (dk_at dksL_law_6 7 rfl rfl)
theorem dL_law_304 : decode cL_law 304 = .ok (.invokevirtual 120, 3) := dk_182 0 120 (dk_at dksL_law_6 8 rfl rfl)
theorem dL_law_307 : decode cL_law 307 = .ok (.aload_n 2, 1) := dk_44 (dk_at dksL_law_6 11 rfl rfl)
theorem dL_law_308 : decode cL_law 308 = .ok (.aload_n 0, 1) := dk_42 (dk_at dksL_law_6 12 rfl rfl)
theorem dL_law_309 : decode cL_law 309 = .ok (.iload 5, 2) := dk_21 5 (dk_at dksL_law_6 13 rfl rfl)
theorem dL_law_311 : decode cL_law 311 = .ok (.iconst 1, 1) := dk_4 (dk_at dksL_law_6 15 rfl rfl)
theorem dL_law_312 : decode cL_law 312 = .ok (.iadd, 1) := dk_96 (dk_at dksL_law_6 16 rfl rfl)
theorem dL_law_313 : decode cL_law 313 = .ok (.iaload, 1) := dk_46 (dk_at dksL_law_6 17 rfl rfl)
theorem dL_law_314 : decode cL_law 314 = .ok (.invokevirtual 124, 3) := dk_182 0 124 (dk_at dksL_law_6 18 rfl rfl)
theorem dL_law_317 : decode cL_law 317 = .ok (.if_icmp .eq 2070, 3) := dk_159 8 22 (dk_at dksL_law_6 21 rfl rfl)
theorem dL_law_320 : decode cL_law 320 = .ok (.iconst 0, 1) := dk_3 (dk_at dksL_law_7 0 rfl rfl)
theorem dL_law_321 : decode cL_law 321 = .ok (.ireturn, 1) := dk_172 (dk_at dksL_law_7 1 rfl rfl)
theorem dL_law_322 : decode cL_law 322 = .ok (.aload_n 1, 1) := dk_43 (dk_at dksL_law_7 2 rfl rfl)
theorem dL_law_323 : decode cL_law 323 = .ok (.invokevirtual 125, 3) := dk_182 0 125 (dk_at dksL_law_7 3 rfl rfl)
theorem dL_law_326 : decode cL_law 326 = .ok (.aload_n 2, 1) := dk_44 (dk_at dksL_law_7 6 rfl rfl)
theorem dL_law_327 : decode cL_law 327 = .ok (.invokevirtual 128, 3) := dk_182 0 128 (dk_at dksL_law_7 7 rfl rfl)
theorem dL_law_330 : decode cL_law 330 = .ok (.if_icmp .eq 2057, 3) := dk_159 8 9 (dk_at dksL_law_7 10 rfl rfl)
theorem dL_law_333 : decode cL_law 333 = .ok (.iconst 0, 1) := dk_3 (dk_at dksL_law_7 13 rfl rfl)
theorem dL_law_334 : decode cL_law 334 = .ok (.ireturn, 1) := dk_172 (dk_at dksL_law_7 14 rfl rfl)
theorem dL_law_335 : decode cL_law 335 = .ok (.aload_n 1, 1) := dk_43 (dk_at dksL_law_7 15 rfl rfl)
theorem dL_law_336 : decode cL_law 336 = .ok (.invokevirtual 129, 3) := dk_182 0 129 (dk_at dksL_law_7 16 rfl rfl)
theorem dL_law_339 : decode cL_law 339 = .ok (.aload_n 2, 1) := dk_44 (dk_at dksL_law_7 19 rfl rfl)
theorem dL_law_340 : decode cL_law 340 = .ok (.invokevirtual 132, 3) := dk_182 0 132 (dk_at dksL_law_7 20 rfl rfl)
theorem dL_law_343 : decode cL_law 343 = .ok (.if_icmp .eq 2044, 3) := dk_159 7 252 (dk_at dksL_law_8 0 rfl rfl)
theorem dL_law_346 : decode cL_law 346 = .ok (.iconst 0, 1) := dk_3 (dk_at dksL_law_8 3 rfl rfl)
theorem dL_law_347 : decode cL_law 347 = .ok (.ireturn, 1) := dk_172 (dk_at dksL_law_8 4 rfl rfl)
theorem dL_law_348 : decode cL_law 348 = .ok (.aload_n 1, 1) := dk_43 (dk_at dksL_law_8 5 rfl rfl)
theorem dL_law_349 : decode cL_law 349 = .ok (.invokevirtual 133, 3) := dk_182 0 133 (dk_at dksL_law_8 6 rfl rfl)
theorem dL_law_352 : decode cL_law 352 = .ok (.aload_n 2, 1) := dk_44 (dk_at dksL_law_8 9 rfl rfl)
theorem dL_law_353 : decode cL_law 353 = .ok (.invokevirtual 136, 3) := dk_182 0 136 (dk_at dksL_law_8 10 rfl rfl)
theorem dL_law_356 : decode cL_law 356 = .ok (.if_icmp .eq 2031, 3) := dk_159 7 239 (dk_at dksL_law_8 13 rfl rfl)
theorem dL_law_359 : decode cL_law 359 = .ok (.iconst 0, 1) := dk_3 (dk_at dksL_law_8 16 rfl rfl)
theorem dL_law_360 : decode cL_law 360 = .ok (.ireturn, 1) := dk_172 (dk_at dksL_law_8 17 rfl rfl)
theorem dL_law_361 : decode cL_law 361 = .ok (.aload_n 1, 1) := dk_43 (dk_at dksL_law_8 18 rfl rfl)
theorem dL_law_362 : decode cL_law 362 = .ok (.aload_n 0, 1) := dk_42 (dk_at dksL_law_8 19 rfl rfl)
theorem dL_law_363 : decode cL_law 363 = .ok (.iload 5, 2) := dk_21 5 (dk_at dksL_law_8 20 rfl rfl)
theorem dL_law_365 : decode cL_law 365 = .ok (.iconst 1, 1) := dk_4 (dk_at dksL_law_8 22 rfl rfl)
theorem dL_law_366 : decode cL_law 366 = .ok (.iadd, 1) := dk_96 (dk_at dksL_law_8 23 rfl rfl)
theorem dL_law_367 : decode cL_law 367 = .ok (.iaload, 1) := dk_46 (dk_at dksL_law_9 0 rfl rfl)
theorem dL_law_368 : decode cL_law 368 = .ok (.aload_n 3, 1) := dk_45 (dk_at dksL_law_9 1 rfl rfl)
theorem dL_law_369 : decode cL_law 369 = .ok (.invokestatic 137, 3) := dk_184 0 137 (dk_at dksL_law_9 2 rfl rfl)
theorem dL_law_372 : decode cL_law 372 = .ok (.istore 6, 2) := dk_54 6 (dk_at dksL_law_9 5 rfl rfl)
theorem dL_law_374 : decode cL_law 374 = .ok (.aload_n 2, 1) := dk_44 (dk_at dksL_law_9 7 rfl rfl)
theorem dL_law_375 : decode cL_law 375 = .ok (.aload_n 0, 1) := dk_42 (dk_at dksL_law_9 8 rfl rfl)
theorem dL_law_376 : decode cL_law 376 = .ok (.iload 5, 2) := dk_21 5 (dk_at dksL_law_9 9 rfl rfl)
theorem dL_law_378 : decode cL_law 378 = .ok (.iconst 1, 1) := dk_4 (dk_at dksL_law_9 11 rfl rfl)
theorem dL_law_379 : decode cL_law 379 = .ok (.iadd, 1) := dk_96 (dk_at dksL_law_9 12 rfl rfl)
theorem dL_law_380 : decode cL_law 380 = .ok (.iaload, 1) := dk_46 (dk_at dksL_law_9 13 rfl rfl)
theorem dL_law_381 : decode cL_law 381 = .ok (.invokevirtual 142, 3) := dk_182 0 142 (dk_at dksL_law_9 14 rfl rfl)
theorem dL_law_384 : decode cL_law 384 = .ok (.istore 7, 2) := dk_54 7 (dk_at dksL_law_9 17 rfl rfl)
theorem dL_law_386 : decode cL_law 386 = .ok (.aload_n 2, 1) := dk_44 (dk_at dksL_law_9 19 rfl rfl)
theorem dL_law_387 : decode cL_law 387 = .ok (.invokevirtual 143, 3) := dk_182 0 143 (dk_at dksL_law_9 20 rfl rfl)
theorem dL_law_390 : decode cL_law 390 = .ok (.iload 6, 2) := dk_21 6 (dk_at dksL_law_10 0 rfl rfl)
theorem dL_law_392 : decode cL_law 392 = .ok (.if_icmp .eq 5, 3) := dk_159 0 5 (dk_at dksL_law_10 2 rfl rfl)
theorem dL_law_395 : decode cL_law 395 = .ok (.iconst 0, 1) := dk_3 (dk_at dksL_law_10 5 rfl rfl)
theorem dL_law_396 : decode cL_law 396 = .ok (.ireturn, 1) := dk_172 (dk_at dksL_law_10 6 rfl rfl)
theorem dL_law_397 : decode cL_law 397 = .ok (.iload 6, 2) := dk_21 6 (dk_at dksL_law_10 7 rfl rfl)
theorem dL_law_399 : decode cL_law 399 = .ok (.ifCond .ne 15, 3) := dk_154 0 15 (dk_at dksL_law_10 9 rfl rfl)
theorem dL_law_402 : decode cL_law 402 = .ok (.aload_n 3, 1) := dk_45 (dk_at dksL_law_10 12 rfl rfl)
theorem dL_law_403 : decode cL_law 403 = .ok (.iconst 0, 1) := dk_3 (dk_at dksL_law_10 13 rfl rfl)
theorem dL_law_404 : decode cL_law 404 = .ok (.laload, 1) := dk_47 (dk_at dksL_law_10 14 rfl rfl)
theorem dL_law_405 : decode cL_law 405 = .ok (.iload 7, 2) := dk_21 7 (dk_at dksL_law_10 15 rfl rfl)
theorem dL_law_407 : decode cL_law 407 = .ok (.i2l, 1) := dk_133 (dk_at dksL_law_10 17 rfl rfl)
theorem dL_law_408 : decode cL_law 408 = .ok (.lcmp, 1) := dk_148 (dk_at dksL_law_10 18 rfl rfl)
theorem dL_law_409 : decode cL_law 409 = .ok (.ifCond .eq 5, 3) := dk_153 0 5 (dk_at dksL_law_10 19 rfl rfl)
theorem dL_law_412 : decode cL_law 412 = .ok (.iconst 0, 1) := dk_3 (dk_at dksL_law_10 22 rfl rfl)
theorem dL_law_413 : decode cL_law 413 = .ok (.ireturn, 1) := dk_172 (dk_at dksL_law_10 23 rfl rfl)
theorem dL_law_414 : decode cL_law 414 = .ok (.goto 1973, 3) := dk_167 7 181 (dk_at dksL_law_11 0 rfl rfl)
theorem dL_law_417 : decode cL_law 417 = .ok (.aload_n 1, 1) := dk_43 (dk_at dksL_law_11 3 rfl rfl)
theorem dL_law_418 : decode cL_law 418 = .ok (.aload_n 0, 1) := dk_42 (dk_at dksL_law_11 4 rfl rfl)
theorem dL_law_419 : decode cL_law 419 = .ok (.iload 5, 2) := dk_21 5 (dk_at dksL_law_11 5 rfl rfl)
theorem dL_law_421 : decode cL_law 421 = .ok (.iconst 1, 1) := dk_4 (dk_at dksL_law_11 7 rfl rfl)
theorem dL_law_422 : decode cL_law 422 = .ok (.iadd, 1) := dk_96 (dk_at dksL_law_11 8 rfl rfl)
theorem dL_law_423 : decode cL_law 423 = .ok (.iaload, 1) := dk_46 (dk_at dksL_law_11 9 rfl rfl)
theorem dL_law_424 : decode cL_law 424 = .ok (.aload_n 3, 1) := dk_45 (dk_at dksL_law_11 10 rfl rfl)
theorem dL_law_425 : decode cL_law 425 = .ok (.invokestatic 146, 3) := dk_184 0 146 (dk_at dksL_law_11 11 rfl rfl)
theorem dL_law_428 : decode cL_law 428 = .ok (.istore 6, 2) := dk_54 6 (dk_at dksL_law_11 14 rfl rfl)
theorem dL_law_430 : decode cL_law 430 = .ok (.aload_n 2, 1) := dk_44 (dk_at dksL_law_11 16 rfl rfl)
theorem dL_law_431 : decode cL_law 431 = .ok (.aload_n 0, 1) := dk_42 (dk_at dksL_law_11 17 rfl rfl)
theorem dL_law_432 : decode cL_law 432 = .ok (.iload 5, 2) := dk_21 5 (dk_at dksL_law_11 18 rfl rfl)
theorem dL_law_434 : decode cL_law 434 = .ok (.iconst 1, 1) := dk_4 (dk_at dksL_law_11 20 rfl rfl)
theorem dL_law_435 : decode cL_law 435 = .ok (.iadd, 1) := dk_96 (dk_at dksL_law_11 21 rfl rfl)
theorem dL_law_436 : decode cL_law 436 = .ok (.iaload, 1) := dk_46 (dk_at dksL_law_11 22 rfl rfl)
theorem dL_law_437 : decode cL_law 437 = .ok (.invokevirtual 148, 3) := dk_182 0 148 (dk_at dksL_law_12 0 rfl rfl)
theorem dL_law_440 : decode cL_law 440 = .ok (.istore 7, 2) := dk_54 7 (dk_at dksL_law_12 3 rfl rfl)
theorem dL_law_442 : decode cL_law 442 = .ok (.aload_n 2, 1) := dk_44 (dk_at dksL_law_12 5 rfl rfl)
theorem dL_law_443 : decode cL_law 443 = .ok (.invokevirtual 143, 3) := dk_182 0 143 (dk_at dksL_law_12 6 rfl rfl)
theorem dL_law_446 : decode cL_law 446 = .ok (.iload 6, 2) := dk_21 6 (dk_at dksL_law_12 9 rfl rfl)
theorem dL_law_448 : decode cL_law 448 = .ok (.if_icmp .eq 5, 3) := dk_159 0 5 (dk_at dksL_law_12 11 rfl rfl)
theorem dL_law_451 : decode cL_law 451 = .ok (.iconst 0, 1) := dk_3 (dk_at dksL_law_12 14 rfl rfl)
theorem dL_law_452 : decode cL_law 452 = .ok (.ireturn, 1) := dk_172 (dk_at dksL_law_12 15 rfl rfl)
theorem dL_law_453 : decode cL_law 453 = .ok (.iload 6, 2) := dk_21 6 (dk_at dksL_law_12 16 rfl rfl)
theorem dL_law_455 : decode cL_law 455 = .ok (.ifCond .ne 15, 3) := dk_154 0 15 (dk_at dksL_law_12 18 rfl rfl)
theorem dL_law_458 : decode cL_law 458 = .ok (.aload_n 3, 1) := dk_45 (dk_at dksL_law_12 21 rfl rfl)
theorem dL_law_459 : decode cL_law 459 = .ok (.iconst 0, 1) := dk_3 (dk_at dksL_law_12 22 rfl rfl)
theorem dL_law_460 : decode cL_law 460 = .ok (.laload, 1) := dk_47 (dk_at dksL_law_12 23 rfl rfl)
theorem dL_law_461 : decode cL_law 461 = .ok (.iload 7, 2) := dk_21 7 (dk_at dksL_law_13 0 rfl rfl)
theorem dL_law_463 : decode cL_law 463 = .ok (.i2l, 1) := dk_133 (dk_at dksL_law_13 2 rfl rfl)
theorem dL_law_464 : decode cL_law 464 = .ok (.lcmp, 1) := dk_148 (dk_at dksL_law_13 3 rfl rfl)
theorem dL_law_465 : decode cL_law 465 = .ok (.ifCond .eq 5, 3) := dk_153 0 5 (dk_at dksL_law_13 4 rfl rfl)
theorem dL_law_468 : decode cL_law 468 = .ok (.iconst 0, 1) := dk_3 (dk_at dksL_law_13 7 rfl rfl)
theorem dL_law_469 : decode cL_law 469 = .ok (.ireturn, 1) := dk_172 (dk_at dksL_law_13 8 rfl rfl)
theorem dL_law_470 : decode cL_law 470 = .ok (.goto 1917, 3) := dk_167 7 125 (dk_at dksL_law_13 9 rfl rfl)
theorem dL_law_473 : decode cL_law 473 = .ok (.aload_n 1, 1) := dk_43 (dk_at dksL_law_13 12 rfl rfl)
theorem dL_law_474 : decode cL_law 474 = .ok (.aload_n 0, 1) := dk_42 (dk_at dksL_law_13 13 rfl rfl)
theorem dL_law_475 : decode cL_law 475 = .ok (.iload 5, 2) := dk_21 5 (dk_at dksL_law_13 14 rfl rfl)
theorem dL_law_477 : decode cL_law 477 = .ok (.iconst 1, 1) := dk_4 (dk_at dksL_law_13 16 rfl rfl)
theorem dL_law_478 : decode cL_law 478 = .ok (.iadd, 1) := dk_96 (dk_at dksL_law_13 17 rfl rfl)
theorem dL_law_479 : decode cL_law 479 = .ok (.iaload, 1) := dk_46 (dk_at dksL_law_13 18 rfl rfl)
theorem dL_law_480 : decode cL_law 480 = .ok (.aload_n 3, 1) := dk_45 (dk_at dksL_law_13 19 rfl rfl)
theorem dL_law_481 : decode cL_law 481 = .ok (.invokestatic 149, 3) := dk_184 0 149 (dk_at dksL_law_13 20 rfl rfl)
theorem dL_law_484 : decode cL_law 484 = .ok (.istore 6, 2) := dk_54 6 (dk_at dksL_law_14 0 rfl rfl)
theorem dL_law_486 : decode cL_law 486 = .ok (.aload_n 2, 1) := dk_44 (dk_at dksL_law_14 2 rfl rfl)
theorem dL_law_487 : decode cL_law 487 = .ok (.aload_n 0, 1) := dk_42 (dk_at dksL_law_14 3 rfl rfl)
theorem dL_law_488 : decode cL_law 488 = .ok (.iload 5, 2) := dk_21 5 (dk_at dksL_law_14 4 rfl rfl)
theorem dL_law_490 : decode cL_law 490 = .ok (.iconst 1, 1) := dk_4 (dk_at dksL_law_14 6 rfl rfl)
theorem dL_law_491 : decode cL_law 491 = .ok (.iadd, 1) := dk_96 (dk_at dksL_law_14 7 rfl rfl)
theorem dL_law_492 : decode cL_law 492 = .ok (.iaload, 1) := dk_46 (dk_at dksL_law_14 8 rfl rfl)
theorem dL_law_493 : decode cL_law 493 = .ok (.invokevirtual 151, 3) := dk_182 0 151 (dk_at dksL_law_14 9 rfl rfl)
theorem dL_law_496 : decode cL_law 496 = .ok (.istore 7, 2) := dk_54 7 (dk_at dksL_law_14 12 rfl rfl)
theorem dL_law_498 : decode cL_law 498 = .ok (.aload_n 2, 1) := dk_44 (dk_at dksL_law_14 14 rfl rfl)
theorem dL_law_499 : decode cL_law 499 = .ok (.invokevirtual 143, 3) := dk_182 0 143 (dk_at dksL_law_14 15 rfl rfl)
theorem dL_law_502 : decode cL_law 502 = .ok (.iload 6, 2) := dk_21 6 (dk_at dksL_law_14 18 rfl rfl)
theorem dL_law_504 : decode cL_law 504 = .ok (.if_icmp .eq 5, 3) := dk_159 0 5 (dk_at dksL_law_14 20 rfl rfl)
theorem dL_law_507 : decode cL_law 507 = .ok (.iconst 0, 1) := dk_3 (dk_at dksL_law_14 23 rfl rfl)
theorem dL_law_508 : decode cL_law 508 = .ok (.ireturn, 1) := dk_172 (dk_at dksL_law_15 0 rfl rfl)
theorem dL_law_509 : decode cL_law 509 = .ok (.iload 6, 2) := dk_21 6 (dk_at dksL_law_15 1 rfl rfl)
theorem dL_law_511 : decode cL_law 511 = .ok (.ifCond .ne 15, 3) := dk_154 0 15 (dk_at dksL_law_15 3 rfl rfl)
theorem dL_law_514 : decode cL_law 514 = .ok (.aload_n 3, 1) := dk_45 (dk_at dksL_law_15 6 rfl rfl)
theorem dL_law_515 : decode cL_law 515 = .ok (.iconst 0, 1) := dk_3 (dk_at dksL_law_15 7 rfl rfl)
theorem dL_law_516 : decode cL_law 516 = .ok (.laload, 1) := dk_47 (dk_at dksL_law_15 8 rfl rfl)
theorem dL_law_517 : decode cL_law 517 = .ok (.iload 7, 2) := dk_21 7 (dk_at dksL_law_15 9 rfl rfl)
theorem dL_law_519 : decode cL_law 519 = .ok (.i2l, 1) := dk_133 (dk_at dksL_law_15 11 rfl rfl)
theorem dL_law_520 : decode cL_law 520 = .ok (.lcmp, 1) := dk_148 (dk_at dksL_law_15 12 rfl rfl)
theorem dL_law_521 : decode cL_law 521 = .ok (.ifCond .eq 5, 3) := dk_153 0 5 (dk_at dksL_law_15 13 rfl rfl)
theorem dL_law_524 : decode cL_law 524 = .ok (.iconst 0, 1) := dk_3 (dk_at dksL_law_15 16 rfl rfl)
theorem dL_law_525 : decode cL_law 525 = .ok (.ireturn, 1) := dk_172 (dk_at dksL_law_15 17 rfl rfl)
theorem dL_law_526 : decode cL_law 526 = .ok (.goto 1861, 3) := dk_167 7 69 (dk_at dksL_law_15 18 rfl rfl)
theorem dL_law_529 : decode cL_law 529 = .ok (.aload_n 1, 1) := dk_43 (dk_at dksL_law_15 21 rfl rfl)
theorem dL_law_530 : decode cL_law 530 = .ok (.aload_n 0, 1) := dk_42 (dk_at dksL_law_15 22 rfl rfl)
theorem dL_law_531 : decode cL_law 531 = .ok (.iload 5, 2) := dk_21 5 (dk_at dksL_law_16 0 rfl rfl)
theorem dL_law_533 : decode cL_law 533 = .ok (.iconst 1, 1) := dk_4 (dk_at dksL_law_16 2 rfl rfl)
theorem dL_law_534 : decode cL_law 534 = .ok (.iadd, 1) := dk_96 (dk_at dksL_law_16 3 rfl rfl)
theorem dL_law_535 : decode cL_law 535 = .ok (.iaload, 1) := dk_46 (dk_at dksL_law_16 4 rfl rfl)
theorem dL_law_536 : decode cL_law 536 = .ok (.aload_n 3, 1) := dk_45 (dk_at dksL_law_16 5 rfl rfl)
theorem dL_law_537 : decode cL_law 537 = .ok (.invokestatic 152, 3) := dk_184 0 152 (dk_at dksL_law_16 6 rfl rfl)
theorem dL_law_540 : decode cL_law 540 = .ok (.istore 6, 2) := dk_54 6 (dk_at dksL_law_16 9 rfl rfl)
theorem dL_law_542 : decode cL_law 542 = .ok (.aload_n 2, 1) := dk_44 (dk_at dksL_law_16 11 rfl rfl)
theorem dL_law_543 : decode cL_law 543 = .ok (.aload_n 0, 1) := dk_42 (dk_at dksL_law_16 12 rfl rfl)
theorem dL_law_544 : decode cL_law 544 = .ok (.iload 5, 2) := dk_21 5 (dk_at dksL_law_16 13 rfl rfl)
theorem dL_law_546 : decode cL_law 546 = .ok (.iconst 1, 1) := dk_4 (dk_at dksL_law_16 15 rfl rfl)
theorem dL_law_547 : decode cL_law 547 = .ok (.iadd, 1) := dk_96 (dk_at dksL_law_16 16 rfl rfl)
theorem dL_law_548 : decode cL_law 548 = .ok (.iaload, 1) := dk_46 (dk_at dksL_law_16 17 rfl rfl)
theorem dL_law_549 : decode cL_law 549 = .ok (.invokevirtual 154, 3) := dk_182 0 154 (dk_at dksL_law_16 18 rfl rfl)
theorem dL_law_552 : decode cL_law 552 = .ok (.istore 7, 2) := dk_54 7 (dk_at dksL_law_16 21 rfl rfl)
theorem dL_law_554 : decode cL_law 554 = .ok (.aload_n 2, 1) := dk_44 (dk_at dksL_law_16 23 rfl rfl)
theorem dL_law_555 : decode cL_law 555 = .ok (.invokevirtual 143, 3) := dk_182 0 143 (dk_at dksL_law_17 0 rfl rfl)
theorem dL_law_558 : decode cL_law 558 = .ok (.iload 6, 2) := dk_21 6 (dk_at dksL_law_17 3 rfl rfl)
theorem dL_law_560 : decode cL_law 560 = .ok (.if_icmp .eq 5, 3) := dk_159 0 5 (dk_at dksL_law_17 5 rfl rfl)
theorem dL_law_563 : decode cL_law 563 = .ok (.iconst 0, 1) := dk_3 (dk_at dksL_law_17 8 rfl rfl)
theorem dL_law_564 : decode cL_law 564 = .ok (.ireturn, 1) := dk_172 (dk_at dksL_law_17 9 rfl rfl)
theorem dL_law_565 : decode cL_law 565 = .ok (.iload 6, 2) := dk_21 6 (dk_at dksL_law_17 10 rfl rfl)
theorem dL_law_567 : decode cL_law 567 = .ok (.ifCond .ne 15, 3) := dk_154 0 15 (dk_at dksL_law_17 12 rfl rfl)
theorem dL_law_570 : decode cL_law 570 = .ok (.aload_n 3, 1) := dk_45 (dk_at dksL_law_17 15 rfl rfl)
theorem dL_law_571 : decode cL_law 571 = .ok (.iconst 0, 1) := dk_3 (dk_at dksL_law_17 16 rfl rfl)
theorem dL_law_572 : decode cL_law 572 = .ok (.laload, 1) := dk_47 (dk_at dksL_law_17 17 rfl rfl)
theorem dL_law_573 : decode cL_law 573 = .ok (.iload 7, 2) := dk_21 7 (dk_at dksL_law_17 18 rfl rfl)
theorem dL_law_575 : decode cL_law 575 = .ok (.i2l, 1) := dk_133 (dk_at dksL_law_17 20 rfl rfl)
theorem dL_law_576 : decode cL_law 576 = .ok (.lcmp, 1) := dk_148 (dk_at dksL_law_17 21 rfl rfl)
theorem dL_law_577 : decode cL_law 577 = .ok (.ifCond .eq 5, 3) := dk_153 0 5 (dk_at dksL_law_18 0 rfl rfl)
theorem dL_law_580 : decode cL_law 580 = .ok (.iconst 0, 1) := dk_3 (dk_at dksL_law_18 3 rfl rfl)
theorem dL_law_581 : decode cL_law 581 = .ok (.ireturn, 1) := dk_172 (dk_at dksL_law_18 4 rfl rfl)
theorem dL_law_582 : decode cL_law 582 = .ok (.goto 1805, 3) := dk_167 7 13 (dk_at dksL_law_18 5 rfl rfl)
theorem dL_law_585 : decode cL_law 585 = .ok (.aload_n 1, 1) := dk_43 (dk_at dksL_law_18 8 rfl rfl)
theorem dL_law_586 : decode cL_law 586 = .ok (.aload_n 0, 1) := dk_42 (dk_at dksL_law_18 9 rfl rfl)
theorem dL_law_587 : decode cL_law 587 = .ok (.iload 5, 2) := dk_21 5 (dk_at dksL_law_18 10 rfl rfl)
theorem dL_law_589 : decode cL_law 589 = .ok (.iconst 1, 1) := dk_4 (dk_at dksL_law_18 12 rfl rfl)
theorem dL_law_590 : decode cL_law 590 = .ok (.iadd, 1) := dk_96 (dk_at dksL_law_18 13 rfl rfl)
theorem dL_law_591 : decode cL_law 591 = .ok (.iaload, 1) := dk_46 (dk_at dksL_law_18 14 rfl rfl)
theorem dL_law_592 : decode cL_law 592 = .ok (.aload_n 0, 1) := dk_42 (dk_at dksL_law_18 15 rfl rfl)
theorem dL_law_593 : decode cL_law 593 = .ok (.iload 5, 2) := dk_21 5 (dk_at dksL_law_18 16 rfl rfl)
theorem dL_law_595 : decode cL_law 595 = .ok (.iconst 2, 1) := dk_5 (dk_at dksL_law_18 18 rfl rfl)
theorem dL_law_596 : decode cL_law 596 = .ok (.iadd, 1) := dk_96 (dk_at dksL_law_18 19 rfl rfl)
theorem dL_law_597 : decode cL_law 597 = .ok (.iaload, 1) := dk_46 (dk_at dksL_law_18 20 rfl rfl)
theorem dL_law_598 : decode cL_law 598 = .ok (.aload_n 3, 1) := dk_45 (dk_at dksL_law_18 21 rfl rfl)
theorem dL_law_599 : decode cL_law 599 = .ok (.invokestatic 155, 3) := dk_184 0 155 (dk_at dksL_law_19 0 rfl rfl)
theorem dL_law_602 : decode cL_law 602 = .ok (.istore 6, 2) := dk_54 6 (dk_at dksL_law_19 3 rfl rfl)
theorem dL_law_604 : decode cL_law 604 = .ok (.aload_n 2, 1) := dk_44 (dk_at dksL_law_19 5 rfl rfl)
theorem dL_law_605 : decode cL_law 605 = .ok (.aload_n 0, 1) := dk_42 (dk_at dksL_law_19 6 rfl rfl)
theorem dL_law_606 : decode cL_law 606 = .ok (.iload 5, 2) := dk_21 5 (dk_at dksL_law_19 7 rfl rfl)
theorem dL_law_608 : decode cL_law 608 = .ok (.iconst 1, 1) := dk_4 (dk_at dksL_law_19 9 rfl rfl)
theorem dL_law_609 : decode cL_law 609 = .ok (.iadd, 1) := dk_96 (dk_at dksL_law_19 10 rfl rfl)
theorem dL_law_610 : decode cL_law 610 = .ok (.iaload, 1) := dk_46 (dk_at dksL_law_19 11 rfl rfl)
theorem dL_law_611 : decode cL_law 611 = .ok (.aload_n 0, 1) := dk_42 (dk_at dksL_law_19 12 rfl rfl)
theorem dL_law_612 : decode cL_law 612 = .ok (.iload 5, 2) := dk_21 5 (dk_at dksL_law_19 13 rfl rfl)
theorem dL_law_614 : decode cL_law 614 = .ok (.iconst 2, 1) := dk_5 (dk_at dksL_law_19 15 rfl rfl)
theorem dL_law_615 : decode cL_law 615 = .ok (.iadd, 1) := dk_96 (dk_at dksL_law_19 16 rfl rfl)
theorem dL_law_616 : decode cL_law 616 = .ok (.iaload, 1) := dk_46 (dk_at dksL_law_19 17 rfl rfl)
theorem dL_law_617 : decode cL_law 617 = .ok (.invokevirtual 158, 3) := dk_182 0 158 (dk_at dksL_law_19 18 rfl rfl)
theorem dL_law_620 : decode cL_law 620 = .ok (.istore 7, 2) := dk_54 7 (dk_at dksL_law_19 21 rfl rfl)
theorem dL_law_622 : decode cL_law 622 = .ok (.aload_n 2, 1) := dk_44 (dk_at dksL_law_19 23 rfl rfl)
theorem dL_law_623 : decode cL_law 623 = .ok (.invokevirtual 143, 3) := dk_182 0 143 (dk_at dksL_law_20 0 rfl rfl)
theorem dL_law_626 : decode cL_law 626 = .ok (.iload 6, 2) := dk_21 6 (dk_at dksL_law_20 3 rfl rfl)
theorem dL_law_628 : decode cL_law 628 = .ok (.if_icmp .eq 5, 3) := dk_159 0 5 (dk_at dksL_law_20 5 rfl rfl)
theorem dL_law_631 : decode cL_law 631 = .ok (.iconst 0, 1) := dk_3 (dk_at dksL_law_20 8 rfl rfl)
theorem dL_law_632 : decode cL_law 632 = .ok (.ireturn, 1) := dk_172 (dk_at dksL_law_20 9 rfl rfl)
theorem dL_law_633 : decode cL_law 633 = .ok (.iload 6, 2) := dk_21 6 (dk_at dksL_law_20 10 rfl rfl)
theorem dL_law_635 : decode cL_law 635 = .ok (.ifCond .ne 15, 3) := dk_154 0 15 (dk_at dksL_law_20 12 rfl rfl)
theorem dL_law_638 : decode cL_law 638 = .ok (.aload_n 3, 1) := dk_45 (dk_at dksL_law_20 15 rfl rfl)
theorem dL_law_639 : decode cL_law 639 = .ok (.iconst 0, 1) := dk_3 (dk_at dksL_law_20 16 rfl rfl)
theorem dL_law_640 : decode cL_law 640 = .ok (.laload, 1) := dk_47 (dk_at dksL_law_20 17 rfl rfl)
theorem dL_law_641 : decode cL_law 641 = .ok (.iload 7, 2) := dk_21 7 (dk_at dksL_law_20 18 rfl rfl)
theorem dL_law_643 : decode cL_law 643 = .ok (.i2l, 1) := dk_133 (dk_at dksL_law_20 20 rfl rfl)
theorem dL_law_644 : decode cL_law 644 = .ok (.lcmp, 1) := dk_148 (dk_at dksL_law_20 21 rfl rfl)
theorem dL_law_645 : decode cL_law 645 = .ok (.ifCond .eq 5, 3) := dk_153 0 5 (dk_at dksL_law_21 0 rfl rfl)
theorem dL_law_648 : decode cL_law 648 = .ok (.iconst 0, 1) := dk_3 (dk_at dksL_law_21 3 rfl rfl)
theorem dL_law_649 : decode cL_law 649 = .ok (.ireturn, 1) := dk_172 (dk_at dksL_law_21 4 rfl rfl)
theorem dL_law_650 : decode cL_law 650 = .ok (.goto 1737, 3) := dk_167 6 201 (dk_at dksL_law_21 5 rfl rfl)
theorem dL_law_653 : decode cL_law 653 = .ok (.aload_n 1, 1) := dk_43 (dk_at dksL_law_21 8 rfl rfl)
theorem dL_law_654 : decode cL_law 654 = .ok (.aload_n 0, 1) := dk_42 (dk_at dksL_law_21 9 rfl rfl)
theorem dL_law_655 : decode cL_law 655 = .ok (.iload 5, 2) := dk_21 5 (dk_at dksL_law_21 10 rfl rfl)
theorem dL_law_657 : decode cL_law 657 = .ok (.iconst 1, 1) := dk_4 (dk_at dksL_law_21 12 rfl rfl)
theorem dL_law_658 : decode cL_law 658 = .ok (.iadd, 1) := dk_96 (dk_at dksL_law_21 13 rfl rfl)
theorem dL_law_659 : decode cL_law 659 = .ok (.iaload, 1) := dk_46 (dk_at dksL_law_21 14 rfl rfl)
theorem dL_law_660 : decode cL_law 660 = .ok (.aload_n 0, 1) := dk_42 (dk_at dksL_law_21 15 rfl rfl)
theorem dL_law_661 : decode cL_law 661 = .ok (.iload 5, 2) := dk_21 5 (dk_at dksL_law_21 16 rfl rfl)
theorem dL_law_663 : decode cL_law 663 = .ok (.iconst 2, 1) := dk_5 (dk_at dksL_law_21 18 rfl rfl)
theorem dL_law_664 : decode cL_law 664 = .ok (.iadd, 1) := dk_96 (dk_at dksL_law_21 19 rfl rfl)
theorem dL_law_665 : decode cL_law 665 = .ok (.iaload, 1) := dk_46 (dk_at dksL_law_21 20 rfl rfl)
theorem dL_law_666 : decode cL_law 666 = .ok (.aload_n 3, 1) := dk_45 (dk_at dksL_law_21 21 rfl rfl)
theorem dL_law_667 : decode cL_law 667 = .ok (.invokestatic 159, 3) := dk_184 0 159 (dk_at dksL_law_22 0 rfl rfl)
theorem dL_law_670 : decode cL_law 670 = .ok (.istore 6, 2) := dk_54 6 (dk_at dksL_law_22 3 rfl rfl)
theorem dL_law_672 : decode cL_law 672 = .ok (.aload_n 2, 1) := dk_44 (dk_at dksL_law_22 5 rfl rfl)
theorem dL_law_673 : decode cL_law 673 = .ok (.aload_n 0, 1) := dk_42 (dk_at dksL_law_22 6 rfl rfl)
theorem dL_law_674 : decode cL_law 674 = .ok (.iload 5, 2) := dk_21 5 (dk_at dksL_law_22 7 rfl rfl)
theorem dL_law_676 : decode cL_law 676 = .ok (.iconst 1, 1) := dk_4 (dk_at dksL_law_22 9 rfl rfl)
theorem dL_law_677 : decode cL_law 677 = .ok (.iadd, 1) := dk_96 (dk_at dksL_law_22 10 rfl rfl)
theorem dL_law_678 : decode cL_law 678 = .ok (.iaload, 1) := dk_46 (dk_at dksL_law_22 11 rfl rfl)
theorem dL_law_679 : decode cL_law 679 = .ok (.aload_n 0, 1) := dk_42 (dk_at dksL_law_22 12 rfl rfl)
theorem dL_law_680 : decode cL_law 680 = .ok (.iload 5, 2) := dk_21 5 (dk_at dksL_law_22 13 rfl rfl)
theorem dL_law_682 : decode cL_law 682 = .ok (.iconst 2, 1) := dk_5 (dk_at dksL_law_22 15 rfl rfl)
theorem dL_law_683 : decode cL_law 683 = .ok (.iadd, 1) := dk_96 (dk_at dksL_law_22 16 rfl rfl)
theorem dL_law_684 : decode cL_law 684 = .ok (.iaload, 1) := dk_46 (dk_at dksL_law_22 17 rfl rfl)
theorem dL_law_685 : decode cL_law 685 = .ok (.invokevirtual 161, 3) := dk_182 0 161 (dk_at dksL_law_22 18 rfl rfl)
theorem dL_law_688 : decode cL_law 688 = .ok (.istore 7, 2) := dk_54 7 (dk_at dksL_law_22 21 rfl rfl)
theorem dL_law_690 : decode cL_law 690 = .ok (.aload_n 2, 1) := dk_44 (dk_at dksL_law_22 23 rfl rfl)
theorem dL_law_691 : decode cL_law 691 = .ok (.invokevirtual 143, 3) := dk_182 0 143 (dk_at dksL_law_23 0 rfl rfl)
theorem dL_law_694 : decode cL_law 694 = .ok (.iload 6, 2) := dk_21 6 (dk_at dksL_law_23 3 rfl rfl)
theorem dL_law_696 : decode cL_law 696 = .ok (.if_icmp .eq 5, 3) := dk_159 0 5 (dk_at dksL_law_23 5 rfl rfl)
theorem dL_law_699 : decode cL_law 699 = .ok (.iconst 0, 1) := dk_3 (dk_at dksL_law_23 8 rfl rfl)
theorem dL_law_700 : decode cL_law 700 = .ok (.ireturn, 1) := dk_172 (dk_at dksL_law_23 9 rfl rfl)
theorem dL_law_701 : decode cL_law 701 = .ok (.iload 6, 2) := dk_21 6 (dk_at dksL_law_23 10 rfl rfl)
theorem dL_law_703 : decode cL_law 703 = .ok (.ifCond .ne 15, 3) := dk_154 0 15 (dk_at dksL_law_23 12 rfl rfl)
theorem dL_law_706 : decode cL_law 706 = .ok (.aload_n 3, 1) := dk_45 (dk_at dksL_law_23 15 rfl rfl)
theorem dL_law_707 : decode cL_law 707 = .ok (.iconst 0, 1) := dk_3 (dk_at dksL_law_23 16 rfl rfl)
theorem dL_law_708 : decode cL_law 708 = .ok (.laload, 1) := dk_47 (dk_at dksL_law_23 17 rfl rfl)
theorem dL_law_709 : decode cL_law 709 = .ok (.iload 7, 2) := dk_21 7 (dk_at dksL_law_23 18 rfl rfl)
theorem dL_law_711 : decode cL_law 711 = .ok (.i2l, 1) := dk_133 (dk_at dksL_law_23 20 rfl rfl)
theorem dL_law_712 : decode cL_law 712 = .ok (.lcmp, 1) := dk_148 (dk_at dksL_law_23 21 rfl rfl)
theorem dL_law_713 : decode cL_law 713 = .ok (.ifCond .eq 5, 3) := dk_153 0 5 (dk_at dksL_law_24 0 rfl rfl)
theorem dL_law_716 : decode cL_law 716 = .ok (.iconst 0, 1) := dk_3 (dk_at dksL_law_24 3 rfl rfl)
theorem dL_law_717 : decode cL_law 717 = .ok (.ireturn, 1) := dk_172 (dk_at dksL_law_24 4 rfl rfl)
theorem dL_law_718 : decode cL_law 718 = .ok (.goto 1669, 3) := dk_167 6 133 (dk_at dksL_law_24 5 rfl rfl)
theorem dL_law_721 : decode cL_law 721 = .ok (.aload_n 1, 1) := dk_43 (dk_at dksL_law_24 8 rfl rfl)
theorem dL_law_722 : decode cL_law 722 = .ok (.aload_n 0, 1) := dk_42 (dk_at dksL_law_24 9 rfl rfl)
theorem dL_law_723 : decode cL_law 723 = .ok (.iload 5, 2) := dk_21 5 (dk_at dksL_law_24 10 rfl rfl)
theorem dL_law_725 : decode cL_law 725 = .ok (.iconst 1, 1) := dk_4 (dk_at dksL_law_24 12 rfl rfl)
theorem dL_law_726 : decode cL_law 726 = .ok (.iadd, 1) := dk_96 (dk_at dksL_law_24 13 rfl rfl)
theorem dL_law_727 : decode cL_law 727 = .ok (.iaload, 1) := dk_46 (dk_at dksL_law_24 14 rfl rfl)
theorem dL_law_728 : decode cL_law 728 = .ok (.aload_n 0, 1) := dk_42 (dk_at dksL_law_24 15 rfl rfl)
theorem dL_law_729 : decode cL_law 729 = .ok (.iload 5, 2) := dk_21 5 (dk_at dksL_law_24 16 rfl rfl)
theorem dL_law_731 : decode cL_law 731 = .ok (.iconst 2, 1) := dk_5 (dk_at dksL_law_24 18 rfl rfl)
theorem dL_law_732 : decode cL_law 732 = .ok (.iadd, 1) := dk_96 (dk_at dksL_law_24 19 rfl rfl)
theorem dL_law_733 : decode cL_law 733 = .ok (.iaload, 1) := dk_46 (dk_at dksL_law_24 20 rfl rfl)
theorem dL_law_734 : decode cL_law 734 = .ok (.aload_n 0, 1) := dk_42 (dk_at dksL_law_24 21 rfl rfl)
theorem dL_law_735 : decode cL_law 735 = .ok (.iload 5, 2) := dk_21 5 (dk_at dksL_law_24 22 rfl rfl)
theorem dL_law_737 : decode cL_law 737 = .ok (.iconst 3, 1) := dk_6 (dk_at dksL_law_25 0 rfl rfl)
theorem dL_law_738 : decode cL_law 738 = .ok (.iadd, 1) := dk_96 (dk_at dksL_law_25 1 rfl rfl)
theorem dL_law_739 : decode cL_law 739 = .ok (.iaload, 1) := dk_46 (dk_at dksL_law_25 2 rfl rfl)
theorem dL_law_740 : decode cL_law 740 = .ok (.aload_n 3, 1) := dk_45 (dk_at dksL_law_25 3 rfl rfl)
theorem dL_law_741 : decode cL_law 741 = .ok (.invokestatic 162, 3) := dk_184 0 162 (dk_at dksL_law_25 4 rfl rfl)
theorem dL_law_744 : decode cL_law 744 = .ok (.istore 6, 2) := dk_54 6 (dk_at dksL_law_25 7 rfl rfl)
theorem dL_law_746 : decode cL_law 746 = .ok (.aload_n 2, 1) := dk_44 (dk_at dksL_law_25 9 rfl rfl)
theorem dL_law_747 : decode cL_law 747 = .ok (.aload_n 0, 1) := dk_42 (dk_at dksL_law_25 10 rfl rfl)
theorem dL_law_748 : decode cL_law 748 = .ok (.iload 5, 2) := dk_21 5 (dk_at dksL_law_25 11 rfl rfl)
theorem dL_law_750 : decode cL_law 750 = .ok (.iconst 1, 1) := dk_4 (dk_at dksL_law_25 13 rfl rfl)
theorem dL_law_751 : decode cL_law 751 = .ok (.iadd, 1) := dk_96 (dk_at dksL_law_25 14 rfl rfl)
theorem dL_law_752 : decode cL_law 752 = .ok (.iaload, 1) := dk_46 (dk_at dksL_law_25 15 rfl rfl)
theorem dL_law_753 : decode cL_law 753 = .ok (.aload_n 0, 1) := dk_42 (dk_at dksL_law_25 16 rfl rfl)
theorem dL_law_754 : decode cL_law 754 = .ok (.iload 5, 2) := dk_21 5 (dk_at dksL_law_25 17 rfl rfl)
theorem dL_law_756 : decode cL_law 756 = .ok (.iconst 2, 1) := dk_5 (dk_at dksL_law_25 19 rfl rfl)
theorem dL_law_757 : decode cL_law 757 = .ok (.iadd, 1) := dk_96 (dk_at dksL_law_25 20 rfl rfl)
theorem dL_law_758 : decode cL_law 758 = .ok (.iaload, 1) := dk_46 (dk_at dksL_law_25 21 rfl rfl)
theorem dL_law_759 : decode cL_law 759 = .ok (.aload_n 0, 1) := dk_42 (dk_at dksL_law_25 22 rfl rfl)
theorem dL_law_760 : decode cL_law 760 = .ok (.iload 5, 2) := dk_21 5 (dk_at dksL_law_26 0 rfl rfl)
theorem dL_law_762 : decode cL_law 762 = .ok (.iconst 3, 1) := dk_6 (dk_at dksL_law_26 2 rfl rfl)
theorem dL_law_763 : decode cL_law 763 = .ok (.iadd, 1) := dk_96 (dk_at dksL_law_26 3 rfl rfl)
theorem dL_law_764 : decode cL_law 764 = .ok (.iaload, 1) := dk_46 (dk_at dksL_law_26 4 rfl rfl)
theorem dL_law_765 : decode cL_law 765 = .ok (.invokevirtual 165, 3) := dk_182 0 165 (dk_at dksL_law_26 5 rfl rfl)
theorem dL_law_768 : decode cL_law 768 = .ok (.istore 7, 2) := dk_54 7 (dk_at dksL_law_26 8 rfl rfl)
theorem dL_law_770 : decode cL_law 770 = .ok (.aload_n 2, 1) := dk_44 (dk_at dksL_law_26 10 rfl rfl)
theorem dL_law_771 : decode cL_law 771 = .ok (.invokevirtual 143, 3) := dk_182 0 143 (dk_at dksL_law_26 11 rfl rfl)
theorem dL_law_774 : decode cL_law 774 = .ok (.iload 6, 2) := dk_21 6 (dk_at dksL_law_26 14 rfl rfl)
theorem dL_law_776 : decode cL_law 776 = .ok (.if_icmp .eq 5, 3) := dk_159 0 5 (dk_at dksL_law_26 16 rfl rfl)
theorem dL_law_779 : decode cL_law 779 = .ok (.iconst 0, 1) := dk_3 (dk_at dksL_law_26 19 rfl rfl)
theorem dL_law_780 : decode cL_law 780 = .ok (.ireturn, 1) := dk_172 (dk_at dksL_law_26 20 rfl rfl)
theorem dL_law_781 : decode cL_law 781 = .ok (.iload 6, 2) := dk_21 6 (dk_at dksL_law_26 21 rfl rfl)
theorem dL_law_783 : decode cL_law 783 = .ok (.ifCond .ne 15, 3) := dk_154 0 15 (dk_at dksL_law_27 0 rfl rfl)
theorem dL_law_786 : decode cL_law 786 = .ok (.aload_n 3, 1) := dk_45 (dk_at dksL_law_27 3 rfl rfl)
theorem dL_law_787 : decode cL_law 787 = .ok (.iconst 0, 1) := dk_3 (dk_at dksL_law_27 4 rfl rfl)
theorem dL_law_788 : decode cL_law 788 = .ok (.laload, 1) := dk_47 (dk_at dksL_law_27 5 rfl rfl)
theorem dL_law_789 : decode cL_law 789 = .ok (.iload 7, 2) := dk_21 7 (dk_at dksL_law_27 6 rfl rfl)
theorem dL_law_791 : decode cL_law 791 = .ok (.i2l, 1) := dk_133 (dk_at dksL_law_27 8 rfl rfl)
theorem dL_law_792 : decode cL_law 792 = .ok (.lcmp, 1) := dk_148 (dk_at dksL_law_27 9 rfl rfl)
theorem dL_law_793 : decode cL_law 793 = .ok (.ifCond .eq 5, 3) := dk_153 0 5 (dk_at dksL_law_27 10 rfl rfl)
theorem dL_law_796 : decode cL_law 796 = .ok (.iconst 0, 1) := dk_3 (dk_at dksL_law_27 13 rfl rfl)
theorem dL_law_797 : decode cL_law 797 = .ok (.ireturn, 1) := dk_172 (dk_at dksL_law_27 14 rfl rfl)
theorem dL_law_798 : decode cL_law 798 = .ok (.goto 1589, 3) := dk_167 6 53 (dk_at dksL_law_27 15 rfl rfl)
theorem dL_law_801 : decode cL_law 801 = .ok (.aload_n 1, 1) := dk_43 (dk_at dksL_law_27 18 rfl rfl)
theorem dL_law_802 : decode cL_law 802 = .ok (.aload_n 0, 1) := dk_42 (dk_at dksL_law_27 19 rfl rfl)
theorem dL_law_803 : decode cL_law 803 = .ok (.iload 5, 2) := dk_21 5 (dk_at dksL_law_27 20 rfl rfl)
theorem dL_law_805 : decode cL_law 805 = .ok (.iconst 1, 1) := dk_4 (dk_at dksL_law_27 22 rfl rfl)
theorem dL_law_806 : decode cL_law 806 = .ok (.iadd, 1) := dk_96 (dk_at dksL_law_27 23 rfl rfl)
theorem dL_law_807 : decode cL_law 807 = .ok (.iaload, 1) := dk_46 (dk_at dksL_law_28 0 rfl rfl)
theorem dL_law_808 : decode cL_law 808 = .ok (.aload_n 0, 1) := dk_42 (dk_at dksL_law_28 1 rfl rfl)
theorem dL_law_809 : decode cL_law 809 = .ok (.iload 5, 2) := dk_21 5 (dk_at dksL_law_28 2 rfl rfl)
theorem dL_law_811 : decode cL_law 811 = .ok (.iconst 2, 1) := dk_5 (dk_at dksL_law_28 4 rfl rfl)
theorem dL_law_812 : decode cL_law 812 = .ok (.iadd, 1) := dk_96 (dk_at dksL_law_28 5 rfl rfl)
theorem dL_law_813 : decode cL_law 813 = .ok (.iaload, 1) := dk_46 (dk_at dksL_law_28 6 rfl rfl)
theorem dL_law_814 : decode cL_law 814 = .ok (.aload_n 3, 1) := dk_45 (dk_at dksL_law_28 7 rfl rfl)
theorem dL_law_815 : decode cL_law 815 = .ok (.invokestatic 166, 3) := dk_184 0 166 (dk_at dksL_law_28 8 rfl rfl)
theorem dL_law_818 : decode cL_law 818 = .ok (.istore 6, 2) := dk_54 6 (dk_at dksL_law_28 11 rfl rfl)
theorem dL_law_820 : decode cL_law 820 = .ok (.aload_n 2, 1) := dk_44 (dk_at dksL_law_28 13 rfl rfl)
theorem dL_law_821 : decode cL_law 821 = .ok (.aload_n 0, 1) := dk_42 (dk_at dksL_law_28 14 rfl rfl)
theorem dL_law_822 : decode cL_law 822 = .ok (.iload 5, 2) := dk_21 5 (dk_at dksL_law_28 15 rfl rfl)
theorem dL_law_824 : decode cL_law 824 = .ok (.iconst 1, 1) := dk_4 (dk_at dksL_law_28 17 rfl rfl)
theorem dL_law_825 : decode cL_law 825 = .ok (.iadd, 1) := dk_96 (dk_at dksL_law_28 18 rfl rfl)
theorem dL_law_826 : decode cL_law 826 = .ok (.iaload, 1) := dk_46 (dk_at dksL_law_28 19 rfl rfl)
theorem dL_law_827 : decode cL_law 827 = .ok (.aload_n 0, 1) := dk_42 (dk_at dksL_law_28 20 rfl rfl)
theorem dL_law_828 : decode cL_law 828 = .ok (.iload 5, 2) := dk_21 5 (dk_at dksL_law_28 21 rfl rfl)
theorem dL_law_830 : decode cL_law 830 = .ok (.iconst 2, 1) := dk_5 (dk_at dksL_law_28 23 rfl rfl)
theorem dL_law_831 : decode cL_law 831 = .ok (.iadd, 1) := dk_96 (dk_at dksL_law_29 0 rfl rfl)
theorem dL_law_832 : decode cL_law 832 = .ok (.iaload, 1) := dk_46 (dk_at dksL_law_29 1 rfl rfl)
theorem dL_law_833 : decode cL_law 833 = .ok (.invokevirtual 168, 3) := dk_182 0 168 (dk_at dksL_law_29 2 rfl rfl)
theorem dL_law_836 : decode cL_law 836 = .ok (.istore 7, 2) := dk_54 7 (dk_at dksL_law_29 5 rfl rfl)
theorem dL_law_838 : decode cL_law 838 = .ok (.aload_n 2, 1) := dk_44 (dk_at dksL_law_29 7 rfl rfl)
theorem dL_law_839 : decode cL_law 839 = .ok (.invokevirtual 143, 3) := dk_182 0 143 (dk_at dksL_law_29 8 rfl rfl)
theorem dL_law_842 : decode cL_law 842 = .ok (.iload 6, 2) := dk_21 6 (dk_at dksL_law_29 11 rfl rfl)
theorem dL_law_844 : decode cL_law 844 = .ok (.if_icmp .eq 5, 3) := dk_159 0 5 (dk_at dksL_law_29 13 rfl rfl)
theorem dL_law_847 : decode cL_law 847 = .ok (.iconst 0, 1) := dk_3 (dk_at dksL_law_29 16 rfl rfl)
theorem dL_law_848 : decode cL_law 848 = .ok (.ireturn, 1) := dk_172 (dk_at dksL_law_29 17 rfl rfl)
theorem dL_law_849 : decode cL_law 849 = .ok (.iload 6, 2) := dk_21 6 (dk_at dksL_law_29 18 rfl rfl)
theorem dL_law_851 : decode cL_law 851 = .ok (.ifCond .ne 15, 3) := dk_154 0 15 (dk_at dksL_law_29 20 rfl rfl)
theorem dL_law_854 : decode cL_law 854 = .ok (.aload_n 3, 1) := dk_45 (dk_at dksL_law_29 23 rfl rfl)
theorem dL_law_855 : decode cL_law 855 = .ok (.iconst 0, 1) := dk_3 (dk_at dksL_law_30 0 rfl rfl)
theorem dL_law_856 : decode cL_law 856 = .ok (.laload, 1) := dk_47 (dk_at dksL_law_30 1 rfl rfl)
theorem dL_law_857 : decode cL_law 857 = .ok (.iload 7, 2) := dk_21 7 (dk_at dksL_law_30 2 rfl rfl)
theorem dL_law_859 : decode cL_law 859 = .ok (.i2l, 1) := dk_133 (dk_at dksL_law_30 4 rfl rfl)
theorem dL_law_860 : decode cL_law 860 = .ok (.lcmp, 1) := dk_148 (dk_at dksL_law_30 5 rfl rfl)
theorem dL_law_861 : decode cL_law 861 = .ok (.ifCond .eq 5, 3) := dk_153 0 5 (dk_at dksL_law_30 6 rfl rfl)
theorem dL_law_864 : decode cL_law 864 = .ok (.iconst 0, 1) := dk_3 (dk_at dksL_law_30 9 rfl rfl)
theorem dL_law_865 : decode cL_law 865 = .ok (.ireturn, 1) := dk_172 (dk_at dksL_law_30 10 rfl rfl)
theorem dL_law_866 : decode cL_law 866 = .ok (.goto 1521, 3) := dk_167 5 241 (dk_at dksL_law_30 11 rfl rfl)
theorem dL_law_869 : decode cL_law 869 = .ok (.aload_n 1, 1) := dk_43 (dk_at dksL_law_30 14 rfl rfl)
theorem dL_law_870 : decode cL_law 870 = .ok (.aload_n 0, 1) := dk_42 (dk_at dksL_law_30 15 rfl rfl)
theorem dL_law_871 : decode cL_law 871 = .ok (.iload 5, 2) := dk_21 5 (dk_at dksL_law_30 16 rfl rfl)
theorem dL_law_873 : decode cL_law 873 = .ok (.iconst 1, 1) := dk_4 (dk_at dksL_law_30 18 rfl rfl)
theorem dL_law_874 : decode cL_law 874 = .ok (.iadd, 1) := dk_96 (dk_at dksL_law_30 19 rfl rfl)
theorem dL_law_875 : decode cL_law 875 = .ok (.iaload, 1) := dk_46 (dk_at dksL_law_30 20 rfl rfl)
theorem dL_law_876 : decode cL_law 876 = .ok (.aload_n 0, 1) := dk_42 (dk_at dksL_law_30 21 rfl rfl)
theorem dL_law_877 : decode cL_law 877 = .ok (.iload 5, 2) := dk_21 5 (dk_at dksL_law_30 22 rfl rfl)
theorem dL_law_879 : decode cL_law 879 = .ok (.iconst 2, 1) := dk_5 (dk_at dksL_law_31 0 rfl rfl)
theorem dL_law_880 : decode cL_law 880 = .ok (.iadd, 1) := dk_96 (dk_at dksL_law_31 1 rfl rfl)
theorem dL_law_881 : decode cL_law 881 = .ok (.iaload, 1) := dk_46 (dk_at dksL_law_31 2 rfl rfl)
theorem dL_law_882 : decode cL_law 882 = .ok (.aload_n 0, 1) := dk_42 (dk_at dksL_law_31 3 rfl rfl)
theorem dL_law_883 : decode cL_law 883 = .ok (.iload 5, 2) := dk_21 5 (dk_at dksL_law_31 4 rfl rfl)
theorem dL_law_885 : decode cL_law 885 = .ok (.iconst 3, 1) := dk_6 (dk_at dksL_law_31 6 rfl rfl)
theorem dL_law_886 : decode cL_law 886 = .ok (.iadd, 1) := dk_96 (dk_at dksL_law_31 7 rfl rfl)
theorem dL_law_887 : decode cL_law 887 = .ok (.iaload, 1) := dk_46 (dk_at dksL_law_31 8 rfl rfl)
theorem dL_law_888 : decode cL_law 888 = .ok (.aload_n 3, 1) := dk_45 (dk_at dksL_law_31 9 rfl rfl)
theorem dL_law_889 : decode cL_law 889 = .ok (.invokestatic 169, 3) := dk_184 0 169 (dk_at dksL_law_31 10 rfl rfl)
theorem dL_law_892 : decode cL_law 892 = .ok (.istore 6, 2) := dk_54 6 (dk_at dksL_law_31 13 rfl rfl)
theorem dL_law_894 : decode cL_law 894 = .ok (.aload_n 2, 1) := dk_44 (dk_at dksL_law_31 15 rfl rfl)
theorem dL_law_895 : decode cL_law 895 = .ok (.aload_n 0, 1) := dk_42 (dk_at dksL_law_31 16 rfl rfl)
theorem dL_law_896 : decode cL_law 896 = .ok (.iload 5, 2) := dk_21 5 (dk_at dksL_law_31 17 rfl rfl)
theorem dL_law_898 : decode cL_law 898 = .ok (.iconst 1, 1) := dk_4 (dk_at dksL_law_31 19 rfl rfl)
theorem dL_law_899 : decode cL_law 899 = .ok (.iadd, 1) := dk_96 (dk_at dksL_law_31 20 rfl rfl)
theorem dL_law_900 : decode cL_law 900 = .ok (.iaload, 1) := dk_46 (dk_at dksL_law_31 21 rfl rfl)
theorem dL_law_901 : decode cL_law 901 = .ok (.aload_n 0, 1) := dk_42 (dk_at dksL_law_31 22 rfl rfl)
theorem dL_law_902 : decode cL_law 902 = .ok (.iload 5, 2) := dk_21 5 (dk_at dksL_law_32 0 rfl rfl)
theorem dL_law_904 : decode cL_law 904 = .ok (.iconst 2, 1) := dk_5 (dk_at dksL_law_32 2 rfl rfl)
theorem dL_law_905 : decode cL_law 905 = .ok (.iadd, 1) := dk_96 (dk_at dksL_law_32 3 rfl rfl)
theorem dL_law_906 : decode cL_law 906 = .ok (.iaload, 1) := dk_46 (dk_at dksL_law_32 4 rfl rfl)
theorem dL_law_907 : decode cL_law 907 = .ok (.aload_n 0, 1) := dk_42 (dk_at dksL_law_32 5 rfl rfl)
theorem dL_law_908 : decode cL_law 908 = .ok (.iload 5, 2) := dk_21 5 (dk_at dksL_law_32 6 rfl rfl)
theorem dL_law_910 : decode cL_law 910 = .ok (.iconst 3, 1) := dk_6 (dk_at dksL_law_32 8 rfl rfl)
theorem dL_law_911 : decode cL_law 911 = .ok (.iadd, 1) := dk_96 (dk_at dksL_law_32 9 rfl rfl)
theorem dL_law_912 : decode cL_law 912 = .ok (.iaload, 1) := dk_46 (dk_at dksL_law_32 10 rfl rfl)
theorem dL_law_913 : decode cL_law 913 = .ok (.invokevirtual 171, 3) := dk_182 0 171 (dk_at dksL_law_32 11 rfl rfl)
theorem dL_law_916 : decode cL_law 916 = .ok (.istore 7, 2) := dk_54 7 (dk_at dksL_law_32 14 rfl rfl)
theorem dL_law_918 : decode cL_law 918 = .ok (.aload_n 2, 1) := dk_44 (dk_at dksL_law_32 16 rfl rfl)
theorem dL_law_919 : decode cL_law 919 = .ok (.invokevirtual 143, 3) := dk_182 0 143 (dk_at dksL_law_32 17 rfl rfl)
theorem dL_law_922 : decode cL_law 922 = .ok (.iload 6, 2) := dk_21 6 (dk_at dksL_law_32 20 rfl rfl)
theorem dL_law_924 : decode cL_law 924 = .ok (.if_icmp .eq 5, 3) := dk_159 0 5 (dk_at dksL_law_33 0 rfl rfl)
theorem dL_law_927 : decode cL_law 927 = .ok (.iconst 0, 1) := dk_3 (dk_at dksL_law_33 3 rfl rfl)
theorem dL_law_928 : decode cL_law 928 = .ok (.ireturn, 1) := dk_172 (dk_at dksL_law_33 4 rfl rfl)
theorem dL_law_929 : decode cL_law 929 = .ok (.iload 6, 2) := dk_21 6 (dk_at dksL_law_33 5 rfl rfl)
theorem dL_law_931 : decode cL_law 931 = .ok (.ifCond .ne 15, 3) := dk_154 0 15 (dk_at dksL_law_33 7 rfl rfl)
theorem dL_law_934 : decode cL_law 934 = .ok (.aload_n 3, 1) := dk_45 (dk_at dksL_law_33 10 rfl rfl)
theorem dL_law_935 : decode cL_law 935 = .ok (.iconst 0, 1) := dk_3 (dk_at dksL_law_33 11 rfl rfl)
theorem dL_law_936 : decode cL_law 936 = .ok (.laload, 1) := dk_47 (dk_at dksL_law_33 12 rfl rfl)
theorem dL_law_937 : decode cL_law 937 = .ok (.iload 7, 2) := dk_21 7 (dk_at dksL_law_33 13 rfl rfl)
theorem dL_law_939 : decode cL_law 939 = .ok (.i2l, 1) := dk_133 (dk_at dksL_law_33 15 rfl rfl)
theorem dL_law_940 : decode cL_law 940 = .ok (.lcmp, 1) := dk_148 (dk_at dksL_law_33 16 rfl rfl)
theorem dL_law_941 : decode cL_law 941 = .ok (.ifCond .eq 5, 3) := dk_153 0 5 (dk_at dksL_law_33 17 rfl rfl)
theorem dL_law_944 : decode cL_law 944 = .ok (.iconst 0, 1) := dk_3 (dk_at dksL_law_33 20 rfl rfl)
theorem dL_law_945 : decode cL_law 945 = .ok (.ireturn, 1) := dk_172 (dk_at dksL_law_33 21 rfl rfl)
theorem dL_law_946 : decode cL_law 946 = .ok (.goto 1441, 3) := dk_167 5 161 (dk_at dksL_law_34 0 rfl rfl)
theorem dL_law_949 : decode cL_law 949 = .ok (.aload_n 1, 1) := dk_43 (dk_at dksL_law_34 3 rfl rfl)
theorem dL_law_950 : decode cL_law 950 = .ok (.aload_n 0, 1) := dk_42 (dk_at dksL_law_34 4 rfl rfl)
theorem dL_law_951 : decode cL_law 951 = .ok (.iload 5, 2) := dk_21 5 (dk_at dksL_law_34 5 rfl rfl)
theorem dL_law_953 : decode cL_law 953 = .ok (.iconst 1, 1) := dk_4 (dk_at dksL_law_34 7 rfl rfl)
theorem dL_law_954 : decode cL_law 954 = .ok (.iadd, 1) := dk_96 (dk_at dksL_law_34 8 rfl rfl)
theorem dL_law_955 : decode cL_law 955 = .ok (.iaload, 1) := dk_46 (dk_at dksL_law_34 9 rfl rfl)
theorem dL_law_956 : decode cL_law 956 = .ok (.aload_n 3, 1) := dk_45 (dk_at dksL_law_34 10 rfl rfl)
theorem dL_law_957 : decode cL_law 957 = .ok (.invokestatic 172, 3) := dk_184 0 172 (dk_at dksL_law_34 11 rfl rfl)
theorem dL_law_960 : decode cL_law 960 = .ok (.istore 6, 2) := dk_54 6 (dk_at dksL_law_34 14 rfl rfl)
theorem dL_law_962 : decode cL_law 962 = .ok (.aload_n 2, 1) := dk_44 (dk_at dksL_law_34 16 rfl rfl)
theorem dL_law_963 : decode cL_law 963 = .ok (.aload_n 0, 1) := dk_42 (dk_at dksL_law_34 17 rfl rfl)
theorem dL_law_964 : decode cL_law 964 = .ok (.iload 5, 2) := dk_21 5 (dk_at dksL_law_34 18 rfl rfl)
theorem dL_law_966 : decode cL_law 966 = .ok (.iconst 1, 1) := dk_4 (dk_at dksL_law_34 20 rfl rfl)
theorem dL_law_967 : decode cL_law 967 = .ok (.iadd, 1) := dk_96 (dk_at dksL_law_34 21 rfl rfl)
theorem dL_law_968 : decode cL_law 968 = .ok (.iaload, 1) := dk_46 (dk_at dksL_law_34 22 rfl rfl)
theorem dL_law_969 : decode cL_law 969 = .ok (.invokevirtual 174, 3) := dk_182 0 174 (dk_at dksL_law_35 0 rfl rfl)
theorem dL_law_972 : decode cL_law 972 = .ok (.istore 7, 2) := dk_54 7 (dk_at dksL_law_35 3 rfl rfl)
theorem dL_law_974 : decode cL_law 974 = .ok (.aload_n 2, 1) := dk_44 (dk_at dksL_law_35 5 rfl rfl)
theorem dL_law_975 : decode cL_law 975 = .ok (.invokevirtual 143, 3) := dk_182 0 143 (dk_at dksL_law_35 6 rfl rfl)
theorem dL_law_978 : decode cL_law 978 = .ok (.iload 6, 2) := dk_21 6 (dk_at dksL_law_35 9 rfl rfl)
theorem dL_law_980 : decode cL_law 980 = .ok (.if_icmp .eq 5, 3) := dk_159 0 5 (dk_at dksL_law_35 11 rfl rfl)
theorem dL_law_983 : decode cL_law 983 = .ok (.iconst 0, 1) := dk_3 (dk_at dksL_law_35 14 rfl rfl)
theorem dL_law_984 : decode cL_law 984 = .ok (.ireturn, 1) := dk_172 (dk_at dksL_law_35 15 rfl rfl)
theorem dL_law_985 : decode cL_law 985 = .ok (.iload 6, 2) := dk_21 6 (dk_at dksL_law_35 16 rfl rfl)
theorem dL_law_987 : decode cL_law 987 = .ok (.ifCond .ne 15, 3) := dk_154 0 15 (dk_at dksL_law_35 18 rfl rfl)
theorem dL_law_990 : decode cL_law 990 = .ok (.aload_n 3, 1) := dk_45 (dk_at dksL_law_35 21 rfl rfl)
theorem dL_law_991 : decode cL_law 991 = .ok (.iconst 0, 1) := dk_3 (dk_at dksL_law_35 22 rfl rfl)
theorem dL_law_992 : decode cL_law 992 = .ok (.laload, 1) := dk_47 (dk_at dksL_law_35 23 rfl rfl)
theorem dL_law_993 : decode cL_law 993 = .ok (.iload 7, 2) := dk_21 7 (dk_at dksL_law_36 0 rfl rfl)
theorem dL_law_995 : decode cL_law 995 = .ok (.i2l, 1) := dk_133 (dk_at dksL_law_36 2 rfl rfl)
theorem dL_law_996 : decode cL_law 996 = .ok (.lcmp, 1) := dk_148 (dk_at dksL_law_36 3 rfl rfl)
theorem dL_law_997 : decode cL_law 997 = .ok (.ifCond .eq 5, 3) := dk_153 0 5 (dk_at dksL_law_36 4 rfl rfl)
theorem dL_law_1000 : decode cL_law 1000 = .ok (.iconst 0, 1) := dk_3 (dk_at dksL_law_36 7 rfl rfl)
theorem dL_law_1001 : decode cL_law 1001 = .ok (.ireturn, 1) := dk_172 (dk_at dksL_law_36 8 rfl rfl)
theorem dL_law_1002 : decode cL_law 1002 = .ok (.goto 1385, 3) := dk_167 5 105 (dk_at dksL_law_36 9 rfl rfl)
theorem dL_law_1005 : decode cL_law 1005 = .ok (.aload_n 1, 1) := dk_43 (dk_at dksL_law_36 12 rfl rfl)
theorem dL_law_1006 : decode cL_law 1006 = .ok (.aload_n 0, 1) := dk_42 (dk_at dksL_law_36 13 rfl rfl)
theorem dL_law_1007 : decode cL_law 1007 = .ok (.iload 5, 2) := dk_21 5 (dk_at dksL_law_36 14 rfl rfl)
theorem dL_law_1009 : decode cL_law 1009 = .ok (.iconst 1, 1) := dk_4 (dk_at dksL_law_36 16 rfl rfl)
theorem dL_law_1010 : decode cL_law 1010 = .ok (.iadd, 1) := dk_96 (dk_at dksL_law_36 17 rfl rfl)
theorem dL_law_1011 : decode cL_law 1011 = .ok (.iaload, 1) := dk_46 (dk_at dksL_law_36 18 rfl rfl)
theorem dL_law_1012 : decode cL_law 1012 = .ok (.aload_n 0, 1) := dk_42 (dk_at dksL_law_36 19 rfl rfl)
theorem dL_law_1013 : decode cL_law 1013 = .ok (.iload 5, 2) := dk_21 5 (dk_at dksL_law_36 20 rfl rfl)
theorem dL_law_1015 : decode cL_law 1015 = .ok (.iconst 2, 1) := dk_5 (dk_at dksL_law_36 22 rfl rfl)
theorem dL_law_1016 : decode cL_law 1016 = .ok (.iadd, 1) := dk_96 (dk_at dksL_law_36 23 rfl rfl)
theorem dL_law_1017 : decode cL_law 1017 = .ok (.iaload, 1) := dk_46 (dk_at dksL_law_37 0 rfl rfl)
theorem dL_law_1018 : decode cL_law 1018 = .ok (.aload_n 0, 1) := dk_42 (dk_at dksL_law_37 1 rfl rfl)
theorem dL_law_1019 : decode cL_law 1019 = .ok (.iload 5, 2) := dk_21 5 (dk_at dksL_law_37 2 rfl rfl)
theorem dL_law_1021 : decode cL_law 1021 = .ok (.iconst 3, 1) := dk_6 (dk_at dksL_law_37 4 rfl rfl)
theorem dL_law_1022 : decode cL_law 1022 = .ok (.iadd, 1) := dk_96 (dk_at dksL_law_37 5 rfl rfl)
theorem dL_law_1023 : decode cL_law 1023 = .ok (.iaload, 1) := dk_46 (dk_at dksL_law_37 6 rfl rfl)
theorem dL_law_1024 : decode cL_law 1024 = .ok (.aload_n 3, 1) := dk_45 (dk_at dksL_law_37 7 rfl rfl)
theorem dL_law_1025 : decode cL_law 1025 = .ok (.invokestatic 175, 3) := dk_184 0 175 (dk_at dksL_law_37 8 rfl rfl)
theorem dL_law_1028 : decode cL_law 1028 = .ok (.istore 6, 2) := dk_54 6 (dk_at dksL_law_37 11 rfl rfl)
theorem dL_law_1030 : decode cL_law 1030 = .ok (.aload_n 2, 1) := dk_44 (dk_at dksL_law_37 13 rfl rfl)
theorem dL_law_1031 : decode cL_law 1031 = .ok (.aload_n 0, 1) := dk_42 (dk_at dksL_law_37 14 rfl rfl)
theorem dL_law_1032 : decode cL_law 1032 = .ok (.iload 5, 2) := dk_21 5 (dk_at dksL_law_37 15 rfl rfl)
theorem dL_law_1034 : decode cL_law 1034 = .ok (.iconst 1, 1) := dk_4 (dk_at dksL_law_37 17 rfl rfl)
theorem dL_law_1035 : decode cL_law 1035 = .ok (.iadd, 1) := dk_96 (dk_at dksL_law_37 18 rfl rfl)
theorem dL_law_1036 : decode cL_law 1036 = .ok (.iaload, 1) := dk_46 (dk_at dksL_law_37 19 rfl rfl)
theorem dL_law_1037 : decode cL_law 1037 = .ok (.aload_n 0, 1) := dk_42 (dk_at dksL_law_37 20 rfl rfl)
theorem dL_law_1038 : decode cL_law 1038 = .ok (.iload 5, 2) := dk_21 5 (dk_at dksL_law_37 21 rfl rfl)
theorem dL_law_1040 : decode cL_law 1040 = .ok (.iconst 2, 1) := dk_5 (dk_at dksL_law_37 23 rfl rfl)
theorem dL_law_1041 : decode cL_law 1041 = .ok (.iadd, 1) := dk_96 (dk_at dksL_law_38 0 rfl rfl)
theorem dL_law_1042 : decode cL_law 1042 = .ok (.iaload, 1) := dk_46 (dk_at dksL_law_38 1 rfl rfl)
theorem dL_law_1043 : decode cL_law 1043 = .ok (.aload_n 0, 1) := dk_42 (dk_at dksL_law_38 2 rfl rfl)
theorem dL_law_1044 : decode cL_law 1044 = .ok (.iload 5, 2) := dk_21 5 (dk_at dksL_law_38 3 rfl rfl)
theorem dL_law_1046 : decode cL_law 1046 = .ok (.iconst 3, 1) := dk_6 (dk_at dksL_law_38 5 rfl rfl)
theorem dL_law_1047 : decode cL_law 1047 = .ok (.iadd, 1) := dk_96 (dk_at dksL_law_38 6 rfl rfl)
theorem dL_law_1048 : decode cL_law 1048 = .ok (.iaload, 1) := dk_46 (dk_at dksL_law_38 7 rfl rfl)
theorem dL_law_1049 : decode cL_law 1049 = .ok (.invokevirtual 177, 3) := dk_182 0 177 (dk_at dksL_law_38 8 rfl rfl)
theorem dL_law_1052 : decode cL_law 1052 = .ok (.istore 7, 2) := dk_54 7 (dk_at dksL_law_38 11 rfl rfl)
theorem dL_law_1054 : decode cL_law 1054 = .ok (.aload_n 2, 1) := dk_44 (dk_at dksL_law_38 13 rfl rfl)
theorem dL_law_1055 : decode cL_law 1055 = .ok (.invokevirtual 143, 3) := dk_182 0 143 (dk_at dksL_law_38 14 rfl rfl)
theorem dL_law_1058 : decode cL_law 1058 = .ok (.iload 6, 2) := dk_21 6 (dk_at dksL_law_38 17 rfl rfl)
theorem dL_law_1060 : decode cL_law 1060 = .ok (.if_icmp .eq 5, 3) := dk_159 0 5 (dk_at dksL_law_38 19 rfl rfl)
theorem dL_law_1063 : decode cL_law 1063 = .ok (.iconst 0, 1) := dk_3 (dk_at dksL_law_38 22 rfl rfl)
theorem dL_law_1064 : decode cL_law 1064 = .ok (.ireturn, 1) := dk_172 (dk_at dksL_law_38 23 rfl rfl)
theorem dL_law_1065 : decode cL_law 1065 = .ok (.iload 6, 2) := dk_21 6 (dk_at dksL_law_39 0 rfl rfl)
theorem dL_law_1067 : decode cL_law 1067 = .ok (.ifCond .ne 15, 3) := dk_154 0 15 (dk_at dksL_law_39 2 rfl rfl)
theorem dL_law_1070 : decode cL_law 1070 = .ok (.aload_n 3, 1) := dk_45 (dk_at dksL_law_39 5 rfl rfl)
theorem dL_law_1071 : decode cL_law 1071 = .ok (.iconst 0, 1) := dk_3 (dk_at dksL_law_39 6 rfl rfl)
theorem dL_law_1072 : decode cL_law 1072 = .ok (.laload, 1) := dk_47 (dk_at dksL_law_39 7 rfl rfl)
theorem dL_law_1073 : decode cL_law 1073 = .ok (.iload 7, 2) := dk_21 7 (dk_at dksL_law_39 8 rfl rfl)
theorem dL_law_1075 : decode cL_law 1075 = .ok (.i2l, 1) := dk_133 (dk_at dksL_law_39 10 rfl rfl)
theorem dL_law_1076 : decode cL_law 1076 = .ok (.lcmp, 1) := dk_148 (dk_at dksL_law_39 11 rfl rfl)
theorem dL_law_1077 : decode cL_law 1077 = .ok (.ifCond .eq 5, 3) := dk_153 0 5 (dk_at dksL_law_39 12 rfl rfl)
theorem dL_law_1080 : decode cL_law 1080 = .ok (.iconst 0, 1) := dk_3 (dk_at dksL_law_39 15 rfl rfl)
theorem dL_law_1081 : decode cL_law 1081 = .ok (.ireturn, 1) := dk_172 (dk_at dksL_law_39 16 rfl rfl)
theorem dL_law_1082 : decode cL_law 1082 = .ok (.goto 1305, 3) := dk_167 5 25 (dk_at dksL_law_39 17 rfl rfl)
theorem dL_law_1085 : decode cL_law 1085 = .ok (.aload_n 1, 1) := dk_43 (dk_at dksL_law_39 20 rfl rfl)
theorem dL_law_1086 : decode cL_law 1086 = .ok (.aload_n 0, 1) := dk_42 (dk_at dksL_law_39 21 rfl rfl)
theorem dL_law_1087 : decode cL_law 1087 = .ok (.iload 5, 2) := dk_21 5 (dk_at dksL_law_39 22 rfl rfl)
theorem dL_law_1089 : decode cL_law 1089 = .ok (.iconst 1, 1) := dk_4 (dk_at dksL_law_40 0 rfl rfl)
theorem dL_law_1090 : decode cL_law 1090 = .ok (.iadd, 1) := dk_96 (dk_at dksL_law_40 1 rfl rfl)
theorem dL_law_1091 : decode cL_law 1091 = .ok (.iaload, 1) := dk_46 (dk_at dksL_law_40 2 rfl rfl)
theorem dL_law_1092 : decode cL_law 1092 = .ok (.aload_n 0, 1) := dk_42 (dk_at dksL_law_40 3 rfl rfl)
theorem dL_law_1093 : decode cL_law 1093 = .ok (.iload 5, 2) := dk_21 5 (dk_at dksL_law_40 4 rfl rfl)
theorem dL_law_1095 : decode cL_law 1095 = .ok (.iconst 2, 1) := dk_5 (dk_at dksL_law_40 6 rfl rfl)
theorem dL_law_1096 : decode cL_law 1096 = .ok (.iadd, 1) := dk_96 (dk_at dksL_law_40 7 rfl rfl)
theorem dL_law_1097 : decode cL_law 1097 = .ok (.iaload, 1) := dk_46 (dk_at dksL_law_40 8 rfl rfl)
theorem dL_law_1098 : decode cL_law 1098 = .ok (.aload_n 3, 1) := dk_45 (dk_at dksL_law_40 9 rfl rfl)
theorem dL_law_1099 : decode cL_law 1099 = .ok (.invokestatic 178, 3) := dk_184 0 178 (dk_at dksL_law_40 10 rfl rfl)
theorem dL_law_1102 : decode cL_law 1102 = .ok (.istore 6, 2) := dk_54 6 (dk_at dksL_law_40 13 rfl rfl)
theorem dL_law_1104 : decode cL_law 1104 = .ok (.aload_n 2, 1) := dk_44 (dk_at dksL_law_40 15 rfl rfl)
theorem dL_law_1105 : decode cL_law 1105 = .ok (.aload_n 0, 1) := dk_42 (dk_at dksL_law_40 16 rfl rfl)
theorem dL_law_1106 : decode cL_law 1106 = .ok (.iload 5, 2) := dk_21 5 (dk_at dksL_law_40 17 rfl rfl)
theorem dL_law_1108 : decode cL_law 1108 = .ok (.iconst 1, 1) := dk_4 (dk_at dksL_law_40 19 rfl rfl)
theorem dL_law_1109 : decode cL_law 1109 = .ok (.iadd, 1) := dk_96 (dk_at dksL_law_40 20 rfl rfl)
theorem dL_law_1110 : decode cL_law 1110 = .ok (.iaload, 1) := dk_46 (dk_at dksL_law_40 21 rfl rfl)
theorem dL_law_1111 : decode cL_law 1111 = .ok (.aload_n 0, 1) := dk_42 (dk_at dksL_law_40 22 rfl rfl)
theorem dL_law_1112 : decode cL_law 1112 = .ok (.iload 5, 2) := dk_21 5 (dk_at dksL_law_41 0 rfl rfl)
theorem dL_law_1114 : decode cL_law 1114 = .ok (.iconst 2, 1) := dk_5 (dk_at dksL_law_41 2 rfl rfl)
theorem dL_law_1115 : decode cL_law 1115 = .ok (.iadd, 1) := dk_96 (dk_at dksL_law_41 3 rfl rfl)
theorem dL_law_1116 : decode cL_law 1116 = .ok (.iaload, 1) := dk_46 (dk_at dksL_law_41 4 rfl rfl)
theorem dL_law_1117 : decode cL_law 1117 = .ok (.invokevirtual 180, 3) := dk_182 0 180 (dk_at dksL_law_41 5 rfl rfl)
theorem dL_law_1120 : decode cL_law 1120 = .ok (.istore 7, 2) := dk_54 7 (dk_at dksL_law_41 8 rfl rfl)
theorem dL_law_1122 : decode cL_law 1122 = .ok (.aload_n 2, 1) := dk_44 (dk_at dksL_law_41 10 rfl rfl)
theorem dL_law_1123 : decode cL_law 1123 = .ok (.invokevirtual 143, 3) := dk_182 0 143 (dk_at dksL_law_41 11 rfl rfl)
theorem dL_law_1126 : decode cL_law 1126 = .ok (.iload 6, 2) := dk_21 6 (dk_at dksL_law_41 14 rfl rfl)
theorem dL_law_1128 : decode cL_law 1128 = .ok (.if_icmp .eq 5, 3) := dk_159 0 5 (dk_at dksL_law_41 16 rfl rfl)
theorem dL_law_1131 : decode cL_law 1131 = .ok (.iconst 0, 1) := dk_3 (dk_at dksL_law_41 19 rfl rfl)
theorem dL_law_1132 : decode cL_law 1132 = .ok (.ireturn, 1) := dk_172 (dk_at dksL_law_41 20 rfl rfl)
theorem dL_law_1133 : decode cL_law 1133 = .ok (.iload 6, 2) := dk_21 6 (dk_at dksL_law_41 21 rfl rfl)
theorem dL_law_1135 : decode cL_law 1135 = .ok (.ifCond .ne 15, 3) := dk_154 0 15 (dk_at dksL_law_42 0 rfl rfl)
theorem dL_law_1138 : decode cL_law 1138 = .ok (.aload_n 3, 1) := dk_45 (dk_at dksL_law_42 3 rfl rfl)
theorem dL_law_1139 : decode cL_law 1139 = .ok (.iconst 0, 1) := dk_3 (dk_at dksL_law_42 4 rfl rfl)
theorem dL_law_1140 : decode cL_law 1140 = .ok (.laload, 1) := dk_47 (dk_at dksL_law_42 5 rfl rfl)
theorem dL_law_1141 : decode cL_law 1141 = .ok (.iload 7, 2) := dk_21 7 (dk_at dksL_law_42 6 rfl rfl)
theorem dL_law_1143 : decode cL_law 1143 = .ok (.i2l, 1) := dk_133 (dk_at dksL_law_42 8 rfl rfl)
theorem dL_law_1144 : decode cL_law 1144 = .ok (.lcmp, 1) := dk_148 (dk_at dksL_law_42 9 rfl rfl)
theorem dL_law_1145 : decode cL_law 1145 = .ok (.ifCond .eq 5, 3) := dk_153 0 5 (dk_at dksL_law_42 10 rfl rfl)
theorem dL_law_1148 : decode cL_law 1148 = .ok (.iconst 0, 1) := dk_3 (dk_at dksL_law_42 13 rfl rfl)
theorem dL_law_1149 : decode cL_law 1149 = .ok (.ireturn, 1) := dk_172 (dk_at dksL_law_42 14 rfl rfl)
theorem dL_law_1150 : decode cL_law 1150 = .ok (.goto 1237, 3) := dk_167 4 213 (dk_at dksL_law_42 15 rfl rfl)
theorem dL_law_1153 : decode cL_law 1153 = .ok (.aload_n 1, 1) := dk_43 (dk_at dksL_law_42 18 rfl rfl)
theorem dL_law_1154 : decode cL_law 1154 = .ok (.aload_n 0, 1) := dk_42 (dk_at dksL_law_42 19 rfl rfl)
theorem dL_law_1155 : decode cL_law 1155 = .ok (.iload 5, 2) := dk_21 5 (dk_at dksL_law_42 20 rfl rfl)
theorem dL_law_1157 : decode cL_law 1157 = .ok (.iconst 1, 1) := dk_4 (dk_at dksL_law_42 22 rfl rfl)
theorem dL_law_1158 : decode cL_law 1158 = .ok (.iadd, 1) := dk_96 (dk_at dksL_law_42 23 rfl rfl)
theorem dL_law_1159 : decode cL_law 1159 = .ok (.iaload, 1) := dk_46 (dk_at dksL_law_43 0 rfl rfl)
theorem dL_law_1160 : decode cL_law 1160 = .ok (.aload_n 0, 1) := dk_42 (dk_at dksL_law_43 1 rfl rfl)
theorem dL_law_1161 : decode cL_law 1161 = .ok (.iload 5, 2) := dk_21 5 (dk_at dksL_law_43 2 rfl rfl)
theorem dL_law_1163 : decode cL_law 1163 = .ok (.iconst 2, 1) := dk_5 (dk_at dksL_law_43 4 rfl rfl)
theorem dL_law_1164 : decode cL_law 1164 = .ok (.iadd, 1) := dk_96 (dk_at dksL_law_43 5 rfl rfl)
theorem dL_law_1165 : decode cL_law 1165 = .ok (.iaload, 1) := dk_46 (dk_at dksL_law_43 6 rfl rfl)
theorem dL_law_1166 : decode cL_law 1166 = .ok (.aload_n 3, 1) := dk_45 (dk_at dksL_law_43 7 rfl rfl)
theorem dL_law_1167 : decode cL_law 1167 = .ok (.invokestatic 181, 3) := dk_184 0 181 (dk_at dksL_law_43 8 rfl rfl)
theorem dL_law_1170 : decode cL_law 1170 = .ok (.istore 6, 2) := dk_54 6 (dk_at dksL_law_43 11 rfl rfl)
theorem dL_law_1172 : decode cL_law 1172 = .ok (.aload_n 2, 1) := dk_44 (dk_at dksL_law_43 13 rfl rfl)
theorem dL_law_1173 : decode cL_law 1173 = .ok (.aload_n 0, 1) := dk_42 (dk_at dksL_law_43 14 rfl rfl)
theorem dL_law_1174 : decode cL_law 1174 = .ok (.iload 5, 2) := dk_21 5 (dk_at dksL_law_43 15 rfl rfl)
theorem dL_law_1176 : decode cL_law 1176 = .ok (.iconst 1, 1) := dk_4 (dk_at dksL_law_43 17 rfl rfl)
theorem dL_law_1177 : decode cL_law 1177 = .ok (.iadd, 1) := dk_96 (dk_at dksL_law_43 18 rfl rfl)
theorem dL_law_1178 : decode cL_law 1178 = .ok (.iaload, 1) := dk_46 (dk_at dksL_law_43 19 rfl rfl)
theorem dL_law_1179 : decode cL_law 1179 = .ok (.aload_n 0, 1) := dk_42 (dk_at dksL_law_43 20 rfl rfl)
theorem dL_law_1180 : decode cL_law 1180 = .ok (.iload 5, 2) := dk_21 5 (dk_at dksL_law_43 21 rfl rfl)
theorem dL_law_1182 : decode cL_law 1182 = .ok (.iconst 2, 1) := dk_5 (dk_at dksL_law_43 23 rfl rfl)
theorem dL_law_1183 : decode cL_law 1183 = .ok (.iadd, 1) := dk_96 (dk_at dksL_law_44 0 rfl rfl)
theorem dL_law_1184 : decode cL_law 1184 = .ok (.iaload, 1) := dk_46 (dk_at dksL_law_44 1 rfl rfl)
theorem dL_law_1185 : decode cL_law 1185 = .ok (.invokevirtual 183, 3) := dk_182 0 183 (dk_at dksL_law_44 2 rfl rfl)
theorem dL_law_1188 : decode cL_law 1188 = .ok (.istore 7, 2) := dk_54 7 (dk_at dksL_law_44 5 rfl rfl)
theorem dL_law_1190 : decode cL_law 1190 = .ok (.aload_n 2, 1) := dk_44 (dk_at dksL_law_44 7 rfl rfl)
theorem dL_law_1191 : decode cL_law 1191 = .ok (.invokevirtual 143, 3) := dk_182 0 143 (dk_at dksL_law_44 8 rfl rfl)
theorem dL_law_1194 : decode cL_law 1194 = .ok (.iload 6, 2) := dk_21 6 (dk_at dksL_law_44 11 rfl rfl)
theorem dL_law_1196 : decode cL_law 1196 = .ok (.if_icmp .eq 5, 3) := dk_159 0 5 (dk_at dksL_law_44 13 rfl rfl)
theorem dL_law_1199 : decode cL_law 1199 = .ok (.iconst 0, 1) := dk_3 (dk_at dksL_law_44 16 rfl rfl)
theorem dL_law_1200 : decode cL_law 1200 = .ok (.ireturn, 1) := dk_172 (dk_at dksL_law_44 17 rfl rfl)
theorem dL_law_1201 : decode cL_law 1201 = .ok (.iload 6, 2) := dk_21 6 (dk_at dksL_law_44 18 rfl rfl)
theorem dL_law_1203 : decode cL_law 1203 = .ok (.ifCond .ne 15, 3) := dk_154 0 15 (dk_at dksL_law_44 20 rfl rfl)
theorem dL_law_1206 : decode cL_law 1206 = .ok (.aload_n 3, 1) := dk_45 (dk_at dksL_law_44 23 rfl rfl)
theorem dL_law_1207 : decode cL_law 1207 = .ok (.iconst 0, 1) := dk_3 (dk_at dksL_law_45 0 rfl rfl)
theorem dL_law_1208 : decode cL_law 1208 = .ok (.laload, 1) := dk_47 (dk_at dksL_law_45 1 rfl rfl)
theorem dL_law_1209 : decode cL_law 1209 = .ok (.iload 7, 2) := dk_21 7 (dk_at dksL_law_45 2 rfl rfl)
theorem dL_law_1211 : decode cL_law 1211 = .ok (.i2l, 1) := dk_133 (dk_at dksL_law_45 4 rfl rfl)
theorem dL_law_1212 : decode cL_law 1212 = .ok (.lcmp, 1) := dk_148 (dk_at dksL_law_45 5 rfl rfl)
theorem dL_law_1213 : decode cL_law 1213 = .ok (.ifCond .eq 5, 3) := dk_153 0 5 (dk_at dksL_law_45 6 rfl rfl)
theorem dL_law_1216 : decode cL_law 1216 = .ok (.iconst 0, 1) := dk_3 (dk_at dksL_law_45 9 rfl rfl)
theorem dL_law_1217 : decode cL_law 1217 = .ok (.ireturn, 1) := dk_172 (dk_at dksL_law_45 10 rfl rfl)
theorem dL_law_1218 : decode cL_law 1218 = .ok (.goto 1169, 3) := dk_167 4 145 (dk_at dksL_law_45 11 rfl rfl)
theorem dL_law_1221 : decode cL_law 1221 = .ok (.aload_n 1, 1) := dk_43 (dk_at dksL_law_45 14 rfl rfl)
theorem dL_law_1222 : decode cL_law 1222 = .ok (.aload_n 0, 1) := dk_42 (dk_at dksL_law_45 15 rfl rfl)
theorem dL_law_1223 : decode cL_law 1223 = .ok (.iload 5, 2) := dk_21 5 (dk_at dksL_law_45 16 rfl rfl)
theorem dL_law_1225 : decode cL_law 1225 = .ok (.iconst 1, 1) := dk_4 (dk_at dksL_law_45 18 rfl rfl)
theorem dL_law_1226 : decode cL_law 1226 = .ok (.iadd, 1) := dk_96 (dk_at dksL_law_45 19 rfl rfl)
theorem dL_law_1227 : decode cL_law 1227 = .ok (.iaload, 1) := dk_46 (dk_at dksL_law_45 20 rfl rfl)
theorem dL_law_1228 : decode cL_law 1228 = .ok (.aload_n 0, 1) := dk_42 (dk_at dksL_law_45 21 rfl rfl)
theorem dL_law_1229 : decode cL_law 1229 = .ok (.iload 5, 2) := dk_21 5 (dk_at dksL_law_45 22 rfl rfl)
theorem dL_law_1231 : decode cL_law 1231 = .ok (.iconst 2, 1) := dk_5 (dk_at dksL_law_46 0 rfl rfl)
theorem dL_law_1232 : decode cL_law 1232 = .ok (.iadd, 1) := dk_96 (dk_at dksL_law_46 1 rfl rfl)
theorem dL_law_1233 : decode cL_law 1233 = .ok (.iaload, 1) := dk_46 (dk_at dksL_law_46 2 rfl rfl)
theorem dL_law_1234 : decode cL_law 1234 = .ok (.aload_n 0, 1) := dk_42 (dk_at dksL_law_46 3 rfl rfl)
theorem dL_law_1235 : decode cL_law 1235 = .ok (.iload 5, 2) := dk_21 5 (dk_at dksL_law_46 4 rfl rfl)
theorem dL_law_1237 : decode cL_law 1237 = .ok (.iconst 3, 1) := dk_6 (dk_at dksL_law_46 6 rfl rfl)
theorem dL_law_1238 : decode cL_law 1238 = .ok (.iadd, 1) := dk_96 (dk_at dksL_law_46 7 rfl rfl)
theorem dL_law_1239 : decode cL_law 1239 = .ok (.iaload, 1) := dk_46 (dk_at dksL_law_46 8 rfl rfl)
theorem dL_law_1240 : decode cL_law 1240 = .ok (.ifCond .eq 7, 3) := dk_153 0 7 (dk_at dksL_law_46 9 rfl rfl)
theorem dL_law_1243 : decode cL_law 1243 = .ok (.iconst 1, 1) := dk_4 (dk_at dksL_law_46 12 rfl rfl)
theorem dL_law_1244 : decode cL_law 1244 = .ok (.goto 4, 3) := dk_167 0 4 (dk_at dksL_law_46 13 rfl rfl)
theorem dL_law_1247 : decode cL_law 1247 = .ok (.iconst 0, 1) := dk_3 (dk_at dksL_law_46 16 rfl rfl)
theorem dL_law_1248 : decode cL_law 1248 = .ok (.aload_n 3, 1) := dk_45 (dk_at dksL_law_46 17 rfl rfl)
theorem dL_law_1249 : decode cL_law 1249 = .ok (.invokestatic 184, 3) := dk_184 0 184 (dk_at dksL_law_46 18 rfl rfl)
theorem dL_law_1252 : decode cL_law 1252 = .ok (.istore 6, 2) := dk_54 6 (dk_at dksL_law_46 21 rfl rfl)
theorem dL_law_1254 : decode cL_law 1254 = .ok (.aload_n 2, 1) := dk_44 (dk_at dksL_law_46 23 rfl rfl)
theorem dL_law_1255 : decode cL_law 1255 = .ok (.aload_n 0, 1) := dk_42 (dk_at dksL_law_47 0 rfl rfl)
theorem dL_law_1256 : decode cL_law 1256 = .ok (.iload 5, 2) := dk_21 5 (dk_at dksL_law_47 1 rfl rfl)
theorem dL_law_1258 : decode cL_law 1258 = .ok (.iconst 1, 1) := dk_4 (dk_at dksL_law_47 3 rfl rfl)
theorem dL_law_1259 : decode cL_law 1259 = .ok (.iadd, 1) := dk_96 (dk_at dksL_law_47 4 rfl rfl)
theorem dL_law_1260 : decode cL_law 1260 = .ok (.iaload, 1) := dk_46 (dk_at dksL_law_47 5 rfl rfl)
theorem dL_law_1261 : decode cL_law 1261 = .ok (.aload_n 0, 1) := dk_42 (dk_at dksL_law_47 6 rfl rfl)
theorem dL_law_1262 : decode cL_law 1262 = .ok (.iload 5, 2) := dk_21 5 (dk_at dksL_law_47 7 rfl rfl)
theorem dL_law_1264 : decode cL_law 1264 = .ok (.iconst 2, 1) := dk_5 (dk_at dksL_law_47 9 rfl rfl)
theorem dL_law_1265 : decode cL_law 1265 = .ok (.iadd, 1) := dk_96 (dk_at dksL_law_47 10 rfl rfl)
theorem dL_law_1266 : decode cL_law 1266 = .ok (.iaload, 1) := dk_46 (dk_at dksL_law_47 11 rfl rfl)
theorem dL_law_1267 : decode cL_law 1267 = .ok (.aload_n 0, 1) := dk_42 (dk_at dksL_law_47 12 rfl rfl)
theorem dL_law_1268 : decode cL_law 1268 = .ok (.iload 5, 2) := dk_21 5 (dk_at dksL_law_47 13 rfl rfl)
theorem dL_law_1270 : decode cL_law 1270 = .ok (.iconst 3, 1) := dk_6 (dk_at dksL_law_47 15 rfl rfl)
theorem dL_law_1271 : decode cL_law 1271 = .ok (.iadd, 1) := dk_96 (dk_at dksL_law_47 16 rfl rfl)
theorem dL_law_1272 : decode cL_law 1272 = .ok (.iaload, 1) := dk_46 (dk_at dksL_law_47 17 rfl rfl)
theorem dL_law_1273 : decode cL_law 1273 = .ok (.ifCond .eq 7, 3) := dk_153 0 7 (dk_at dksL_law_47 18 rfl rfl)
theorem dL_law_1276 : decode cL_law 1276 = .ok (.iconst 1, 1) := dk_4 (dk_at dksL_law_47 21 rfl rfl)
theorem dL_law_1277 : decode cL_law 1277 = .ok (.goto 4, 3) := dk_167 0 4 (dk_at dksL_law_48 0 rfl rfl)
theorem dL_law_1280 : decode cL_law 1280 = .ok (.iconst 0, 1) := dk_3 (dk_at dksL_law_48 3 rfl rfl)
theorem dL_law_1281 : decode cL_law 1281 = .ok (.invokevirtual 187, 3) := dk_182 0 187 (dk_at dksL_law_48 4 rfl rfl)
theorem dL_law_1284 : decode cL_law 1284 = .ok (.istore 7, 2) := dk_54 7 (dk_at dksL_law_48 7 rfl rfl)
theorem dL_law_1286 : decode cL_law 1286 = .ok (.aload_n 2, 1) := dk_44 (dk_at dksL_law_48 9 rfl rfl)
theorem dL_law_1287 : decode cL_law 1287 = .ok (.invokevirtual 143, 3) := dk_182 0 143 (dk_at dksL_law_48 10 rfl rfl)
theorem dL_law_1290 : decode cL_law 1290 = .ok (.iload 6, 2) := dk_21 6 (dk_at dksL_law_48 13 rfl rfl)
theorem dL_law_1292 : decode cL_law 1292 = .ok (.if_icmp .eq 5, 3) := dk_159 0 5 (dk_at dksL_law_48 15 rfl rfl)
theorem dL_law_1295 : decode cL_law 1295 = .ok (.iconst 0, 1) := dk_3 (dk_at dksL_law_48 18 rfl rfl)
theorem dL_law_1296 : decode cL_law 1296 = .ok (.ireturn, 1) := dk_172 (dk_at dksL_law_48 19 rfl rfl)
theorem dL_law_1297 : decode cL_law 1297 = .ok (.iload 6, 2) := dk_21 6 (dk_at dksL_law_48 20 rfl rfl)
theorem dL_law_1299 : decode cL_law 1299 = .ok (.ifCond .ne 15, 3) := dk_154 0 15 (dk_at dksL_law_49 0 rfl rfl)
theorem dL_law_1302 : decode cL_law 1302 = .ok (.aload_n 3, 1) := dk_45 (dk_at dksL_law_49 3 rfl rfl)
theorem dL_law_1303 : decode cL_law 1303 = .ok (.iconst 0, 1) := dk_3 (dk_at dksL_law_49 4 rfl rfl)
theorem dL_law_1304 : decode cL_law 1304 = .ok (.laload, 1) := dk_47 (dk_at dksL_law_49 5 rfl rfl)
theorem dL_law_1305 : decode cL_law 1305 = .ok (.iload 7, 2) := dk_21 7 (dk_at dksL_law_49 6 rfl rfl)
theorem dL_law_1307 : decode cL_law 1307 = .ok (.i2l, 1) := dk_133 (dk_at dksL_law_49 8 rfl rfl)
theorem dL_law_1308 : decode cL_law 1308 = .ok (.lcmp, 1) := dk_148 (dk_at dksL_law_49 9 rfl rfl)
theorem dL_law_1309 : decode cL_law 1309 = .ok (.ifCond .eq 5, 3) := dk_153 0 5 (dk_at dksL_law_49 10 rfl rfl)
theorem dL_law_1312 : decode cL_law 1312 = .ok (.iconst 0, 1) := dk_3 (dk_at dksL_law_49 13 rfl rfl)
theorem dL_law_1313 : decode cL_law 1313 = .ok (.ireturn, 1) := dk_172 (dk_at dksL_law_49 14 rfl rfl)
theorem dL_law_1314 : decode cL_law 1314 = .ok (.goto 1073, 3) := dk_167 4 49 (dk_at dksL_law_49 15 rfl rfl)
theorem dL_law_1317 : decode cL_law 1317 = .ok (.aload_n 1, 1) := dk_43 (dk_at dksL_law_49 18 rfl rfl)
theorem dL_law_1318 : decode cL_law 1318 = .ok (.aload_n 0, 1) := dk_42 (dk_at dksL_law_49 19 rfl rfl)
theorem dL_law_1319 : decode cL_law 1319 = .ok (.iload 5, 2) := dk_21 5 (dk_at dksL_law_49 20 rfl rfl)
theorem dL_law_1321 : decode cL_law 1321 = .ok (.iconst 1, 1) := dk_4 (dk_at dksL_law_49 22 rfl rfl)
theorem dL_law_1322 : decode cL_law 1322 = .ok (.iadd, 1) := dk_96 (dk_at dksL_law_49 23 rfl rfl)
theorem dL_law_1323 : decode cL_law 1323 = .ok (.iaload, 1) := dk_46 (dk_at dksL_law_50 0 rfl rfl)
theorem dL_law_1324 : decode cL_law 1324 = .ok (.aload_n 3, 1) := dk_45 (dk_at dksL_law_50 1 rfl rfl)
theorem dL_law_1325 : decode cL_law 1325 = .ok (.invokestatic 188, 3) := dk_184 0 188 (dk_at dksL_law_50 2 rfl rfl)
theorem dL_law_1328 : decode cL_law 1328 = .ok (.istore 6, 2) := dk_54 6 (dk_at dksL_law_50 5 rfl rfl)
theorem dL_law_1330 : decode cL_law 1330 = .ok (.aload_n 2, 1) := dk_44 (dk_at dksL_law_50 7 rfl rfl)
theorem dL_law_1331 : decode cL_law 1331 = .ok (.aload_n 0, 1) := dk_42 (dk_at dksL_law_50 8 rfl rfl)
theorem dL_law_1332 : decode cL_law 1332 = .ok (.iload 5, 2) := dk_21 5 (dk_at dksL_law_50 9 rfl rfl)
theorem dL_law_1334 : decode cL_law 1334 = .ok (.iconst 1, 1) := dk_4 (dk_at dksL_law_50 11 rfl rfl)
theorem dL_law_1335 : decode cL_law 1335 = .ok (.iadd, 1) := dk_96 (dk_at dksL_law_50 12 rfl rfl)
theorem dL_law_1336 : decode cL_law 1336 = .ok (.iaload, 1) := dk_46 (dk_at dksL_law_50 13 rfl rfl)
theorem dL_law_1337 : decode cL_law 1337 = .ok (.invokevirtual 190, 3) := dk_182 0 190 (dk_at dksL_law_50 14 rfl rfl)
theorem dL_law_1340 : decode cL_law 1340 = .ok (.istore 7, 2) := dk_54 7 (dk_at dksL_law_50 17 rfl rfl)
theorem dL_law_1342 : decode cL_law 1342 = .ok (.aload_n 2, 1) := dk_44 (dk_at dksL_law_50 19 rfl rfl)
theorem dL_law_1343 : decode cL_law 1343 = .ok (.invokevirtual 143, 3) := dk_182 0 143 (dk_at dksL_law_50 20 rfl rfl)
theorem dL_law_1346 : decode cL_law 1346 = .ok (.iload 6, 2) := dk_21 6 (dk_at dksL_law_51 0 rfl rfl)
theorem dL_law_1348 : decode cL_law 1348 = .ok (.if_icmp .eq 5, 3) := dk_159 0 5 (dk_at dksL_law_51 2 rfl rfl)
theorem dL_law_1351 : decode cL_law 1351 = .ok (.iconst 0, 1) := dk_3 (dk_at dksL_law_51 5 rfl rfl)
theorem dL_law_1352 : decode cL_law 1352 = .ok (.ireturn, 1) := dk_172 (dk_at dksL_law_51 6 rfl rfl)
theorem dL_law_1353 : decode cL_law 1353 = .ok (.iload 6, 2) := dk_21 6 (dk_at dksL_law_51 7 rfl rfl)
theorem dL_law_1355 : decode cL_law 1355 = .ok (.ifCond .ne 15, 3) := dk_154 0 15 (dk_at dksL_law_51 9 rfl rfl)
theorem dL_law_1358 : decode cL_law 1358 = .ok (.aload_n 3, 1) := dk_45 (dk_at dksL_law_51 12 rfl rfl)
theorem dL_law_1359 : decode cL_law 1359 = .ok (.iconst 0, 1) := dk_3 (dk_at dksL_law_51 13 rfl rfl)
theorem dL_law_1360 : decode cL_law 1360 = .ok (.laload, 1) := dk_47 (dk_at dksL_law_51 14 rfl rfl)
theorem dL_law_1361 : decode cL_law 1361 = .ok (.iload 7, 2) := dk_21 7 (dk_at dksL_law_51 15 rfl rfl)
theorem dL_law_1363 : decode cL_law 1363 = .ok (.i2l, 1) := dk_133 (dk_at dksL_law_51 17 rfl rfl)
theorem dL_law_1364 : decode cL_law 1364 = .ok (.lcmp, 1) := dk_148 (dk_at dksL_law_51 18 rfl rfl)
theorem dL_law_1365 : decode cL_law 1365 = .ok (.ifCond .eq 5, 3) := dk_153 0 5 (dk_at dksL_law_51 19 rfl rfl)
theorem dL_law_1368 : decode cL_law 1368 = .ok (.iconst 0, 1) := dk_3 (dk_at dksL_law_51 22 rfl rfl)
theorem dL_law_1369 : decode cL_law 1369 = .ok (.ireturn, 1) := dk_172 (dk_at dksL_law_51 23 rfl rfl)
theorem dL_law_1370 : decode cL_law 1370 = .ok (.goto 1017, 3) := dk_167 3 249 (dk_at dksL_law_52 0 rfl rfl)
theorem dL_law_1373 : decode cL_law 1373 = .ok (.aload_n 1, 1) := dk_43 (dk_at dksL_law_52 3 rfl rfl)
theorem dL_law_1374 : decode cL_law 1374 = .ok (.aload_n 0, 1) := dk_42 (dk_at dksL_law_52 4 rfl rfl)
theorem dL_law_1375 : decode cL_law 1375 = .ok (.iload 5, 2) := dk_21 5 (dk_at dksL_law_52 5 rfl rfl)
theorem dL_law_1377 : decode cL_law 1377 = .ok (.iconst 1, 1) := dk_4 (dk_at dksL_law_52 7 rfl rfl)
theorem dL_law_1378 : decode cL_law 1378 = .ok (.iadd, 1) := dk_96 (dk_at dksL_law_52 8 rfl rfl)
theorem dL_law_1379 : decode cL_law 1379 = .ok (.iaload, 1) := dk_46 (dk_at dksL_law_52 9 rfl rfl)
theorem dL_law_1380 : decode cL_law 1380 = .ok (.aload_n 0, 1) := dk_42 (dk_at dksL_law_52 10 rfl rfl)
theorem dL_law_1381 : decode cL_law 1381 = .ok (.iload 5, 2) := dk_21 5 (dk_at dksL_law_52 11 rfl rfl)
theorem dL_law_1383 : decode cL_law 1383 = .ok (.iconst 2, 1) := dk_5 (dk_at dksL_law_52 13 rfl rfl)
theorem dL_law_1384 : decode cL_law 1384 = .ok (.iadd, 1) := dk_96 (dk_at dksL_law_52 14 rfl rfl)
theorem dL_law_1385 : decode cL_law 1385 = .ok (.iaload, 1) := dk_46 (dk_at dksL_law_52 15 rfl rfl)
theorem dL_law_1386 : decode cL_law 1386 = .ok (.aload_n 0, 1) := dk_42 (dk_at dksL_law_52 16 rfl rfl)
theorem dL_law_1387 : decode cL_law 1387 = .ok (.iload 5, 2) := dk_21 5 (dk_at dksL_law_52 17 rfl rfl)
theorem dL_law_1389 : decode cL_law 1389 = .ok (.iconst 3, 1) := dk_6 (dk_at dksL_law_52 19 rfl rfl)
theorem dL_law_1390 : decode cL_law 1390 = .ok (.iadd, 1) := dk_96 (dk_at dksL_law_52 20 rfl rfl)
theorem dL_law_1391 : decode cL_law 1391 = .ok (.iaload, 1) := dk_46 (dk_at dksL_law_52 21 rfl rfl)
theorem dL_law_1392 : decode cL_law 1392 = .ok (.aload_n 3, 1) := dk_45 (dk_at dksL_law_52 22 rfl rfl)
theorem dL_law_1393 : decode cL_law 1393 = .ok (.invokestatic 191, 3) := dk_184 0 191 (dk_at dksL_law_53 0 rfl rfl)
theorem dL_law_1396 : decode cL_law 1396 = .ok (.istore 6, 2) := dk_54 6 (dk_at dksL_law_53 3 rfl rfl)
theorem dL_law_1398 : decode cL_law 1398 = .ok (.aload_n 2, 1) := dk_44 (dk_at dksL_law_53 5 rfl rfl)
theorem dL_law_1399 : decode cL_law 1399 = .ok (.aload_n 0, 1) := dk_42 (dk_at dksL_law_53 6 rfl rfl)
theorem dL_law_1400 : decode cL_law 1400 = .ok (.iload 5, 2) := dk_21 5 (dk_at dksL_law_53 7 rfl rfl)
theorem dL_law_1402 : decode cL_law 1402 = .ok (.iconst 1, 1) := dk_4 (dk_at dksL_law_53 9 rfl rfl)
theorem dL_law_1403 : decode cL_law 1403 = .ok (.iadd, 1) := dk_96 (dk_at dksL_law_53 10 rfl rfl)
theorem dL_law_1404 : decode cL_law 1404 = .ok (.iaload, 1) := dk_46 (dk_at dksL_law_53 11 rfl rfl)
theorem dL_law_1405 : decode cL_law 1405 = .ok (.aload_n 0, 1) := dk_42 (dk_at dksL_law_53 12 rfl rfl)
theorem dL_law_1406 : decode cL_law 1406 = .ok (.iload 5, 2) := dk_21 5 (dk_at dksL_law_53 13 rfl rfl)
theorem dL_law_1408 : decode cL_law 1408 = .ok (.iconst 2, 1) := dk_5 (dk_at dksL_law_53 15 rfl rfl)
theorem dL_law_1409 : decode cL_law 1409 = .ok (.iadd, 1) := dk_96 (dk_at dksL_law_53 16 rfl rfl)
theorem dL_law_1410 : decode cL_law 1410 = .ok (.iaload, 1) := dk_46 (dk_at dksL_law_53 17 rfl rfl)
theorem dL_law_1411 : decode cL_law 1411 = .ok (.aload_n 0, 1) := dk_42 (dk_at dksL_law_53 18 rfl rfl)
theorem dL_law_1412 : decode cL_law 1412 = .ok (.iload 5, 2) := dk_21 5 (dk_at dksL_law_53 19 rfl rfl)
theorem dL_law_1414 : decode cL_law 1414 = .ok (.iconst 3, 1) := dk_6 (dk_at dksL_law_53 21 rfl rfl)
theorem dL_law_1415 : decode cL_law 1415 = .ok (.iadd, 1) := dk_96 (dk_at dksL_law_53 22 rfl rfl)
theorem dL_law_1416 : decode cL_law 1416 = .ok (.iaload, 1) := dk_46 (dk_at dksL_law_53 23 rfl rfl)
theorem dL_law_1417 : decode cL_law 1417 = .ok (.invokevirtual 193, 3) := dk_182 0 193 (dk_at dksL_law_54 0 rfl rfl)
theorem dL_law_1420 : decode cL_law 1420 = .ok (.istore 7, 2) := dk_54 7 (dk_at dksL_law_54 3 rfl rfl)
theorem dL_law_1422 : decode cL_law 1422 = .ok (.aload_n 2, 1) := dk_44 (dk_at dksL_law_54 5 rfl rfl)
theorem dL_law_1423 : decode cL_law 1423 = .ok (.invokevirtual 143, 3) := dk_182 0 143 (dk_at dksL_law_54 6 rfl rfl)
theorem dL_law_1426 : decode cL_law 1426 = .ok (.iload 6, 2) := dk_21 6 (dk_at dksL_law_54 9 rfl rfl)
theorem dL_law_1428 : decode cL_law 1428 = .ok (.if_icmp .eq 5, 3) := dk_159 0 5 (dk_at dksL_law_54 11 rfl rfl)
theorem dL_law_1431 : decode cL_law 1431 = .ok (.iconst 0, 1) := dk_3 (dk_at dksL_law_54 14 rfl rfl)
theorem dL_law_1432 : decode cL_law 1432 = .ok (.ireturn, 1) := dk_172 (dk_at dksL_law_54 15 rfl rfl)
theorem dL_law_1433 : decode cL_law 1433 = .ok (.iload 6, 2) := dk_21 6 (dk_at dksL_law_54 16 rfl rfl)
theorem dL_law_1435 : decode cL_law 1435 = .ok (.ifCond .ne 15, 3) := dk_154 0 15 (dk_at dksL_law_54 18 rfl rfl)
theorem dL_law_1438 : decode cL_law 1438 = .ok (.aload_n 3, 1) := dk_45 (dk_at dksL_law_54 21 rfl rfl)
theorem dL_law_1439 : decode cL_law 1439 = .ok (.iconst 0, 1) := dk_3 (dk_at dksL_law_54 22 rfl rfl)
theorem dL_law_1440 : decode cL_law 1440 = .ok (.laload, 1) := dk_47 (dk_at dksL_law_54 23 rfl rfl)
theorem dL_law_1441 : decode cL_law 1441 = .ok (.iload 7, 2) := dk_21 7 (dk_at dksL_law_55 0 rfl rfl)
theorem dL_law_1443 : decode cL_law 1443 = .ok (.i2l, 1) := dk_133 (dk_at dksL_law_55 2 rfl rfl)
theorem dL_law_1444 : decode cL_law 1444 = .ok (.lcmp, 1) := dk_148 (dk_at dksL_law_55 3 rfl rfl)
theorem dL_law_1445 : decode cL_law 1445 = .ok (.ifCond .eq 5, 3) := dk_153 0 5 (dk_at dksL_law_55 4 rfl rfl)
theorem dL_law_1448 : decode cL_law 1448 = .ok (.iconst 0, 1) := dk_3 (dk_at dksL_law_55 7 rfl rfl)
theorem dL_law_1449 : decode cL_law 1449 = .ok (.ireturn, 1) := dk_172 (dk_at dksL_law_55 8 rfl rfl)
theorem dL_law_1450 : decode cL_law 1450 = .ok (.goto 937, 3) := dk_167 3 169 (dk_at dksL_law_55 9 rfl rfl)
theorem dL_law_1453 : decode cL_law 1453 = .ok (.aload_n 1, 1) := dk_43 (dk_at dksL_law_55 12 rfl rfl)
theorem dL_law_1454 : decode cL_law 1454 = .ok (.invokevirtual 194, 3) := dk_182 0 194 (dk_at dksL_law_55 13 rfl rfl)
theorem dL_law_1457 : decode cL_law 1457 = .ok (.aload_n 2, 1) := dk_44 (dk_at dksL_law_55 16 rfl rfl)
theorem dL_law_1458 : decode cL_law 1458 = .ok (.invokevirtual 198, 3) := dk_182 0 198 (dk_at dksL_law_55 17 rfl rfl)
theorem dL_law_1461 : decode cL_law 1461 = .ok (.if_icmp .eq 926, 3) := dk_159 3 158 (dk_at dksL_law_55 20 rfl rfl)
theorem dL_law_1464 : decode cL_law 1464 = .ok (.iconst 0, 1) := dk_3 (dk_at dksL_law_55 23 rfl rfl)
theorem dL_law_1465 : decode cL_law 1465 = .ok (.ireturn, 1) := dk_172 (dk_at dksL_law_56 0 rfl rfl)
theorem dL_law_1466 : decode cL_law 1466 = .ok (.aload_n 1, 1) := dk_43 (dk_at dksL_law_56 1 rfl rfl)
theorem dL_law_1467 : decode cL_law 1467 = .ok (.aload_n 0, 1) := dk_42 (dk_at dksL_law_56 2 rfl rfl)
theorem dL_law_1468 : decode cL_law 1468 = .ok (.iload 5, 2) := dk_21 5 (dk_at dksL_law_56 3 rfl rfl)
theorem dL_law_1470 : decode cL_law 1470 = .ok (.iconst 1, 1) := dk_4 (dk_at dksL_law_56 5 rfl rfl)
theorem dL_law_1471 : decode cL_law 1471 = .ok (.iadd, 1) := dk_96 (dk_at dksL_law_56 6 rfl rfl)
theorem dL_law_1472 : decode cL_law 1472 = .ok (.iaload, 1) := dk_46 (dk_at dksL_law_56 7 rfl rfl)
theorem dL_law_1473 : decode cL_law 1473 = .ok (.aload_n 0, 1) := dk_42 (dk_at dksL_law_56 8 rfl rfl)
theorem dL_law_1474 : decode cL_law 1474 = .ok (.iload 5, 2) := dk_21 5 (dk_at dksL_law_56 9 rfl rfl)
theorem dL_law_1476 : decode cL_law 1476 = .ok (.iconst 2, 1) := dk_5 (dk_at dksL_law_56 11 rfl rfl)
theorem dL_law_1477 : decode cL_law 1477 = .ok (.iadd, 1) := dk_96 (dk_at dksL_law_56 12 rfl rfl)
theorem dL_law_1478 : decode cL_law 1478 = .ok (.iaload, 1) := dk_46 (dk_at dksL_law_56 13 rfl rfl)
theorem dL_law_1479 : decode cL_law 1479 = .ok (.aload_n 3, 1) := dk_45 (dk_at dksL_law_56 14 rfl rfl)
theorem dL_law_1480 : decode cL_law 1480 = .ok (.invokestatic 199, 3) := dk_184 0 199 (dk_at dksL_law_56 15 rfl rfl)
theorem dL_law_1483 : decode cL_law 1483 = .ok (.istore 6, 2) := dk_54 6 (dk_at dksL_law_56 18 rfl rfl)
theorem dL_law_1485 : decode cL_law 1485 = .ok (.aload_n 2, 1) := dk_44 (dk_at dksL_law_56 20 rfl rfl)
theorem dL_law_1486 : decode cL_law 1486 = .ok (.aload_n 0, 1) := dk_42 (dk_at dksL_law_56 21 rfl rfl)
theorem dL_law_1487 : decode cL_law 1487 = .ok (.iload 5, 2) := dk_21 5 (dk_at dksL_law_56 22 rfl rfl)
theorem dL_law_1489 : decode cL_law 1489 = .ok (.iconst 1, 1) := dk_4 (dk_at dksL_law_57 0 rfl rfl)
theorem dL_law_1490 : decode cL_law 1490 = .ok (.iadd, 1) := dk_96 (dk_at dksL_law_57 1 rfl rfl)
theorem dL_law_1491 : decode cL_law 1491 = .ok (.iaload, 1) := dk_46 (dk_at dksL_law_57 2 rfl rfl)
theorem dL_law_1492 : decode cL_law 1492 = .ok (.aload_n 0, 1) := dk_42 (dk_at dksL_law_57 3 rfl rfl)
theorem dL_law_1493 : decode cL_law 1493 = .ok (.iload 5, 2) := dk_21 5 (dk_at dksL_law_57 4 rfl rfl)
theorem dL_law_1495 : decode cL_law 1495 = .ok (.iconst 2, 1) := dk_5 (dk_at dksL_law_57 6 rfl rfl)
theorem dL_law_1496 : decode cL_law 1496 = .ok (.iadd, 1) := dk_96 (dk_at dksL_law_57 7 rfl rfl)
theorem dL_law_1497 : decode cL_law 1497 = .ok (.iaload, 1) := dk_46 (dk_at dksL_law_57 8 rfl rfl)
theorem dL_law_1498 : decode cL_law 1498 = .ok (.invokevirtual 201, 3) := dk_182 0 201 (dk_at dksL_law_57 9 rfl rfl)
theorem dL_law_1501 : decode cL_law 1501 = .ok (.istore 7, 2) := dk_54 7 (dk_at dksL_law_57 12 rfl rfl)
theorem dL_law_1503 : decode cL_law 1503 = .ok (.aload_n 2, 1) := dk_44 (dk_at dksL_law_57 14 rfl rfl)
theorem dL_law_1504 : decode cL_law 1504 = .ok (.invokevirtual 143, 3) := dk_182 0 143 (dk_at dksL_law_57 15 rfl rfl)
theorem dL_law_1507 : decode cL_law 1507 = .ok (.iload 6, 2) := dk_21 6 (dk_at dksL_law_57 18 rfl rfl)
theorem dL_law_1509 : decode cL_law 1509 = .ok (.if_icmp .eq 5, 3) := dk_159 0 5 (dk_at dksL_law_57 20 rfl rfl)
theorem dL_law_1512 : decode cL_law 1512 = .ok (.iconst 0, 1) := dk_3 (dk_at dksL_law_57 23 rfl rfl)
theorem dL_law_1513 : decode cL_law 1513 = .ok (.ireturn, 1) := dk_172 (dk_at dksL_law_58 0 rfl rfl)
theorem dL_law_1514 : decode cL_law 1514 = .ok (.iload 6, 2) := dk_21 6 (dk_at dksL_law_58 1 rfl rfl)
theorem dL_law_1516 : decode cL_law 1516 = .ok (.ifCond .ne 15, 3) := dk_154 0 15 (dk_at dksL_law_58 3 rfl rfl)
theorem dL_law_1519 : decode cL_law 1519 = .ok (.aload_n 3, 1) := dk_45 (dk_at dksL_law_58 6 rfl rfl)
theorem dL_law_1520 : decode cL_law 1520 = .ok (.iconst 0, 1) := dk_3 (dk_at dksL_law_58 7 rfl rfl)
theorem dL_law_1521 : decode cL_law 1521 = .ok (.laload, 1) := dk_47 (dk_at dksL_law_58 8 rfl rfl)
theorem dL_law_1522 : decode cL_law 1522 = .ok (.iload 7, 2) := dk_21 7 (dk_at dksL_law_58 9 rfl rfl)
theorem dL_law_1524 : decode cL_law 1524 = .ok (.i2l, 1) := dk_133 (dk_at dksL_law_58 11 rfl rfl)
theorem dL_law_1525 : decode cL_law 1525 = .ok (.lcmp, 1) := dk_148 (dk_at dksL_law_58 12 rfl rfl)
theorem dL_law_1526 : decode cL_law 1526 = .ok (.ifCond .eq 5, 3) := dk_153 0 5 (dk_at dksL_law_58 13 rfl rfl)
theorem dL_law_1529 : decode cL_law 1529 = .ok (.iconst 0, 1) := dk_3 (dk_at dksL_law_58 16 rfl rfl)
theorem dL_law_1530 : decode cL_law 1530 = .ok (.ireturn, 1) := dk_172 (dk_at dksL_law_58 17 rfl rfl)
theorem dL_law_1531 : decode cL_law 1531 = .ok (.goto 856, 3) := dk_167 3 88 (dk_at dksL_law_58 18 rfl rfl)
theorem dL_law_1534 : decode cL_law 1534 = .ok (.aload_n 1, 1) := dk_43 (dk_at dksL_law_58 21 rfl rfl)
theorem dL_law_1535 : decode cL_law 1535 = .ok (.aload_n 0, 1) := dk_42 (dk_at dksL_law_58 22 rfl rfl)
theorem dL_law_1536 : decode cL_law 1536 = .ok (.iload 5, 2) := dk_21 5 (dk_at dksL_law_59 0 rfl rfl)
theorem dL_law_1538 : decode cL_law 1538 = .ok (.iconst 1, 1) := dk_4 (dk_at dksL_law_59 2 rfl rfl)
theorem dL_law_1539 : decode cL_law 1539 = .ok (.iadd, 1) := dk_96 (dk_at dksL_law_59 3 rfl rfl)
theorem dL_law_1540 : decode cL_law 1540 = .ok (.iaload, 1) := dk_46 (dk_at dksL_law_59 4 rfl rfl)
theorem dL_law_1541 : decode cL_law 1541 = .ok (.aload_n 3, 1) := dk_45 (dk_at dksL_law_59 5 rfl rfl)
theorem dL_law_1542 : decode cL_law 1542 = .ok (.invokestatic 202, 3) := dk_184 0 202 (dk_at dksL_law_59 6 rfl rfl)
theorem dL_law_1545 : decode cL_law 1545 = .ok (.istore 6, 2) := dk_54 6 (dk_at dksL_law_59 9 rfl rfl)
theorem dL_law_1547 : decode cL_law 1547 = .ok (.aload_n 2, 1) := dk_44 (dk_at dksL_law_59 11 rfl rfl)
theorem dL_law_1548 : decode cL_law 1548 = .ok (.aload_n 0, 1) := dk_42 (dk_at dksL_law_59 12 rfl rfl)
theorem dL_law_1549 : decode cL_law 1549 = .ok (.iload 5, 2) := dk_21 5 (dk_at dksL_law_59 13 rfl rfl)
theorem dL_law_1551 : decode cL_law 1551 = .ok (.iconst 1, 1) := dk_4 (dk_at dksL_law_59 15 rfl rfl)
theorem dL_law_1552 : decode cL_law 1552 = .ok (.iadd, 1) := dk_96 (dk_at dksL_law_59 16 rfl rfl)
theorem dL_law_1553 : decode cL_law 1553 = .ok (.iaload, 1) := dk_46 (dk_at dksL_law_59 17 rfl rfl)
theorem dL_law_1554 : decode cL_law 1554 = .ok (.invokevirtual 204, 3) := dk_182 0 204 (dk_at dksL_law_59 18 rfl rfl)
theorem dL_law_1557 : decode cL_law 1557 = .ok (.istore 7, 2) := dk_54 7 (dk_at dksL_law_59 21 rfl rfl)
theorem dL_law_1559 : decode cL_law 1559 = .ok (.aload_n 2, 1) := dk_44 (dk_at dksL_law_59 23 rfl rfl)
theorem dL_law_1560 : decode cL_law 1560 = .ok (.invokevirtual 143, 3) := dk_182 0 143 (dk_at dksL_law_60 0 rfl rfl)
theorem dL_law_1563 : decode cL_law 1563 = .ok (.iload 6, 2) := dk_21 6 (dk_at dksL_law_60 3 rfl rfl)
theorem dL_law_1565 : decode cL_law 1565 = .ok (.if_icmp .eq 5, 3) := dk_159 0 5 (dk_at dksL_law_60 5 rfl rfl)
theorem dL_law_1568 : decode cL_law 1568 = .ok (.iconst 0, 1) := dk_3 (dk_at dksL_law_60 8 rfl rfl)
theorem dL_law_1569 : decode cL_law 1569 = .ok (.ireturn, 1) := dk_172 (dk_at dksL_law_60 9 rfl rfl)
theorem dL_law_1570 : decode cL_law 1570 = .ok (.iload 6, 2) := dk_21 6 (dk_at dksL_law_60 10 rfl rfl)
theorem dL_law_1572 : decode cL_law 1572 = .ok (.ifCond .ne 15, 3) := dk_154 0 15 (dk_at dksL_law_60 12 rfl rfl)
theorem dL_law_1575 : decode cL_law 1575 = .ok (.aload_n 3, 1) := dk_45 (dk_at dksL_law_60 15 rfl rfl)
theorem dL_law_1576 : decode cL_law 1576 = .ok (.iconst 0, 1) := dk_3 (dk_at dksL_law_60 16 rfl rfl)
theorem dL_law_1577 : decode cL_law 1577 = .ok (.laload, 1) := dk_47 (dk_at dksL_law_60 17 rfl rfl)
theorem dL_law_1578 : decode cL_law 1578 = .ok (.iload 7, 2) := dk_21 7 (dk_at dksL_law_60 18 rfl rfl)
theorem dL_law_1580 : decode cL_law 1580 = .ok (.i2l, 1) := dk_133 (dk_at dksL_law_60 20 rfl rfl)
theorem dL_law_1581 : decode cL_law 1581 = .ok (.lcmp, 1) := dk_148 (dk_at dksL_law_60 21 rfl rfl)
theorem dL_law_1582 : decode cL_law 1582 = .ok (.ifCond .eq 5, 3) := dk_153 0 5 (dk_at dksL_law_61 0 rfl rfl)
theorem dL_law_1585 : decode cL_law 1585 = .ok (.iconst 0, 1) := dk_3 (dk_at dksL_law_61 3 rfl rfl)
theorem dL_law_1586 : decode cL_law 1586 = .ok (.ireturn, 1) := dk_172 (dk_at dksL_law_61 4 rfl rfl)
theorem dL_law_1587 : decode cL_law 1587 = .ok (.goto 800, 3) := dk_167 3 32 (dk_at dksL_law_61 5 rfl rfl)
theorem dL_law_1590 : decode cL_law 1590 = .ok (.aload_n 1, 1) := dk_43 (dk_at dksL_law_61 8 rfl rfl)
theorem dL_law_1591 : decode cL_law 1591 = .ok (.invokevirtual 205, 3) := dk_182 0 205 (dk_at dksL_law_61 9 rfl rfl)
theorem dL_law_1594 : decode cL_law 1594 = .ok (.aload_n 2, 1) := dk_44 (dk_at dksL_law_61 12 rfl rfl)
theorem dL_law_1595 : decode cL_law 1595 = .ok (.invokevirtual 208, 3) := dk_182 0 208 (dk_at dksL_law_61 13 rfl rfl)
theorem dL_law_1598 : decode cL_law 1598 = .ok (.if_icmp .eq 789, 3) := dk_159 3 21 (dk_at dksL_law_61 16 rfl rfl)
theorem dL_law_1601 : decode cL_law 1601 = .ok (.iconst 0, 1) := dk_3 (dk_at dksL_law_61 19 rfl rfl)
theorem dL_law_1602 : decode cL_law 1602 = .ok (.ireturn, 1) := dk_172 (dk_at dksL_law_61 20 rfl rfl)
theorem dL_law_1603 : decode cL_law 1603 = .ok (.aload_n 1, 1) := dk_43 (dk_at dksL_law_61 21 rfl rfl)
theorem dL_law_1604 : decode cL_law 1604 = .ok (.aload_n 0, 1) := dk_42 (dk_at dksL_law_61 22 rfl rfl)
theorem dL_law_1605 : decode cL_law 1605 = .ok (.iload 5, 2) := dk_21 5 (dk_at dksL_law_62 0 rfl rfl)
theorem dL_law_1607 : decode cL_law 1607 = .ok (.iconst 1, 1) := dk_4 (dk_at dksL_law_62 2 rfl rfl)
theorem dL_law_1608 : decode cL_law 1608 = .ok (.iadd, 1) := dk_96 (dk_at dksL_law_62 3 rfl rfl)
theorem dL_law_1609 : decode cL_law 1609 = .ok (.iaload, 1) := dk_46 (dk_at dksL_law_62 4 rfl rfl)
theorem dL_law_1610 : decode cL_law 1610 = .ok (.aload_n 3, 1) := dk_45 (dk_at dksL_law_62 5 rfl rfl)
theorem dL_law_1611 : decode cL_law 1611 = .ok (.invokestatic 209, 3) := dk_184 0 209 (dk_at dksL_law_62 6 rfl rfl)
theorem dL_law_1614 : decode cL_law 1614 = .ok (.istore 6, 2) := dk_54 6 (dk_at dksL_law_62 9 rfl rfl)
theorem dL_law_1616 : decode cL_law 1616 = .ok (.aload_n 2, 1) := dk_44 (dk_at dksL_law_62 11 rfl rfl)
theorem dL_law_1617 : decode cL_law 1617 = .ok (.aload_n 0, 1) := dk_42 (dk_at dksL_law_62 12 rfl rfl)
theorem dL_law_1618 : decode cL_law 1618 = .ok (.iload 5, 2) := dk_21 5 (dk_at dksL_law_62 13 rfl rfl)
theorem dL_law_1620 : decode cL_law 1620 = .ok (.iconst 1, 1) := dk_4 (dk_at dksL_law_62 15 rfl rfl)
theorem dL_law_1621 : decode cL_law 1621 = .ok (.iadd, 1) := dk_96 (dk_at dksL_law_62 16 rfl rfl)
theorem dL_law_1622 : decode cL_law 1622 = .ok (.iaload, 1) := dk_46 (dk_at dksL_law_62 17 rfl rfl)
theorem dL_law_1623 : decode cL_law 1623 = .ok (.invokevirtual 211, 3) := dk_182 0 211 (dk_at dksL_law_62 18 rfl rfl)
theorem dL_law_1626 : decode cL_law 1626 = .ok (.istore 7, 2) := dk_54 7 (dk_at dksL_law_62 21 rfl rfl)
theorem dL_law_1628 : decode cL_law 1628 = .ok (.aload_n 2, 1) := dk_44 (dk_at dksL_law_62 23 rfl rfl)
theorem dL_law_1629 : decode cL_law 1629 = .ok (.invokevirtual 143, 3) := dk_182 0 143 (dk_at dksL_law_63 0 rfl rfl)
theorem dL_law_1632 : decode cL_law 1632 = .ok (.iload 6, 2) := dk_21 6 (dk_at dksL_law_63 3 rfl rfl)
theorem dL_law_1634 : decode cL_law 1634 = .ok (.if_icmp .eq 5, 3) := dk_159 0 5 (dk_at dksL_law_63 5 rfl rfl)
theorem dL_law_1637 : decode cL_law 1637 = .ok (.iconst 0, 1) := dk_3 (dk_at dksL_law_63 8 rfl rfl)
theorem dL_law_1638 : decode cL_law 1638 = .ok (.ireturn, 1) := dk_172 (dk_at dksL_law_63 9 rfl rfl)
theorem dL_law_1639 : decode cL_law 1639 = .ok (.iload 6, 2) := dk_21 6 (dk_at dksL_law_63 10 rfl rfl)
theorem dL_law_1641 : decode cL_law 1641 = .ok (.ifCond .ne 15, 3) := dk_154 0 15 (dk_at dksL_law_63 12 rfl rfl)
theorem dL_law_1644 : decode cL_law 1644 = .ok (.aload_n 3, 1) := dk_45 (dk_at dksL_law_63 15 rfl rfl)
theorem dL_law_1645 : decode cL_law 1645 = .ok (.iconst 0, 1) := dk_3 (dk_at dksL_law_63 16 rfl rfl)
theorem dL_law_1646 : decode cL_law 1646 = .ok (.laload, 1) := dk_47 (dk_at dksL_law_63 17 rfl rfl)
theorem dL_law_1647 : decode cL_law 1647 = .ok (.iload 7, 2) := dk_21 7 (dk_at dksL_law_63 18 rfl rfl)
theorem dL_law_1649 : decode cL_law 1649 = .ok (.i2l, 1) := dk_133 (dk_at dksL_law_63 20 rfl rfl)
theorem dL_law_1650 : decode cL_law 1650 = .ok (.lcmp, 1) := dk_148 (dk_at dksL_law_63 21 rfl rfl)
theorem dL_law_1651 : decode cL_law 1651 = .ok (.ifCond .eq 5, 3) := dk_153 0 5 (dk_at dksL_law_64 0 rfl rfl)
theorem dL_law_1654 : decode cL_law 1654 = .ok (.iconst 0, 1) := dk_3 (dk_at dksL_law_64 3 rfl rfl)
theorem dL_law_1655 : decode cL_law 1655 = .ok (.ireturn, 1) := dk_172 (dk_at dksL_law_64 4 rfl rfl)
theorem dL_law_1656 : decode cL_law 1656 = .ok (.goto 731, 3) := dk_167 2 219 (dk_at dksL_law_64 5 rfl rfl)
theorem dL_law_1659 : decode cL_law 1659 = .ok (.aload_n 1, 1) := dk_43 (dk_at dksL_law_64 8 rfl rfl)
theorem dL_law_1660 : decode cL_law 1660 = .ok (.invokevirtual 212, 3) := dk_182 0 212 (dk_at dksL_law_64 9 rfl rfl)
theorem dL_law_1663 : decode cL_law 1663 = .ok (.aload_n 2, 1) := dk_44 (dk_at dksL_law_64 12 rfl rfl)
theorem dL_law_1664 : decode cL_law 1664 = .ok (.invokevirtual 215, 3) := dk_182 0 215 (dk_at dksL_law_64 13 rfl rfl)
theorem dL_law_1667 : decode cL_law 1667 = .ok (.if_icmp .eq 720, 3) := dk_159 2 208 (dk_at dksL_law_64 16 rfl rfl)
theorem dL_law_1670 : decode cL_law 1670 = .ok (.iconst 0, 1) := dk_3 (dk_at dksL_law_64 19 rfl rfl)
theorem dL_law_1671 : decode cL_law 1671 = .ok (.ireturn, 1) := dk_172 (dk_at dksL_law_64 20 rfl rfl)
theorem dL_law_1672 : decode cL_law 1672 = .ok (.aload_n 1, 1) := dk_43 (dk_at dksL_law_64 21 rfl rfl)
theorem dL_law_1673 : decode cL_law 1673 = .ok (.invokevirtual 216, 3) := dk_182 0 216 (dk_at dksL_law_65 0 rfl rfl)
theorem dL_law_1676 : decode cL_law 1676 = .ok (.f2d, 1) := dk_141 (dk_at dksL_law_65 3 rfl rfl)
theorem dL_law_1677 : decode cL_law 1677 = .ok (.dstore 6, 2) := dk_57 6 (dk_at dksL_law_65 4 rfl rfl)
theorem dL_law_1679 : decode cL_law 1679 = .ok (.aload_n 2, 1) := dk_44 (dk_at dksL_law_65 6 rfl rfl)
theorem dL_law_1680 : decode cL_law 1680 = .ok (.invokevirtual 220, 3) := dk_182 0 220 (dk_at dksL_law_65 7 rfl rfl)
theorem dL_law_1683 : decode cL_law 1683 = .ok (.f2d, 1) := dk_141 (dk_at dksL_law_65 10 rfl rfl)
theorem dL_law_1684 : decode cL_law 1684 = .ok (.dstore 8, 2) := dk_57 8 (dk_at dksL_law_65 11 rfl rfl)
theorem dL_law_1686 : decode cL_law 1686 = .ok (.dload 6, 2) := dk_24 6 (dk_at dksL_law_65 13 rfl rfl)
theorem dL_law_1688 : decode cL_law 1688 = .ok (.dload 8, 2) := dk_24 8 (dk_at dksL_law_65 15 rfl rfl)
theorem dL_law_1690 : decode cL_law 1690 = .ok (.dcmp .l, 1) := dk_151 (dk_at dksL_law_65 17 rfl rfl)
theorem dL_law_1691 : decode cL_law 1691 = .ok (.ifCond .eq 21, 3) := dk_153 0 21 (dk_at dksL_law_65 18 rfl rfl)
theorem dL_law_1694 : decode cL_law 1694 = .ok (.dload 6, 2) := dk_24 6 (dk_at dksL_law_65 21 rfl rfl)
theorem dL_law_1696 : decode cL_law 1696 = .ok (.dload 6, 2) := dk_24 6 (dk_at dksL_law_66 0 rfl rfl)
theorem dL_law_1698 : decode cL_law 1698 = .ok (.dcmp .l, 1) := dk_151 (dk_at dksL_law_66 2 rfl rfl)
theorem dL_law_1699 : decode cL_law 1699 = .ok (.ifCond .eq 11, 3) := dk_153 0 11 (dk_at dksL_law_66 3 rfl rfl)
theorem dL_law_1702 : decode cL_law 1702 = .ok (.dload 8, 2) := dk_24 8 (dk_at dksL_law_66 6 rfl rfl)
theorem dL_law_1704 : decode cL_law 1704 = .ok (.dload 8, 2) := dk_24 8 (dk_at dksL_law_66 8 rfl rfl)
theorem dL_law_1706 : decode cL_law 1706 = .ok (.dcmp .l, 1) := dk_151 (dk_at dksL_law_66 10 rfl rfl)
theorem dL_law_1707 : decode cL_law 1707 = .ok (.ifCond .ne 5, 3) := dk_154 0 5 (dk_at dksL_law_66 11 rfl rfl)
theorem dL_law_1710 : decode cL_law 1710 = .ok (.iconst 0, 1) := dk_3 (dk_at dksL_law_66 14 rfl rfl)
theorem dL_law_1711 : decode cL_law 1711 = .ok (.ireturn, 1) := dk_172 (dk_at dksL_law_66 15 rfl rfl)
theorem dL_law_1712 : decode cL_law 1712 = .ok (.goto 675, 3) := dk_167 2 163 (dk_at dksL_law_66 16 rfl rfl)
theorem dL_law_1715 : decode cL_law 1715 = .ok (.aload_n 1, 1) := dk_43 (dk_at dksL_law_66 19 rfl rfl)
theorem dL_law_1716 : decode cL_law 1716 = .ok (.aload_n 0, 1) := dk_42 (dk_at dksL_law_66 20 rfl rfl)
theorem dL_law_1717 : decode cL_law 1717 = .ok (.iload 5, 2) := dk_21 5 (dk_at dksL_law_66 21 rfl rfl)
theorem dL_law_1719 : decode cL_law 1719 = .ok (.iconst 1, 1) := dk_4 (dk_at dksL_law_66 23 rfl rfl)
theorem dL_law_1720 : decode cL_law 1720 = .ok (.iadd, 1) := dk_96 (dk_at dksL_law_67 0 rfl rfl)
theorem dL_law_1721 : decode cL_law 1721 = .ok (.iaload, 1) := dk_46 (dk_at dksL_law_67 1 rfl rfl)
theorem dL_law_1722 : decode cL_law 1722 = .ok (.aload 4, 2) := dk_25 4 (dk_at dksL_law_67 2 rfl rfl)
theorem dL_law_1724 : decode cL_law 1724 = .ok (.invokestatic 221, 3) := dk_184 0 221 (dk_at dksL_law_67 4 rfl rfl)
theorem dL_law_1727 : decode cL_law 1727 = .ok (.istore 6, 2) := dk_54 6 (dk_at dksL_law_67 7 rfl rfl)
theorem dL_law_1729 : decode cL_law 1729 = .ok (.aload_n 2, 1) := dk_44 (dk_at dksL_law_67 9 rfl rfl)
theorem dL_law_1730 : decode cL_law 1730 = .ok (.aload_n 0, 1) := dk_42 (dk_at dksL_law_67 10 rfl rfl)
theorem dL_law_1731 : decode cL_law 1731 = .ok (.iload 5, 2) := dk_21 5 (dk_at dksL_law_67 11 rfl rfl)
theorem dL_law_1733 : decode cL_law 1733 = .ok (.iconst 1, 1) := dk_4 (dk_at dksL_law_67 13 rfl rfl)
theorem dL_law_1734 : decode cL_law 1734 = .ok (.iadd, 1) := dk_96 (dk_at dksL_law_67 14 rfl rfl)
theorem dL_law_1735 : decode cL_law 1735 = .ok (.iaload, 1) := dk_46 (dk_at dksL_law_67 15 rfl rfl)
theorem dL_law_1736 : decode cL_law 1736 = .ok (.invokevirtual 224, 3) := dk_182 0 224 (dk_at dksL_law_67 16 rfl rfl)
theorem dL_law_1739 : decode cL_law 1739 = .ok (.dstore 7, 2) := dk_57 7 (dk_at dksL_law_67 19 rfl rfl)
theorem dL_law_1741 : decode cL_law 1741 = .ok (.aload_n 2, 1) := dk_44 (dk_at dksL_law_67 21 rfl rfl)
theorem dL_law_1742 : decode cL_law 1742 = .ok (.invokevirtual 143, 3) := dk_182 0 143 (dk_at dksL_law_68 0 rfl rfl)
theorem dL_law_1745 : decode cL_law 1745 = .ok (.iload 6, 2) := dk_21 6 (dk_at dksL_law_68 3 rfl rfl)
theorem dL_law_1747 : decode cL_law 1747 = .ok (.if_icmp .eq 5, 3) := dk_159 0 5 (dk_at dksL_law_68 5 rfl rfl)
theorem dL_law_1750 : decode cL_law 1750 = .ok (.iconst 0, 1) := dk_3 (dk_at dksL_law_68 8 rfl rfl)
theorem dL_law_1751 : decode cL_law 1751 = .ok (.ireturn, 1) := dk_172 (dk_at dksL_law_68 9 rfl rfl)
theorem dL_law_1752 : decode cL_law 1752 = .ok (.iload 6, 2) := dk_21 6 (dk_at dksL_law_68 10 rfl rfl)
theorem dL_law_1754 : decode cL_law 1754 = .ok (.ifCond .ne 35, 3) := dk_154 0 35 (dk_at dksL_law_68 12 rfl rfl)
theorem dL_law_1757 : decode cL_law 1757 = .ok (.aload 4, 2) := dk_25 4 (dk_at dksL_law_68 15 rfl rfl)
theorem dL_law_1759 : decode cL_law 1759 = .ok (.iconst 0, 1) := dk_3 (dk_at dksL_law_68 17 rfl rfl)
theorem dL_law_1760 : decode cL_law 1760 = .ok (.daload, 1) := dk_49 (dk_at dksL_law_68 18 rfl rfl)
theorem dL_law_1761 : decode cL_law 1761 = .ok (.dload 7, 2) := dk_24 7 (dk_at dksL_law_68 19 rfl rfl)
theorem dL_law_1763 : decode cL_law 1763 = .ok (.dcmp .l, 1) := dk_151 (dk_at dksL_law_68 21 rfl rfl)
theorem dL_law_1764 : decode cL_law 1764 = .ok (.ifCond .eq 25, 3) := dk_153 0 25 (dk_at dksL_law_69 0 rfl rfl)
theorem dL_law_1767 : decode cL_law 1767 = .ok (.aload 4, 2) := dk_25 4 (dk_at dksL_law_69 3 rfl rfl)
theorem dL_law_1769 : decode cL_law 1769 = .ok (.iconst 0, 1) := dk_3 (dk_at dksL_law_69 5 rfl rfl)
theorem dL_law_1770 : decode cL_law 1770 = .ok (.daload, 1) := dk_49 (dk_at dksL_law_69 6 rfl rfl)
theorem dL_law_1771 : decode cL_law 1771 = .ok (.aload 4, 2) := dk_25 4 (dk_at dksL_law_69 7 rfl rfl)
theorem dL_law_1773 : decode cL_law 1773 = .ok (.iconst 0, 1) := dk_3 (dk_at dksL_law_69 9 rfl rfl)
theorem dL_law_1774 : decode cL_law 1774 = .ok (.daload, 1) := dk_49 (dk_at dksL_law_69 10 rfl rfl)
theorem dL_law_1775 : decode cL_law 1775 = .ok (.dcmp .l, 1) := dk_151 (dk_at dksL_law_69 11 rfl rfl)
theorem dL_law_1776 : decode cL_law 1776 = .ok (.ifCond .eq 11, 3) := dk_153 0 11 (dk_at dksL_law_69 12 rfl rfl)
theorem dL_law_1779 : decode cL_law 1779 = .ok (.dload 7, 2) := dk_24 7 (dk_at dksL_law_69 15 rfl rfl)
theorem dL_law_1781 : decode cL_law 1781 = .ok (.dload 7, 2) := dk_24 7 (dk_at dksL_law_69 17 rfl rfl)
theorem dL_law_1783 : decode cL_law 1783 = .ok (.dcmp .l, 1) := dk_151 (dk_at dksL_law_69 19 rfl rfl)
theorem dL_law_1784 : decode cL_law 1784 = .ok (.ifCond .ne 5, 3) := dk_154 0 5 (dk_at dksL_law_69 20 rfl rfl)
theorem dL_law_1787 : decode cL_law 1787 = .ok (.iconst 0, 1) := dk_3 (dk_at dksL_law_69 23 rfl rfl)
theorem dL_law_1788 : decode cL_law 1788 = .ok (.ireturn, 1) := dk_172 (dk_at dksL_law_70 0 rfl rfl)
theorem dL_law_1789 : decode cL_law 1789 = .ok (.goto 598, 3) := dk_167 2 86 (dk_at dksL_law_70 1 rfl rfl)
theorem dL_law_1792 : decode cL_law 1792 = .ok (.aload_n 1, 1) := dk_43 (dk_at dksL_law_70 4 rfl rfl)
theorem dL_law_1793 : decode cL_law 1793 = .ok (.aload_n 0, 1) := dk_42 (dk_at dksL_law_70 5 rfl rfl)
theorem dL_law_1794 : decode cL_law 1794 = .ok (.iload 5, 2) := dk_21 5 (dk_at dksL_law_70 6 rfl rfl)
theorem dL_law_1796 : decode cL_law 1796 = .ok (.iconst 1, 1) := dk_4 (dk_at dksL_law_70 8 rfl rfl)
theorem dL_law_1797 : decode cL_law 1797 = .ok (.iadd, 1) := dk_96 (dk_at dksL_law_70 9 rfl rfl)
theorem dL_law_1798 : decode cL_law 1798 = .ok (.iaload, 1) := dk_46 (dk_at dksL_law_70 10 rfl rfl)
theorem dL_law_1799 : decode cL_law 1799 = .ok (.aload_n 0, 1) := dk_42 (dk_at dksL_law_70 11 rfl rfl)
theorem dL_law_1800 : decode cL_law 1800 = .ok (.iload 5, 2) := dk_21 5 (dk_at dksL_law_70 12 rfl rfl)
theorem dL_law_1802 : decode cL_law 1802 = .ok (.iconst 2, 1) := dk_5 (dk_at dksL_law_70 14 rfl rfl)
theorem dL_law_1803 : decode cL_law 1803 = .ok (.iadd, 1) := dk_96 (dk_at dksL_law_70 15 rfl rfl)
theorem dL_law_1804 : decode cL_law 1804 = .ok (.iaload, 1) := dk_46 (dk_at dksL_law_70 16 rfl rfl)
theorem dL_law_1805 : decode cL_law 1805 = .ok (.aload_n 3, 1) := dk_45 (dk_at dksL_law_70 17 rfl rfl)
theorem dL_law_1806 : decode cL_law 1806 = .ok (.invokestatic 225, 3) := dk_184 0 225 (dk_at dksL_law_70 18 rfl rfl)
theorem dL_law_1809 : decode cL_law 1809 = .ok (.istore 6, 2) := dk_54 6 (dk_at dksL_law_70 21 rfl rfl)
theorem dL_law_1811 : decode cL_law 1811 = .ok (.aload_n 2, 1) := dk_44 (dk_at dksL_law_70 23 rfl rfl)
theorem dL_law_1812 : decode cL_law 1812 = .ok (.aload_n 0, 1) := dk_42 (dk_at dksL_law_71 0 rfl rfl)
theorem dL_law_1813 : decode cL_law 1813 = .ok (.iload 5, 2) := dk_21 5 (dk_at dksL_law_71 1 rfl rfl)
theorem dL_law_1815 : decode cL_law 1815 = .ok (.iconst 1, 1) := dk_4 (dk_at dksL_law_71 3 rfl rfl)
theorem dL_law_1816 : decode cL_law 1816 = .ok (.iadd, 1) := dk_96 (dk_at dksL_law_71 4 rfl rfl)
theorem dL_law_1817 : decode cL_law 1817 = .ok (.iaload, 1) := dk_46 (dk_at dksL_law_71 5 rfl rfl)
theorem dL_law_1818 : decode cL_law 1818 = .ok (.aload_n 0, 1) := dk_42 (dk_at dksL_law_71 6 rfl rfl)
theorem dL_law_1819 : decode cL_law 1819 = .ok (.iload 5, 2) := dk_21 5 (dk_at dksL_law_71 7 rfl rfl)
theorem dL_law_1821 : decode cL_law 1821 = .ok (.iconst 2, 1) := dk_5 (dk_at dksL_law_71 9 rfl rfl)
theorem dL_law_1822 : decode cL_law 1822 = .ok (.iadd, 1) := dk_96 (dk_at dksL_law_71 10 rfl rfl)
theorem dL_law_1823 : decode cL_law 1823 = .ok (.iaload, 1) := dk_46 (dk_at dksL_law_71 11 rfl rfl)
theorem dL_law_1824 : decode cL_law 1824 = .ok (.invokevirtual 227, 3) := dk_182 0 227 (dk_at dksL_law_71 12 rfl rfl)
theorem dL_law_1827 : decode cL_law 1827 = .ok (.istore 7, 2) := dk_54 7 (dk_at dksL_law_71 15 rfl rfl)
theorem dL_law_1829 : decode cL_law 1829 = .ok (.aload_n 2, 1) := dk_44 (dk_at dksL_law_71 17 rfl rfl)
theorem dL_law_1830 : decode cL_law 1830 = .ok (.invokevirtual 143, 3) := dk_182 0 143 (dk_at dksL_law_71 18 rfl rfl)
theorem dL_law_1833 : decode cL_law 1833 = .ok (.iload 6, 2) := dk_21 6 (dk_at dksL_law_71 21 rfl rfl)
theorem dL_law_1835 : decode cL_law 1835 = .ok (.if_icmp .eq 5, 3) := dk_159 0 5 (dk_at dksL_law_72 0 rfl rfl)
theorem dL_law_1838 : decode cL_law 1838 = .ok (.iconst 0, 1) := dk_3 (dk_at dksL_law_72 3 rfl rfl)
theorem dL_law_1839 : decode cL_law 1839 = .ok (.ireturn, 1) := dk_172 (dk_at dksL_law_72 4 rfl rfl)
theorem dL_law_1840 : decode cL_law 1840 = .ok (.iload 6, 2) := dk_21 6 (dk_at dksL_law_72 5 rfl rfl)
theorem dL_law_1842 : decode cL_law 1842 = .ok (.ifCond .ne 15, 3) := dk_154 0 15 (dk_at dksL_law_72 7 rfl rfl)
theorem dL_law_1845 : decode cL_law 1845 = .ok (.aload_n 3, 1) := dk_45 (dk_at dksL_law_72 10 rfl rfl)
theorem dL_law_1846 : decode cL_law 1846 = .ok (.iconst 0, 1) := dk_3 (dk_at dksL_law_72 11 rfl rfl)
theorem dL_law_1847 : decode cL_law 1847 = .ok (.laload, 1) := dk_47 (dk_at dksL_law_72 12 rfl rfl)
theorem dL_law_1848 : decode cL_law 1848 = .ok (.iload 7, 2) := dk_21 7 (dk_at dksL_law_72 13 rfl rfl)
theorem dL_law_1850 : decode cL_law 1850 = .ok (.i2l, 1) := dk_133 (dk_at dksL_law_72 15 rfl rfl)
theorem dL_law_1851 : decode cL_law 1851 = .ok (.lcmp, 1) := dk_148 (dk_at dksL_law_72 16 rfl rfl)
theorem dL_law_1852 : decode cL_law 1852 = .ok (.ifCond .eq 5, 3) := dk_153 0 5 (dk_at dksL_law_72 17 rfl rfl)
theorem dL_law_1855 : decode cL_law 1855 = .ok (.iconst 0, 1) := dk_3 (dk_at dksL_law_72 20 rfl rfl)
theorem dL_law_1856 : decode cL_law 1856 = .ok (.ireturn, 1) := dk_172 (dk_at dksL_law_72 21 rfl rfl)
theorem dL_law_1857 : decode cL_law 1857 = .ok (.goto 530, 3) := dk_167 2 18 (dk_at dksL_law_73 0 rfl rfl)
theorem dL_law_1860 : decode cL_law 1860 = .ok (.aload_n 1, 1) := dk_43 (dk_at dksL_law_73 3 rfl rfl)
theorem dL_law_1861 : decode cL_law 1861 = .ok (.aload_n 0, 1) := dk_42 (dk_at dksL_law_73 4 rfl rfl)
theorem dL_law_1862 : decode cL_law 1862 = .ok (.iload 5, 2) := dk_21 5 (dk_at dksL_law_73 5 rfl rfl)
theorem dL_law_1864 : decode cL_law 1864 = .ok (.iconst 1, 1) := dk_4 (dk_at dksL_law_73 7 rfl rfl)
theorem dL_law_1865 : decode cL_law 1865 = .ok (.iadd, 1) := dk_96 (dk_at dksL_law_73 8 rfl rfl)
theorem dL_law_1866 : decode cL_law 1866 = .ok (.iaload, 1) := dk_46 (dk_at dksL_law_73 9 rfl rfl)
theorem dL_law_1867 : decode cL_law 1867 = .ok (.aload_n 3, 1) := dk_45 (dk_at dksL_law_73 10 rfl rfl)
theorem dL_law_1868 : decode cL_law 1868 = .ok (.invokestatic 228, 3) := dk_184 0 228 (dk_at dksL_law_73 11 rfl rfl)
theorem dL_law_1871 : decode cL_law 1871 = .ok (.istore 6, 2) := dk_54 6 (dk_at dksL_law_73 14 rfl rfl)
theorem dL_law_1873 : decode cL_law 1873 = .ok (.aload_n 2, 1) := dk_44 (dk_at dksL_law_73 16 rfl rfl)
theorem dL_law_1874 : decode cL_law 1874 = .ok (.aload_n 0, 1) := dk_42 (dk_at dksL_law_73 17 rfl rfl)
theorem dL_law_1875 : decode cL_law 1875 = .ok (.iload 5, 2) := dk_21 5 (dk_at dksL_law_73 18 rfl rfl)
theorem dL_law_1877 : decode cL_law 1877 = .ok (.iconst 1, 1) := dk_4 (dk_at dksL_law_73 20 rfl rfl)
theorem dL_law_1878 : decode cL_law 1878 = .ok (.iadd, 1) := dk_96 (dk_at dksL_law_73 21 rfl rfl)
theorem dL_law_1879 : decode cL_law 1879 = .ok (.iaload, 1) := dk_46 (dk_at dksL_law_73 22 rfl rfl)
theorem dL_law_1880 : decode cL_law 1880 = .ok (.invokevirtual 230, 3) := dk_182 0 230 (dk_at dksL_law_74 0 rfl rfl)
theorem dL_law_1883 : decode cL_law 1883 = .ok (.istore 7, 2) := dk_54 7 (dk_at dksL_law_74 3 rfl rfl)
theorem dL_law_1885 : decode cL_law 1885 = .ok (.aload_n 2, 1) := dk_44 (dk_at dksL_law_74 5 rfl rfl)
theorem dL_law_1886 : decode cL_law 1886 = .ok (.invokevirtual 143, 3) := dk_182 0 143 (dk_at dksL_law_74 6 rfl rfl)
theorem dL_law_1889 : decode cL_law 1889 = .ok (.iload 6, 2) := dk_21 6 (dk_at dksL_law_74 9 rfl rfl)
theorem dL_law_1891 : decode cL_law 1891 = .ok (.if_icmp .eq 5, 3) := dk_159 0 5 (dk_at dksL_law_74 11 rfl rfl)
theorem dL_law_1894 : decode cL_law 1894 = .ok (.iconst 0, 1) := dk_3 (dk_at dksL_law_74 14 rfl rfl)
theorem dL_law_1895 : decode cL_law 1895 = .ok (.ireturn, 1) := dk_172 (dk_at dksL_law_74 15 rfl rfl)
theorem dL_law_1896 : decode cL_law 1896 = .ok (.iload 6, 2) := dk_21 6 (dk_at dksL_law_74 16 rfl rfl)
theorem dL_law_1898 : decode cL_law 1898 = .ok (.ifCond .ne 15, 3) := dk_154 0 15 (dk_at dksL_law_74 18 rfl rfl)
theorem dL_law_1901 : decode cL_law 1901 = .ok (.aload_n 3, 1) := dk_45 (dk_at dksL_law_74 21 rfl rfl)
theorem dL_law_1902 : decode cL_law 1902 = .ok (.iconst 0, 1) := dk_3 (dk_at dksL_law_74 22 rfl rfl)
theorem dL_law_1903 : decode cL_law 1903 = .ok (.laload, 1) := dk_47 (dk_at dksL_law_74 23 rfl rfl)
theorem dL_law_1904 : decode cL_law 1904 = .ok (.iload 7, 2) := dk_21 7 (dk_at dksL_law_75 0 rfl rfl)
theorem dL_law_1906 : decode cL_law 1906 = .ok (.i2l, 1) := dk_133 (dk_at dksL_law_75 2 rfl rfl)
theorem dL_law_1907 : decode cL_law 1907 = .ok (.lcmp, 1) := dk_148 (dk_at dksL_law_75 3 rfl rfl)
theorem dL_law_1908 : decode cL_law 1908 = .ok (.ifCond .eq 5, 3) := dk_153 0 5 (dk_at dksL_law_75 4 rfl rfl)
theorem dL_law_1911 : decode cL_law 1911 = .ok (.iconst 0, 1) := dk_3 (dk_at dksL_law_75 7 rfl rfl)
theorem dL_law_1912 : decode cL_law 1912 = .ok (.ireturn, 1) := dk_172 (dk_at dksL_law_75 8 rfl rfl)
theorem dL_law_1913 : decode cL_law 1913 = .ok (.goto 474, 3) := dk_167 1 218 (dk_at dksL_law_75 9 rfl rfl)
theorem dL_law_1916 : decode cL_law 1916 = .ok (.aload_n 1, 1) := dk_43 (dk_at dksL_law_75 12 rfl rfl)
theorem dL_law_1917 : decode cL_law 1917 = .ok (.aload_n 0, 1) := dk_42 (dk_at dksL_law_75 13 rfl rfl)
theorem dL_law_1918 : decode cL_law 1918 = .ok (.iload 5, 2) := dk_21 5 (dk_at dksL_law_75 14 rfl rfl)
theorem dL_law_1920 : decode cL_law 1920 = .ok (.iconst 1, 1) := dk_4 (dk_at dksL_law_75 16 rfl rfl)
theorem dL_law_1921 : decode cL_law 1921 = .ok (.iadd, 1) := dk_96 (dk_at dksL_law_75 17 rfl rfl)
theorem dL_law_1922 : decode cL_law 1922 = .ok (.iaload, 1) := dk_46 (dk_at dksL_law_75 18 rfl rfl)
theorem dL_law_1923 : decode cL_law 1923 = .ok (.aload_n 3, 1) := dk_45 (dk_at dksL_law_75 19 rfl rfl)
theorem dL_law_1924 : decode cL_law 1924 = .ok (.invokestatic 231, 3) := dk_184 0 231 (dk_at dksL_law_75 20 rfl rfl)
theorem dL_law_1927 : decode cL_law 1927 = .ok (.istore 6, 2) := dk_54 6 (dk_at dksL_law_76 0 rfl rfl)
theorem dL_law_1929 : decode cL_law 1929 = .ok (.aload_n 2, 1) := dk_44 (dk_at dksL_law_76 2 rfl rfl)
theorem dL_law_1930 : decode cL_law 1930 = .ok (.aload_n 0, 1) := dk_42 (dk_at dksL_law_76 3 rfl rfl)
theorem dL_law_1931 : decode cL_law 1931 = .ok (.iload 5, 2) := dk_21 5 (dk_at dksL_law_76 4 rfl rfl)
theorem dL_law_1933 : decode cL_law 1933 = .ok (.iconst 1, 1) := dk_4 (dk_at dksL_law_76 6 rfl rfl)
theorem dL_law_1934 : decode cL_law 1934 = .ok (.iadd, 1) := dk_96 (dk_at dksL_law_76 7 rfl rfl)
theorem dL_law_1935 : decode cL_law 1935 = .ok (.iaload, 1) := dk_46 (dk_at dksL_law_76 8 rfl rfl)
theorem dL_law_1936 : decode cL_law 1936 = .ok (.invokevirtual 233, 3) := dk_182 0 233 (dk_at dksL_law_76 9 rfl rfl)
theorem dL_law_1939 : decode cL_law 1939 = .ok (.istore 7, 2) := dk_54 7 (dk_at dksL_law_76 12 rfl rfl)
theorem dL_law_1941 : decode cL_law 1941 = .ok (.aload_n 2, 1) := dk_44 (dk_at dksL_law_76 14 rfl rfl)
theorem dL_law_1942 : decode cL_law 1942 = .ok (.invokevirtual 143, 3) := dk_182 0 143 (dk_at dksL_law_76 15 rfl rfl)
theorem dL_law_1945 : decode cL_law 1945 = .ok (.iload 6, 2) := dk_21 6 (dk_at dksL_law_76 18 rfl rfl)
theorem dL_law_1947 : decode cL_law 1947 = .ok (.if_icmp .eq 5, 3) := dk_159 0 5 (dk_at dksL_law_76 20 rfl rfl)
theorem dL_law_1950 : decode cL_law 1950 = .ok (.iconst 0, 1) := dk_3 (dk_at dksL_law_76 23 rfl rfl)
theorem dL_law_1951 : decode cL_law 1951 = .ok (.ireturn, 1) := dk_172 (dk_at dksL_law_77 0 rfl rfl)
theorem dL_law_1952 : decode cL_law 1952 = .ok (.iload 6, 2) := dk_21 6 (dk_at dksL_law_77 1 rfl rfl)
theorem dL_law_1954 : decode cL_law 1954 = .ok (.ifCond .ne 15, 3) := dk_154 0 15 (dk_at dksL_law_77 3 rfl rfl)
theorem dL_law_1957 : decode cL_law 1957 = .ok (.aload_n 3, 1) := dk_45 (dk_at dksL_law_77 6 rfl rfl)
theorem dL_law_1958 : decode cL_law 1958 = .ok (.iconst 0, 1) := dk_3 (dk_at dksL_law_77 7 rfl rfl)
theorem dL_law_1959 : decode cL_law 1959 = .ok (.laload, 1) := dk_47 (dk_at dksL_law_77 8 rfl rfl)
theorem dL_law_1960 : decode cL_law 1960 = .ok (.iload 7, 2) := dk_21 7 (dk_at dksL_law_77 9 rfl rfl)
theorem dL_law_1962 : decode cL_law 1962 = .ok (.i2l, 1) := dk_133 (dk_at dksL_law_77 11 rfl rfl)
theorem dL_law_1963 : decode cL_law 1963 = .ok (.lcmp, 1) := dk_148 (dk_at dksL_law_77 12 rfl rfl)
theorem dL_law_1964 : decode cL_law 1964 = .ok (.ifCond .eq 5, 3) := dk_153 0 5 (dk_at dksL_law_77 13 rfl rfl)
theorem dL_law_1967 : decode cL_law 1967 = .ok (.iconst 0, 1) := dk_3 (dk_at dksL_law_77 16 rfl rfl)
theorem dL_law_1968 : decode cL_law 1968 = .ok (.ireturn, 1) := dk_172 (dk_at dksL_law_77 17 rfl rfl)
theorem dL_law_1969 : decode cL_law 1969 = .ok (.goto 418, 3) := dk_167 1 162 (dk_at dksL_law_77 18 rfl rfl)
theorem dL_law_1972 : decode cL_law 1972 = .ok (.aload_n 1, 1) := dk_43 (dk_at dksL_law_77 21 rfl rfl)
theorem dL_law_1973 : decode cL_law 1973 = .ok (.aload_n 0, 1) := dk_42 (dk_at dksL_law_77 22 rfl rfl)
theorem dL_law_1974 : decode cL_law 1974 = .ok (.iload 5, 2) := dk_21 5 (dk_at dksL_law_78 0 rfl rfl)
theorem dL_law_1976 : decode cL_law 1976 = .ok (.iconst 1, 1) := dk_4 (dk_at dksL_law_78 2 rfl rfl)
theorem dL_law_1977 : decode cL_law 1977 = .ok (.iadd, 1) := dk_96 (dk_at dksL_law_78 3 rfl rfl)
theorem dL_law_1978 : decode cL_law 1978 = .ok (.iaload, 1) := dk_46 (dk_at dksL_law_78 4 rfl rfl)
theorem dL_law_1979 : decode cL_law 1979 = .ok (.aload_n 0, 1) := dk_42 (dk_at dksL_law_78 5 rfl rfl)
theorem dL_law_1980 : decode cL_law 1980 = .ok (.iload 5, 2) := dk_21 5 (dk_at dksL_law_78 6 rfl rfl)
theorem dL_law_1982 : decode cL_law 1982 = .ok (.iconst 2, 1) := dk_5 (dk_at dksL_law_78 8 rfl rfl)
theorem dL_law_1983 : decode cL_law 1983 = .ok (.iadd, 1) := dk_96 (dk_at dksL_law_78 9 rfl rfl)
theorem dL_law_1984 : decode cL_law 1984 = .ok (.iaload, 1) := dk_46 (dk_at dksL_law_78 10 rfl rfl)
theorem dL_law_1985 : decode cL_law 1985 = .ok (.ifCond .eq 7, 3) := dk_153 0 7 (dk_at dksL_law_78 11 rfl rfl)
theorem dL_law_1988 : decode cL_law 1988 = .ok (.iconst 1, 1) := dk_4 (dk_at dksL_law_78 14 rfl rfl)
theorem dL_law_1989 : decode cL_law 1989 = .ok (.goto 4, 3) := dk_167 0 4 (dk_at dksL_law_78 15 rfl rfl)
theorem dL_law_1992 : decode cL_law 1992 = .ok (.iconst 0, 1) := dk_3 (dk_at dksL_law_78 18 rfl rfl)
theorem dL_law_1993 : decode cL_law 1993 = .ok (.aload_n 3, 1) := dk_45 (dk_at dksL_law_78 19 rfl rfl)
theorem dL_law_1994 : decode cL_law 1994 = .ok (.invokestatic 234, 3) := dk_184 0 234 (dk_at dksL_law_78 20 rfl rfl)
theorem dL_law_1997 : decode cL_law 1997 = .ok (.istore 6, 2) := dk_54 6 (dk_at dksL_law_79 0 rfl rfl)
theorem dL_law_1999 : decode cL_law 1999 = .ok (.aload_n 2, 1) := dk_44 (dk_at dksL_law_79 2 rfl rfl)
theorem dL_law_2000 : decode cL_law 2000 = .ok (.aload_n 0, 1) := dk_42 (dk_at dksL_law_79 3 rfl rfl)
theorem dL_law_2001 : decode cL_law 2001 = .ok (.iload 5, 2) := dk_21 5 (dk_at dksL_law_79 4 rfl rfl)
theorem dL_law_2003 : decode cL_law 2003 = .ok (.iconst 1, 1) := dk_4 (dk_at dksL_law_79 6 rfl rfl)
theorem dL_law_2004 : decode cL_law 2004 = .ok (.iadd, 1) := dk_96 (dk_at dksL_law_79 7 rfl rfl)
theorem dL_law_2005 : decode cL_law 2005 = .ok (.iaload, 1) := dk_46 (dk_at dksL_law_79 8 rfl rfl)
theorem dL_law_2006 : decode cL_law 2006 = .ok (.aload_n 0, 1) := dk_42 (dk_at dksL_law_79 9 rfl rfl)
theorem dL_law_2007 : decode cL_law 2007 = .ok (.iload 5, 2) := dk_21 5 (dk_at dksL_law_79 10 rfl rfl)
theorem dL_law_2009 : decode cL_law 2009 = .ok (.iconst 2, 1) := dk_5 (dk_at dksL_law_79 12 rfl rfl)
theorem dL_law_2010 : decode cL_law 2010 = .ok (.iadd, 1) := dk_96 (dk_at dksL_law_79 13 rfl rfl)
theorem dL_law_2011 : decode cL_law 2011 = .ok (.iaload, 1) := dk_46 (dk_at dksL_law_79 14 rfl rfl)
theorem dL_law_2012 : decode cL_law 2012 = .ok (.ifCond .eq 7, 3) := dk_153 0 7 (dk_at dksL_law_79 15 rfl rfl)
theorem dL_law_2015 : decode cL_law 2015 = .ok (.iconst 1, 1) := dk_4 (dk_at dksL_law_79 18 rfl rfl)
theorem dL_law_2016 : decode cL_law 2016 = .ok (.goto 4, 3) := dk_167 0 4 (dk_at dksL_law_79 19 rfl rfl)
theorem dL_law_2019 : decode cL_law 2019 = .ok (.iconst 0, 1) := dk_3 (dk_at dksL_law_79 22 rfl rfl)
theorem dL_law_2020 : decode cL_law 2020 = .ok (.invokevirtual 237, 3) := dk_182 0 237 (dk_at dksL_law_80 0 rfl rfl)
theorem dL_law_2023 : decode cL_law 2023 = .ok (.istore 7, 2) := dk_54 7 (dk_at dksL_law_80 3 rfl rfl)
theorem dL_law_2025 : decode cL_law 2025 = .ok (.aload_n 2, 1) := dk_44 (dk_at dksL_law_80 5 rfl rfl)
theorem dL_law_2026 : decode cL_law 2026 = .ok (.invokevirtual 143, 3) := dk_182 0 143 (dk_at dksL_law_80 6 rfl rfl)
theorem dL_law_2029 : decode cL_law 2029 = .ok (.iload 6, 2) := dk_21 6 (dk_at dksL_law_80 9 rfl rfl)
theorem dL_law_2031 : decode cL_law 2031 = .ok (.if_icmp .eq 5, 3) := dk_159 0 5 (dk_at dksL_law_80 11 rfl rfl)
theorem dL_law_2034 : decode cL_law 2034 = .ok (.iconst 0, 1) := dk_3 (dk_at dksL_law_80 14 rfl rfl)
theorem dL_law_2035 : decode cL_law 2035 = .ok (.ireturn, 1) := dk_172 (dk_at dksL_law_80 15 rfl rfl)
theorem dL_law_2036 : decode cL_law 2036 = .ok (.iload 6, 2) := dk_21 6 (dk_at dksL_law_80 16 rfl rfl)
theorem dL_law_2038 : decode cL_law 2038 = .ok (.ifCond .ne 15, 3) := dk_154 0 15 (dk_at dksL_law_80 18 rfl rfl)
theorem dL_law_2041 : decode cL_law 2041 = .ok (.aload_n 3, 1) := dk_45 (dk_at dksL_law_80 21 rfl rfl)
theorem dL_law_2042 : decode cL_law 2042 = .ok (.iconst 0, 1) := dk_3 (dk_at dksL_law_80 22 rfl rfl)
theorem dL_law_2043 : decode cL_law 2043 = .ok (.laload, 1) := dk_47 (dk_at dksL_law_80 23 rfl rfl)
theorem dL_law_2044 : decode cL_law 2044 = .ok (.iload 7, 2) := dk_21 7 (dk_at dksL_law_81 0 rfl rfl)
theorem dL_law_2046 : decode cL_law 2046 = .ok (.i2l, 1) := dk_133 (dk_at dksL_law_81 2 rfl rfl)
theorem dL_law_2047 : decode cL_law 2047 = .ok (.lcmp, 1) := dk_148 (dk_at dksL_law_81 3 rfl rfl)
theorem dL_law_2048 : decode cL_law 2048 = .ok (.ifCond .eq 5, 3) := dk_153 0 5 (dk_at dksL_law_81 4 rfl rfl)
theorem dL_law_2051 : decode cL_law 2051 = .ok (.iconst 0, 1) := dk_3 (dk_at dksL_law_81 7 rfl rfl)
theorem dL_law_2052 : decode cL_law 2052 = .ok (.ireturn, 1) := dk_172 (dk_at dksL_law_81 8 rfl rfl)
theorem dL_law_2053 : decode cL_law 2053 = .ok (.goto 334, 3) := dk_167 1 78 (dk_at dksL_law_81 9 rfl rfl)
theorem dL_law_2056 : decode cL_law 2056 = .ok (.aload_n 1, 1) := dk_43 (dk_at dksL_law_81 12 rfl rfl)
theorem dL_law_2057 : decode cL_law 2057 = .ok (.aload_n 0, 1) := dk_42 (dk_at dksL_law_81 13 rfl rfl)
theorem dL_law_2058 : decode cL_law 2058 = .ok (.iload 5, 2) := dk_21 5 (dk_at dksL_law_81 14 rfl rfl)
theorem dL_law_2060 : decode cL_law 2060 = .ok (.iconst 1, 1) := dk_4 (dk_at dksL_law_81 16 rfl rfl)
theorem dL_law_2061 : decode cL_law 2061 = .ok (.iadd, 1) := dk_96 (dk_at dksL_law_81 17 rfl rfl)
theorem dL_law_2062 : decode cL_law 2062 = .ok (.iaload, 1) := dk_46 (dk_at dksL_law_81 18 rfl rfl)
theorem dL_law_2063 : decode cL_law 2063 = .ok (.aload_n 0, 1) := dk_42 (dk_at dksL_law_81 19 rfl rfl)
theorem dL_law_2064 : decode cL_law 2064 = .ok (.iload 5, 2) := dk_21 5 (dk_at dksL_law_81 20 rfl rfl)
theorem dL_law_2066 : decode cL_law 2066 = .ok (.iconst 2, 1) := dk_5 (dk_at dksL_law_81 22 rfl rfl)
theorem dL_law_2067 : decode cL_law 2067 = .ok (.iadd, 1) := dk_96 (dk_at dksL_law_81 23 rfl rfl)
theorem dL_law_2068 : decode cL_law 2068 = .ok (.iaload, 1) := dk_46 (dk_at dksL_law_82 0 rfl rfl)
theorem dL_law_2069 : decode cL_law 2069 = .ok (.aload_n 3, 1) := dk_45 (dk_at dksL_law_82 1 rfl rfl)
theorem dL_law_2070 : decode cL_law 2070 = .ok (.invokestatic 238, 3) := dk_184 0 238 (dk_at dksL_law_82 2 rfl rfl)
theorem dL_law_2073 : decode cL_law 2073 = .ok (.istore 6, 2) := dk_54 6 (dk_at dksL_law_82 5 rfl rfl)
theorem dL_law_2075 : decode cL_law 2075 = .ok (.aload_n 2, 1) := dk_44 (dk_at dksL_law_82 7 rfl rfl)
theorem dL_law_2076 : decode cL_law 2076 = .ok (.aload_n 0, 1) := dk_42 (dk_at dksL_law_82 8 rfl rfl)
theorem dL_law_2077 : decode cL_law 2077 = .ok (.iload 5, 2) := dk_21 5 (dk_at dksL_law_82 9 rfl rfl)
theorem dL_law_2079 : decode cL_law 2079 = .ok (.iconst 1, 1) := dk_4 (dk_at dksL_law_82 11 rfl rfl)
theorem dL_law_2080 : decode cL_law 2080 = .ok (.iadd, 1) := dk_96 (dk_at dksL_law_82 12 rfl rfl)
theorem dL_law_2081 : decode cL_law 2081 = .ok (.iaload, 1) := dk_46 (dk_at dksL_law_82 13 rfl rfl)
theorem dL_law_2082 : decode cL_law 2082 = .ok (.aload_n 0, 1) := dk_42 (dk_at dksL_law_82 14 rfl rfl)
theorem dL_law_2083 : decode cL_law 2083 = .ok (.iload 5, 2) := dk_21 5 (dk_at dksL_law_82 15 rfl rfl)
theorem dL_law_2085 : decode cL_law 2085 = .ok (.iconst 2, 1) := dk_5 (dk_at dksL_law_82 17 rfl rfl)
theorem dL_law_2086 : decode cL_law 2086 = .ok (.iadd, 1) := dk_96 (dk_at dksL_law_82 18 rfl rfl)
theorem dL_law_2087 : decode cL_law 2087 = .ok (.iaload, 1) := dk_46 (dk_at dksL_law_82 19 rfl rfl)
theorem dL_law_2088 : decode cL_law 2088 = .ok (.invokevirtual 240, 3) := dk_182 0 240 (dk_at dksL_law_82 20 rfl rfl)
theorem dL_law_2091 : decode cL_law 2091 = .ok (.istore 7, 2) := dk_54 7 (dk_at dksL_law_83 0 rfl rfl)
theorem dL_law_2093 : decode cL_law 2093 = .ok (.aload_n 2, 1) := dk_44 (dk_at dksL_law_83 2 rfl rfl)
theorem dL_law_2094 : decode cL_law 2094 = .ok (.invokevirtual 143, 3) := dk_182 0 143 (dk_at dksL_law_83 3 rfl rfl)
theorem dL_law_2097 : decode cL_law 2097 = .ok (.iload 6, 2) := dk_21 6 (dk_at dksL_law_83 6 rfl rfl)
theorem dL_law_2099 : decode cL_law 2099 = .ok (.if_icmp .eq 5, 3) := dk_159 0 5 (dk_at dksL_law_83 8 rfl rfl)
theorem dL_law_2102 : decode cL_law 2102 = .ok (.iconst 0, 1) := dk_3 (dk_at dksL_law_83 11 rfl rfl)
theorem dL_law_2103 : decode cL_law 2103 = .ok (.ireturn, 1) := dk_172 (dk_at dksL_law_83 12 rfl rfl)
theorem dL_law_2104 : decode cL_law 2104 = .ok (.iload 6, 2) := dk_21 6 (dk_at dksL_law_83 13 rfl rfl)
theorem dL_law_2106 : decode cL_law 2106 = .ok (.ifCond .ne 15, 3) := dk_154 0 15 (dk_at dksL_law_83 15 rfl rfl)
theorem dL_law_2109 : decode cL_law 2109 = .ok (.aload_n 3, 1) := dk_45 (dk_at dksL_law_83 18 rfl rfl)
theorem dL_law_2110 : decode cL_law 2110 = .ok (.iconst 0, 1) := dk_3 (dk_at dksL_law_83 19 rfl rfl)
theorem dL_law_2111 : decode cL_law 2111 = .ok (.laload, 1) := dk_47 (dk_at dksL_law_83 20 rfl rfl)
theorem dL_law_2112 : decode cL_law 2112 = .ok (.iload 7, 2) := dk_21 7 (dk_at dksL_law_83 21 rfl rfl)
theorem dL_law_2114 : decode cL_law 2114 = .ok (.i2l, 1) := dk_133 (dk_at dksL_law_83 23 rfl rfl)
theorem dL_law_2115 : decode cL_law 2115 = .ok (.lcmp, 1) := dk_148 (dk_at dksL_law_84 0 rfl rfl)
theorem dL_law_2116 : decode cL_law 2116 = .ok (.ifCond .eq 5, 3) := dk_153 0 5 (dk_at dksL_law_84 1 rfl rfl)
theorem dL_law_2119 : decode cL_law 2119 = .ok (.iconst 0, 1) := dk_3 (dk_at dksL_law_84 4 rfl rfl)
theorem dL_law_2120 : decode cL_law 2120 = .ok (.ireturn, 1) := dk_172 (dk_at dksL_law_84 5 rfl rfl)
theorem dL_law_2121 : decode cL_law 2121 = .ok (.goto 266, 3) := dk_167 1 10 (dk_at dksL_law_84 6 rfl rfl)
theorem dL_law_2124 : decode cL_law 2124 = .ok (.aload_n 1, 1) := dk_43 (dk_at dksL_law_84 9 rfl rfl)
theorem dL_law_2125 : decode cL_law 2125 = .ok (.aload_n 0, 1) := dk_42 (dk_at dksL_law_84 10 rfl rfl)
theorem dL_law_2126 : decode cL_law 2126 = .ok (.iload 5, 2) := dk_21 5 (dk_at dksL_law_84 11 rfl rfl)
theorem dL_law_2128 : decode cL_law 2128 = .ok (.iconst 1, 1) := dk_4 (dk_at dksL_law_84 13 rfl rfl)
theorem dL_law_2129 : decode cL_law 2129 = .ok (.iadd, 1) := dk_96 (dk_at dksL_law_84 14 rfl rfl)
theorem dL_law_2130 : decode cL_law 2130 = .ok (.iaload, 1) := dk_46 (dk_at dksL_law_84 15 rfl rfl)
theorem dL_law_2131 : decode cL_law 2131 = .ok (.aload_n 0, 1) := dk_42 (dk_at dksL_law_84 16 rfl rfl)
theorem dL_law_2132 : decode cL_law 2132 = .ok (.iload 5, 2) := dk_21 5 (dk_at dksL_law_84 17 rfl rfl)
theorem dL_law_2134 : decode cL_law 2134 = .ok (.iconst 2, 1) := dk_5 (dk_at dksL_law_84 19 rfl rfl)
theorem dL_law_2135 : decode cL_law 2135 = .ok (.iadd, 1) := dk_96 (dk_at dksL_law_84 20 rfl rfl)
theorem dL_law_2136 : decode cL_law 2136 = .ok (.iaload, 1) := dk_46 (dk_at dksL_law_84 21 rfl rfl)
theorem dL_law_2137 : decode cL_law 2137 = .ok (.aload_n 3, 1) := dk_45 (dk_at dksL_law_84 22 rfl rfl)
theorem dL_law_2138 : decode cL_law 2138 = .ok (.invokestatic 241, 3) := dk_184 0 241 (dk_at dksL_law_85 0 rfl rfl)
theorem dL_law_2141 : decode cL_law 2141 = .ok (.istore 6, 2) := dk_54 6 (dk_at dksL_law_85 3 rfl rfl)
theorem dL_law_2143 : decode cL_law 2143 = .ok (.aload_n 2, 1) := dk_44 (dk_at dksL_law_85 5 rfl rfl)
theorem dL_law_2144 : decode cL_law 2144 = .ok (.aload_n 0, 1) := dk_42 (dk_at dksL_law_85 6 rfl rfl)
theorem dL_law_2145 : decode cL_law 2145 = .ok (.iload 5, 2) := dk_21 5 (dk_at dksL_law_85 7 rfl rfl)
theorem dL_law_2147 : decode cL_law 2147 = .ok (.iconst 1, 1) := dk_4 (dk_at dksL_law_85 9 rfl rfl)
theorem dL_law_2148 : decode cL_law 2148 = .ok (.iadd, 1) := dk_96 (dk_at dksL_law_85 10 rfl rfl)
theorem dL_law_2149 : decode cL_law 2149 = .ok (.iaload, 1) := dk_46 (dk_at dksL_law_85 11 rfl rfl)
theorem dL_law_2150 : decode cL_law 2150 = .ok (.aload_n 0, 1) := dk_42 (dk_at dksL_law_85 12 rfl rfl)
theorem dL_law_2151 : decode cL_law 2151 = .ok (.iload 5, 2) := dk_21 5 (dk_at dksL_law_85 13 rfl rfl)
theorem dL_law_2153 : decode cL_law 2153 = .ok (.iconst 2, 1) := dk_5 (dk_at dksL_law_85 15 rfl rfl)
theorem dL_law_2154 : decode cL_law 2154 = .ok (.iadd, 1) := dk_96 (dk_at dksL_law_85 16 rfl rfl)
theorem dL_law_2155 : decode cL_law 2155 = .ok (.iaload, 1) := dk_46 (dk_at dksL_law_85 17 rfl rfl)
theorem dL_law_2156 : decode cL_law 2156 = .ok (.invokevirtual 243, 3) := dk_182 0 243 (dk_at dksL_law_85 18 rfl rfl)
theorem dL_law_2159 : decode cL_law 2159 = .ok (.istore 7, 2) := dk_54 7 (dk_at dksL_law_85 21 rfl rfl)
theorem dL_law_2161 : decode cL_law 2161 = .ok (.aload_n 2, 1) := dk_44 (dk_at dksL_law_85 23 rfl rfl)
theorem dL_law_2162 : decode cL_law 2162 = .ok (.invokevirtual 143, 3) := dk_182 0 143 (dk_at dksL_law_86 0 rfl rfl)
theorem dL_law_2165 : decode cL_law 2165 = .ok (.iload 6, 2) := dk_21 6 (dk_at dksL_law_86 3 rfl rfl)
theorem dL_law_2167 : decode cL_law 2167 = .ok (.if_icmp .eq 5, 3) := dk_159 0 5 (dk_at dksL_law_86 5 rfl rfl)
theorem dL_law_2170 : decode cL_law 2170 = .ok (.iconst 0, 1) := dk_3 (dk_at dksL_law_86 8 rfl rfl)
theorem dL_law_2171 : decode cL_law 2171 = .ok (.ireturn, 1) := dk_172 (dk_at dksL_law_86 9 rfl rfl)
theorem dL_law_2172 : decode cL_law 2172 = .ok (.iload 6, 2) := dk_21 6 (dk_at dksL_law_86 10 rfl rfl)
theorem dL_law_2174 : decode cL_law 2174 = .ok (.ifCond .ne 15, 3) := dk_154 0 15 (dk_at dksL_law_86 12 rfl rfl)
theorem dL_law_2177 : decode cL_law 2177 = .ok (.aload_n 3, 1) := dk_45 (dk_at dksL_law_86 15 rfl rfl)
theorem dL_law_2178 : decode cL_law 2178 = .ok (.iconst 0, 1) := dk_3 (dk_at dksL_law_86 16 rfl rfl)
theorem dL_law_2179 : decode cL_law 2179 = .ok (.laload, 1) := dk_47 (dk_at dksL_law_86 17 rfl rfl)
theorem dL_law_2180 : decode cL_law 2180 = .ok (.iload 7, 2) := dk_21 7 (dk_at dksL_law_86 18 rfl rfl)
theorem dL_law_2182 : decode cL_law 2182 = .ok (.i2l, 1) := dk_133 (dk_at dksL_law_86 20 rfl rfl)
theorem dL_law_2183 : decode cL_law 2183 = .ok (.lcmp, 1) := dk_148 (dk_at dksL_law_86 21 rfl rfl)
theorem dL_law_2184 : decode cL_law 2184 = .ok (.ifCond .eq 5, 3) := dk_153 0 5 (dk_at dksL_law_87 0 rfl rfl)
theorem dL_law_2187 : decode cL_law 2187 = .ok (.iconst 0, 1) := dk_3 (dk_at dksL_law_87 3 rfl rfl)
theorem dL_law_2188 : decode cL_law 2188 = .ok (.ireturn, 1) := dk_172 (dk_at dksL_law_87 4 rfl rfl)
theorem dL_law_2189 : decode cL_law 2189 = .ok (.goto 198, 3) := dk_167 0 198 (dk_at dksL_law_87 5 rfl rfl)
theorem dL_law_2192 : decode cL_law 2192 = .ok (.aload_n 1, 1) := dk_43 (dk_at dksL_law_87 8 rfl rfl)
theorem dL_law_2193 : decode cL_law 2193 = .ok (.aload_n 3, 1) := dk_45 (dk_at dksL_law_87 9 rfl rfl)
theorem dL_law_2194 : decode cL_law 2194 = .ok (.invokestatic 244, 3) := dk_184 0 244 (dk_at dksL_law_87 10 rfl rfl)
theorem dL_law_2197 : decode cL_law 2197 = .ok (.istore 6, 2) := dk_54 6 (dk_at dksL_law_87 13 rfl rfl)
theorem dL_law_2199 : decode cL_law 2199 = .ok (.aload_n 2, 1) := dk_44 (dk_at dksL_law_87 15 rfl rfl)
theorem dL_law_2200 : decode cL_law 2200 = .ok (.invokevirtual 247, 3) := dk_182 0 247 (dk_at dksL_law_87 16 rfl rfl)
theorem dL_law_2203 : decode cL_law 2203 = .ok (.istore 7, 2) := dk_54 7 (dk_at dksL_law_87 19 rfl rfl)
theorem dL_law_2205 : decode cL_law 2205 = .ok (.aload_n 2, 1) := dk_44 (dk_at dksL_law_87 21 rfl rfl)
theorem dL_law_2206 : decode cL_law 2206 = .ok (.invokevirtual 143, 3) := dk_182 0 143 (dk_at dksL_law_88 0 rfl rfl)
theorem dL_law_2209 : decode cL_law 2209 = .ok (.iload 6, 2) := dk_21 6 (dk_at dksL_law_88 3 rfl rfl)
theorem dL_law_2211 : decode cL_law 2211 = .ok (.if_icmp .eq 5, 3) := dk_159 0 5 (dk_at dksL_law_88 5 rfl rfl)
theorem dL_law_2214 : decode cL_law 2214 = .ok (.iconst 0, 1) := dk_3 (dk_at dksL_law_88 8 rfl rfl)
theorem dL_law_2215 : decode cL_law 2215 = .ok (.ireturn, 1) := dk_172 (dk_at dksL_law_88 9 rfl rfl)
theorem dL_law_2216 : decode cL_law 2216 = .ok (.iload 6, 2) := dk_21 6 (dk_at dksL_law_88 10 rfl rfl)
theorem dL_law_2218 : decode cL_law 2218 = .ok (.ifCond .ne 15, 3) := dk_154 0 15 (dk_at dksL_law_88 12 rfl rfl)
theorem dL_law_2221 : decode cL_law 2221 = .ok (.aload_n 3, 1) := dk_45 (dk_at dksL_law_88 15 rfl rfl)
theorem dL_law_2222 : decode cL_law 2222 = .ok (.iconst 0, 1) := dk_3 (dk_at dksL_law_88 16 rfl rfl)
theorem dL_law_2223 : decode cL_law 2223 = .ok (.laload, 1) := dk_47 (dk_at dksL_law_88 17 rfl rfl)
theorem dL_law_2224 : decode cL_law 2224 = .ok (.iload 7, 2) := dk_21 7 (dk_at dksL_law_88 18 rfl rfl)
theorem dL_law_2226 : decode cL_law 2226 = .ok (.i2l, 1) := dk_133 (dk_at dksL_law_88 20 rfl rfl)
theorem dL_law_2227 : decode cL_law 2227 = .ok (.lcmp, 1) := dk_148 (dk_at dksL_law_88 21 rfl rfl)
theorem dL_law_2228 : decode cL_law 2228 = .ok (.ifCond .eq 5, 3) := dk_153 0 5 (dk_at dksL_law_89 0 rfl rfl)
theorem dL_law_2231 : decode cL_law 2231 = .ok (.iconst 0, 1) := dk_3 (dk_at dksL_law_89 3 rfl rfl)
theorem dL_law_2232 : decode cL_law 2232 = .ok (.ireturn, 1) := dk_172 (dk_at dksL_law_89 4 rfl rfl)
theorem dL_law_2233 : decode cL_law 2233 = .ok (.goto 154, 3) := dk_167 0 154 (dk_at dksL_law_89 5 rfl rfl)
theorem dL_law_2236 : decode cL_law 2236 = .ok (.aload_n 1, 1) := dk_43 (dk_at dksL_law_89 8 rfl rfl)
theorem dL_law_2237 : decode cL_law 2237 = .ok (.aload_n 0, 1) := dk_42 (dk_at dksL_law_89 9 rfl rfl)
theorem dL_law_2238 : decode cL_law 2238 = .ok (.iload 5, 2) := dk_21 5 (dk_at dksL_law_89 10 rfl rfl)
theorem dL_law_2240 : decode cL_law 2240 = .ok (.iconst 1, 1) := dk_4 (dk_at dksL_law_89 12 rfl rfl)
theorem dL_law_2241 : decode cL_law 2241 = .ok (.iadd, 1) := dk_96 (dk_at dksL_law_89 13 rfl rfl)
theorem dL_law_2242 : decode cL_law 2242 = .ok (.iaload, 1) := dk_46 (dk_at dksL_law_89 14 rfl rfl)
theorem dL_law_2243 : decode cL_law 2243 = .ok (.aload_n 3, 1) := dk_45 (dk_at dksL_law_89 15 rfl rfl)
theorem dL_law_2244 : decode cL_law 2244 = .ok (.invokestatic 248, 3) := dk_184 0 248 (dk_at dksL_law_89 16 rfl rfl)
theorem dL_law_2247 : decode cL_law 2247 = .ok (.istore 6, 2) := dk_54 6 (dk_at dksL_law_89 19 rfl rfl)
theorem dL_law_2249 : decode cL_law 2249 = .ok (.aload_n 2, 1) := dk_44 (dk_at dksL_law_89 21 rfl rfl)
theorem dL_law_2250 : decode cL_law 2250 = .ok (.aload_n 0, 1) := dk_42 (dk_at dksL_law_89 22 rfl rfl)
theorem dL_law_2251 : decode cL_law 2251 = .ok (.iload 5, 2) := dk_21 5 (dk_at dksL_law_90 0 rfl rfl)
theorem dL_law_2253 : decode cL_law 2253 = .ok (.iconst 1, 1) := dk_4 (dk_at dksL_law_90 2 rfl rfl)
theorem dL_law_2254 : decode cL_law 2254 = .ok (.iadd, 1) := dk_96 (dk_at dksL_law_90 3 rfl rfl)
theorem dL_law_2255 : decode cL_law 2255 = .ok (.iaload, 1) := dk_46 (dk_at dksL_law_90 4 rfl rfl)
theorem dL_law_2256 : decode cL_law 2256 = .ok (.invokevirtual 250, 3) := dk_182 0 250 (dk_at dksL_law_90 5 rfl rfl)
theorem dL_law_2259 : decode cL_law 2259 = .ok (.istore 7, 2) := dk_54 7 (dk_at dksL_law_90 8 rfl rfl)
theorem dL_law_2261 : decode cL_law 2261 = .ok (.aload_n 2, 1) := dk_44 (dk_at dksL_law_90 10 rfl rfl)
theorem dL_law_2262 : decode cL_law 2262 = .ok (.invokevirtual 143, 3) := dk_182 0 143 (dk_at dksL_law_90 11 rfl rfl)
theorem dL_law_2265 : decode cL_law 2265 = .ok (.iload 6, 2) := dk_21 6 (dk_at dksL_law_90 14 rfl rfl)
theorem dL_law_2267 : decode cL_law 2267 = .ok (.if_icmp .eq 5, 3) := dk_159 0 5 (dk_at dksL_law_90 16 rfl rfl)
theorem dL_law_2270 : decode cL_law 2270 = .ok (.iconst 0, 1) := dk_3 (dk_at dksL_law_90 19 rfl rfl)
theorem dL_law_2271 : decode cL_law 2271 = .ok (.ireturn, 1) := dk_172 (dk_at dksL_law_90 20 rfl rfl)
theorem dL_law_2272 : decode cL_law 2272 = .ok (.iload 6, 2) := dk_21 6 (dk_at dksL_law_90 21 rfl rfl)
theorem dL_law_2274 : decode cL_law 2274 = .ok (.ifCond .ne 15, 3) := dk_154 0 15 (dk_at dksL_law_91 0 rfl rfl)
theorem dL_law_2277 : decode cL_law 2277 = .ok (.aload_n 3, 1) := dk_45 (dk_at dksL_law_91 3 rfl rfl)
theorem dL_law_2278 : decode cL_law 2278 = .ok (.iconst 0, 1) := dk_3 (dk_at dksL_law_91 4 rfl rfl)
theorem dL_law_2279 : decode cL_law 2279 = .ok (.laload, 1) := dk_47 (dk_at dksL_law_91 5 rfl rfl)
theorem dL_law_2280 : decode cL_law 2280 = .ok (.iload 7, 2) := dk_21 7 (dk_at dksL_law_91 6 rfl rfl)
theorem dL_law_2282 : decode cL_law 2282 = .ok (.i2l, 1) := dk_133 (dk_at dksL_law_91 8 rfl rfl)
theorem dL_law_2283 : decode cL_law 2283 = .ok (.lcmp, 1) := dk_148 (dk_at dksL_law_91 9 rfl rfl)
theorem dL_law_2284 : decode cL_law 2284 = .ok (.ifCond .eq 5, 3) := dk_153 0 5 (dk_at dksL_law_91 10 rfl rfl)
theorem dL_law_2287 : decode cL_law 2287 = .ok (.iconst 0, 1) := dk_3 (dk_at dksL_law_91 13 rfl rfl)
theorem dL_law_2288 : decode cL_law 2288 = .ok (.ireturn, 1) := dk_172 (dk_at dksL_law_91 14 rfl rfl)
theorem dL_law_2289 : decode cL_law 2289 = .ok (.goto 98, 3) := dk_167 0 98 (dk_at dksL_law_91 15 rfl rfl)
theorem dL_law_2292 : decode cL_law 2292 = .ok (.aload_n 1, 1) := dk_43 (dk_at dksL_law_91 18 rfl rfl)
theorem dL_law_2293 : decode cL_law 2293 = .ok (.invokevirtual 251, 3) := dk_182 0 251 (dk_at dksL_law_91 19 rfl rfl)
theorem dL_law_2296 : decode cL_law 2296 = .ok (.aload_n 2, 1) := dk_44 (dk_at dksL_law_91 22 rfl rfl)
theorem dL_law_2297 : decode cL_law 2297 = .ok (.invokevirtual 254, 3) := dk_182 0 254 (dk_at dksL_law_92 0 rfl rfl)
theorem dL_law_2300 : decode cL_law 2300 = .ok (.if_icmp .eq 87, 3) := dk_159 0 87 (dk_at dksL_law_92 3 rfl rfl)
theorem dL_law_2303 : decode cL_law 2303 = .ok (.iconst 0, 1) := dk_3 (dk_at dksL_law_92 6 rfl rfl)
theorem dL_law_2304 : decode cL_law 2304 = .ok (.ireturn, 1) := dk_172 (dk_at dksL_law_92 7 rfl rfl)
theorem dL_law_2305 : decode cL_law 2305 = .ok (.aload_n 1, 1) := dk_43 (dk_at dksL_law_92 8 rfl rfl)
theorem dL_law_2306 : decode cL_law 2306 = .ok (.aload_n 0, 1) := dk_42 (dk_at dksL_law_92 9 rfl rfl)
theorem dL_law_2307 : decode cL_law 2307 = .ok (.iload 5, 2) := dk_21 5 (dk_at dksL_law_92 10 rfl rfl)
theorem dL_law_2309 : decode cL_law 2309 = .ok (.iconst 1, 1) := dk_4 (dk_at dksL_law_92 12 rfl rfl)
theorem dL_law_2310 : decode cL_law 2310 = .ok (.iadd, 1) := dk_96 (dk_at dksL_law_92 13 rfl rfl)
theorem dL_law_2311 : decode cL_law 2311 = .ok (.iaload, 1) := dk_46 (dk_at dksL_law_92 14 rfl rfl)
theorem dL_law_2312 : decode cL_law 2312 = .ok (.invokevirtual 255, 3) := dk_182 0 255 (dk_at dksL_law_92 15 rfl rfl)
theorem dL_law_2315 : decode cL_law 2315 = .ok (.aload_n 2, 1) := dk_44 (dk_at dksL_law_92 18 rfl rfl)
theorem dL_law_2316 : decode cL_law 2316 = .ok (.aload_n 0, 1) := dk_42 (dk_at dksL_law_92 19 rfl rfl)
theorem dL_law_2317 : decode cL_law 2317 = .ok (.iload 5, 2) := dk_21 5 (dk_at dksL_law_92 20 rfl rfl)
theorem dL_law_2319 : decode cL_law 2319 = .ok (.iconst 1, 1) := dk_4 (dk_at dksL_law_92 22 rfl rfl)
theorem dL_law_2320 : decode cL_law 2320 = .ok (.iadd, 1) := dk_96 (dk_at dksL_law_92 23 rfl rfl)
theorem dL_law_2321 : decode cL_law 2321 = .ok (.iaload, 1) := dk_46 (dk_at dksL_law_93 0 rfl rfl)
theorem dL_law_2322 : decode cL_law 2322 = .ok (.invokevirtual 258, 3) := dk_182 1 2 (dk_at dksL_law_93 1 rfl rfl)
theorem dL_law_2325 : decode cL_law 2325 = .ok (.if_icmp .eq 62, 3) := dk_159 0 62 (dk_at dksL_law_93 4 rfl rfl)
theorem dL_law_2328 : decode cL_law 2328 = .ok (.iconst 0, 1) := dk_3 (dk_at dksL_law_93 7 rfl rfl)
theorem dL_law_2329 : decode cL_law 2329 = .ok (.ireturn, 1) := dk_172 (dk_at dksL_law_93 8 rfl rfl)
theorem dL_law_2330 : decode cL_law 2330 = .ok (.aload_n 1, 1) := dk_43 (dk_at dksL_law_93 9 rfl rfl)
theorem dL_law_2331 : decode cL_law 2331 = .ok (.invokevirtual 259, 3) := dk_182 1 3 (dk_at dksL_law_93 10 rfl rfl)
theorem dL_law_2334 : decode cL_law 2334 = .ok (.aload_n 2, 1) := dk_44 (dk_at dksL_law_93 13 rfl rfl)
theorem dL_law_2335 : decode cL_law 2335 = .ok (.invokevirtual 262, 3) := dk_182 1 6 (dk_at dksL_law_93 14 rfl rfl)
theorem dL_law_2338 : decode cL_law 2338 = .ok (.if_icmp .eq 49, 3) := dk_159 0 49 (dk_at dksL_law_93 17 rfl rfl)
theorem dL_law_2341 : decode cL_law 2341 = .ok (.iconst 0, 1) := dk_3 (dk_at dksL_law_93 20 rfl rfl)
theorem dL_law_2342 : decode cL_law 2342 = .ok (.ireturn, 1) := dk_172 (dk_at dksL_law_93 21 rfl rfl)
theorem dL_law_2343 : decode cL_law 2343 = .ok (.aload_n 1, 1) := dk_43 (dk_at dksL_law_93 22 rfl rfl)
theorem dL_law_2344 : decode cL_law 2344 = .ok (.aload_n 3, 1) := dk_45 (dk_at dksL_law_93 23 rfl rfl)
theorem dL_law_2345 : decode cL_law 2345 = .ok (.invokestatic 263, 3) := dk_184 1 7 (dk_at dksL_law_94 0 rfl rfl)
theorem dL_law_2348 : decode cL_law 2348 = .ok (.istore 6, 2) := dk_54 6 (dk_at dksL_law_94 3 rfl rfl)
theorem dL_law_2350 : decode cL_law 2350 = .ok (.aload_n 2, 1) := dk_44 (dk_at dksL_law_94 5 rfl rfl)
theorem dL_law_2351 : decode cL_law 2351 = .ok (.invokevirtual 265, 3) := dk_182 1 9 (dk_at dksL_law_94 6 rfl rfl)
theorem dL_law_2354 : decode cL_law 2354 = .ok (.istore 7, 2) := dk_54 7 (dk_at dksL_law_94 9 rfl rfl)
theorem dL_law_2356 : decode cL_law 2356 = .ok (.aload_n 2, 1) := dk_44 (dk_at dksL_law_94 11 rfl rfl)
theorem dL_law_2357 : decode cL_law 2357 = .ok (.invokevirtual 143, 3) := dk_182 0 143 (dk_at dksL_law_94 12 rfl rfl)
theorem dL_law_2360 : decode cL_law 2360 = .ok (.iload 6, 2) := dk_21 6 (dk_at dksL_law_94 15 rfl rfl)
theorem dL_law_2362 : decode cL_law 2362 = .ok (.if_icmp .eq 5, 3) := dk_159 0 5 (dk_at dksL_law_94 17 rfl rfl)
theorem dL_law_2365 : decode cL_law 2365 = .ok (.iconst 0, 1) := dk_3 (dk_at dksL_law_94 20 rfl rfl)
theorem dL_law_2366 : decode cL_law 2366 = .ok (.ireturn, 1) := dk_172 (dk_at dksL_law_94 21 rfl rfl)
theorem dL_law_2367 : decode cL_law 2367 = .ok (.iload 6, 2) := dk_21 6 (dk_at dksL_law_94 22 rfl rfl)
theorem dL_law_2369 : decode cL_law 2369 = .ok (.ifCond .ne 15, 3) := dk_154 0 15 (dk_at dksL_law_95 0 rfl rfl)
theorem dL_law_2372 : decode cL_law 2372 = .ok (.aload_n 3, 1) := dk_45 (dk_at dksL_law_95 3 rfl rfl)
theorem dL_law_2373 : decode cL_law 2373 = .ok (.iconst 0, 1) := dk_3 (dk_at dksL_law_95 4 rfl rfl)
theorem dL_law_2374 : decode cL_law 2374 = .ok (.laload, 1) := dk_47 (dk_at dksL_law_95 5 rfl rfl)
theorem dL_law_2375 : decode cL_law 2375 = .ok (.iload 7, 2) := dk_21 7 (dk_at dksL_law_95 6 rfl rfl)
theorem dL_law_2377 : decode cL_law 2377 = .ok (.i2l, 1) := dk_133 (dk_at dksL_law_95 8 rfl rfl)
theorem dL_law_2378 : decode cL_law 2378 = .ok (.lcmp, 1) := dk_148 (dk_at dksL_law_95 9 rfl rfl)
theorem dL_law_2379 : decode cL_law 2379 = .ok (.ifCond .eq 5, 3) := dk_153 0 5 (dk_at dksL_law_95 10 rfl rfl)
theorem dL_law_2382 : decode cL_law 2382 = .ok (.iconst 0, 1) := dk_3 (dk_at dksL_law_95 13 rfl rfl)
theorem dL_law_2383 : decode cL_law 2383 = .ok (.ireturn, 1) := dk_172 (dk_at dksL_law_95 14 rfl rfl)
theorem dL_law_2384 : decode cL_law 2384 = .ok (.goto 3, 3) := dk_167 0 3 (dk_at dksL_law_95 15 rfl rfl)
theorem dL_law_2387 : decode cL_law 2387 = .ok (.iinc 5 6, 3) := dk_132 5 6 (dk_at dksL_law_95 18 rfl rfl)
theorem dL_law_2390 : decode cL_law 2390 = .ok (.goto (-2362), 3) := dk_167 246 198 (dk_at dksL_law_95 21 rfl rfl)
theorem dL_law_2393 : decode cL_law 2393 = .ok (.iconst 1, 1) := dk_4 (dk_at dksL_law_96 0 rfl rfl)
theorem dL_law_2394 : decode cL_law 2394 = .ok (.ireturn, 1) := dk_172 (dk_at dksL_law_96 1 rfl rfl)
