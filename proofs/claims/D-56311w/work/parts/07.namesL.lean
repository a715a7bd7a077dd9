/-! DoughLedgerLaw -/
set_option maxRecDepth 100000
def RX0 : String := "DoughLedgerLaw"
abbrev cX0_addDough : ByteArray := method_3_code
def yX0_addDough : MethodName := ⟨RX0, "addDough", "(LDoughLedger;II[J)I"⟩
def dkwX0_addDough_0 : List UInt8 := [45, 3, 42, 27, 28, 182, 0, 7, 133, 80, 167, 0, 11, 58, 4, 4, 172, 58, 4, 5, 172, 3, 172]
abbrev dktX0_addDough_0 : List UInt8 := dkwX0_addDough_0 ++ []
theorem dksX0_addDough_0 : cX0_addDough.data.toList.drop 0 = dktX0_addDough_0 := by decide +kernel
theorem dX0_addDough_0 : decode cX0_addDough 0 = .ok (.aload_n 3, 1) := dk_45 (dk_at dksX0_addDough_0 0 rfl rfl)
theorem dX0_addDough_1 : decode cX0_addDough 1 = .ok (.iconst 0, 1) := dk_3 (dk_at dksX0_addDough_0 1 rfl rfl)
theorem dX0_addDough_2 : decode cX0_addDough 2 = .ok (.aload_n 0, 1) := dk_42 (dk_at dksX0_addDough_0 2 rfl rfl)
theorem dX0_addDough_3 : decode cX0_addDough 3 = .ok (.iload_n 1, 1) := dk_27 (dk_at dksX0_addDough_0 3 rfl rfl)
theorem dX0_addDough_4 : decode cX0_addDough 4 = .ok (.iload_n 2, 1) := dk_28 (dk_at dksX0_addDough_0 4 rfl rfl)
theorem dX0_addDough_5 : decode cX0_addDough 5 = .ok (.invokevirtual 7, 3) := dk_182 0 7 (dk_at dksX0_addDough_0 5 rfl rfl)
theorem dX0_addDough_8 : decode cX0_addDough 8 = .ok (.i2l, 1) := dk_133 (dk_at dksX0_addDough_0 8 rfl rfl)
theorem dX0_addDough_9 : decode cX0_addDough 9 = .ok (.lastore, 1) := dk_80 (dk_at dksX0_addDough_0 9 rfl rfl)
theorem dX0_addDough_10 : decode cX0_addDough 10 = .ok (.goto 11, 3) := dk_167 0 11 (dk_at dksX0_addDough_0 10 rfl rfl)
theorem dX0_addDough_13 : decode cX0_addDough 13 = .ok (.astore 4, 2) := dk_58 4 (dk_at dksX0_addDough_0 13 rfl rfl)
theorem dX0_addDough_15 : decode cX0_addDough 15 = .ok (.iconst 1, 1) := dk_4 (dk_at dksX0_addDough_0 15 rfl rfl)
theorem dX0_addDough_16 : decode cX0_addDough 16 = .ok (.ireturn, 1) := dk_172 (dk_at dksX0_addDough_0 16 rfl rfl)
theorem dX0_addDough_17 : decode cX0_addDough 17 = .ok (.astore 4, 2) := dk_58 4 (dk_at dksX0_addDough_0 17 rfl rfl)
theorem dX0_addDough_19 : decode cX0_addDough 19 = .ok (.iconst 2, 1) := dk_5 (dk_at dksX0_addDough_0 19 rfl rfl)
theorem dX0_addDough_20 : decode cX0_addDough 20 = .ok (.ireturn, 1) := dk_172 (dk_at dksX0_addDough_0 20 rfl rfl)
theorem dX0_addDough_21 : decode cX0_addDough 21 = .ok (.iconst 0, 1) := dk_3 (dk_at dksX0_addDough_0 21 rfl rfl)
theorem dX0_addDough_22 : decode cX0_addDough 22 = .ok (.ireturn, 1) := dk_172 (dk_at dksX0_addDough_0 22 rfl rfl)
abbrev cX0_mix : ByteArray := method_4_code
def yX0_mix : MethodName := ⟨RX0, "mix", "(LDoughLedger;II[J)I"⟩
def dkwX0_mix_1 : List UInt8 := [172, 3, 172]
abbrev dktX0_mix_1 : List UInt8 := dkwX0_mix_1 ++ []
def dkwX0_mix_0 : List UInt8 := [45, 3, 42, 27, 28, 182, 0, 17, 133, 80, 167, 0, 15, 58, 4, 4, 172, 58, 4, 5, 172, 58, 4, 6]
abbrev dktX0_mix_0 : List UInt8 := dkwX0_mix_0 ++ dktX0_mix_1
theorem dksX0_mix_0 : cX0_mix.data.toList.drop 0 = dktX0_mix_0 := by decide +kernel
theorem dksX0_mix_1 : cX0_mix.data.toList.drop 24 = dktX0_mix_1 := dk_seg dksX0_mix_0 24 rfl rfl
theorem dX0_mix_0 : decode cX0_mix 0 = .ok (.aload_n 3, 1) := dk_45 (dk_at dksX0_mix_0 0 rfl rfl)
theorem dX0_mix_1 : decode cX0_mix 1 = .ok (.iconst 0, 1) := dk_3 (dk_at dksX0_mix_0 1 rfl rfl)
theorem dX0_mix_2 : decode cX0_mix 2 = .ok (.aload_n 0, 1) := dk_42 (dk_at dksX0_mix_0 2 rfl rfl)
theorem dX0_mix_3 : decode cX0_mix 3 = .ok (.iload_n 1, 1) := dk_27 (dk_at dksX0_mix_0 3 rfl rfl)
theorem dX0_mix_4 : decode cX0_mix 4 = .ok (.iload_n 2, 1) := dk_28 (dk_at dksX0_mix_0 4 rfl rfl)
theorem dX0_mix_5 : decode cX0_mix 5 = .ok (.invokevirtual 17, 3) := dk_182 0 17 (dk_at dksX0_mix_0 5 rfl rfl)
theorem dX0_mix_8 : decode cX0_mix 8 = .ok (.i2l, 1) := dk_133 (dk_at dksX0_mix_0 8 rfl rfl)
theorem dX0_mix_9 : decode cX0_mix 9 = .ok (.lastore, 1) := dk_80 (dk_at dksX0_mix_0 9 rfl rfl)
theorem dX0_mix_10 : decode cX0_mix 10 = .ok (.goto 15, 3) := dk_167 0 15 (dk_at dksX0_mix_0 10 rfl rfl)
theorem dX0_mix_13 : decode cX0_mix 13 = .ok (.astore 4, 2) := dk_58 4 (dk_at dksX0_mix_0 13 rfl rfl)
theorem dX0_mix_15 : decode cX0_mix 15 = .ok (.iconst 1, 1) := dk_4 (dk_at dksX0_mix_0 15 rfl rfl)
theorem dX0_mix_16 : decode cX0_mix 16 = .ok (.ireturn, 1) := dk_172 (dk_at dksX0_mix_0 16 rfl rfl)
theorem dX0_mix_17 : decode cX0_mix 17 = .ok (.astore 4, 2) := dk_58 4 (dk_at dksX0_mix_0 17 rfl rfl)
theorem dX0_mix_19 : decode cX0_mix 19 = .ok (.iconst 2, 1) := dk_5 (dk_at dksX0_mix_0 19 rfl rfl)
theorem dX0_mix_20 : decode cX0_mix 20 = .ok (.ireturn, 1) := dk_172 (dk_at dksX0_mix_0 20 rfl rfl)
theorem dX0_mix_21 : decode cX0_mix 21 = .ok (.astore 4, 2) := dk_58 4 (dk_at dksX0_mix_0 21 rfl rfl)
theorem dX0_mix_23 : decode cX0_mix 23 = .ok (.iconst 3, 1) := dk_6 (dk_at dksX0_mix_0 23 rfl rfl)
theorem dX0_mix_24 : decode cX0_mix 24 = .ok (.ireturn, 1) := dk_172 (dk_at dksX0_mix_1 0 rfl rfl)
theorem dX0_mix_25 : decode cX0_mix 25 = .ok (.iconst 0, 1) := dk_3 (dk_at dksX0_mix_1 1 rfl rfl)
theorem dX0_mix_26 : decode cX0_mix 26 = .ok (.ireturn, 1) := dk_172 (dk_at dksX0_mix_1 2 rfl rfl)
abbrev cX0_addBowl : ByteArray := method_5_code
def yX0_addBowl : MethodName := ⟨RX0, "addBowl", "(LDoughLedger;I[J)I"⟩
def dkwX0_addBowl_0 : List UInt8 := [44, 3, 42, 27, 182, 0, 24, 133, 80, 167, 0, 9, 78, 4, 172, 78, 5, 172, 3, 172]
abbrev dktX0_addBowl_0 : List UInt8 := dkwX0_addBowl_0 ++ []
theorem dksX0_addBowl_0 : cX0_addBowl.data.toList.drop 0 = dktX0_addBowl_0 := by decide +kernel
theorem dX0_addBowl_0 : decode cX0_addBowl 0 = .ok (.aload_n 2, 1) := dk_44 (dk_at dksX0_addBowl_0 0 rfl rfl)
theorem dX0_addBowl_1 : decode cX0_addBowl 1 = .ok (.iconst 0, 1) := dk_3 (dk_at dksX0_addBowl_0 1 rfl rfl)
theorem dX0_addBowl_2 : decode cX0_addBowl 2 = .ok (.aload_n 0, 1) := dk_42 (dk_at dksX0_addBowl_0 2 rfl rfl)
theorem dX0_addBowl_3 : decode cX0_addBowl 3 = .ok (.iload_n 1, 1) := dk_27 (dk_at dksX0_addBowl_0 3 rfl rfl)
theorem dX0_addBowl_4 : decode cX0_addBowl 4 = .ok (.invokevirtual 24, 3) := dk_182 0 24 (dk_at dksX0_addBowl_0 4 rfl rfl)
theorem dX0_addBowl_7 : decode cX0_addBowl 7 = .ok (.i2l, 1) := dk_133 (dk_at dksX0_addBowl_0 7 rfl rfl)
theorem dX0_addBowl_8 : decode cX0_addBowl 8 = .ok (.lastore, 1) := dk_80 (dk_at dksX0_addBowl_0 8 rfl rfl)
theorem dX0_addBowl_9 : decode cX0_addBowl 9 = .ok (.goto 9, 3) := dk_167 0 9 (dk_at dksX0_addBowl_0 9 rfl rfl)
theorem dX0_addBowl_12 : decode cX0_addBowl 12 = .ok (.astore_n 3, 1) := dk_78 (dk_at dksX0_addBowl_0 12 rfl rfl)
theorem dX0_addBowl_13 : decode cX0_addBowl 13 = .ok (.iconst 1, 1) := dk_4 (dk_at dksX0_addBowl_0 13 rfl rfl)
theorem dX0_addBowl_14 : decode cX0_addBowl 14 = .ok (.ireturn, 1) := dk_172 (dk_at dksX0_addBowl_0 14 rfl rfl)
theorem dX0_addBowl_15 : decode cX0_addBowl 15 = .ok (.astore_n 3, 1) := dk_78 (dk_at dksX0_addBowl_0 15 rfl rfl)
theorem dX0_addBowl_16 : decode cX0_addBowl 16 = .ok (.iconst 2, 1) := dk_5 (dk_at dksX0_addBowl_0 16 rfl rfl)
theorem dX0_addBowl_17 : decode cX0_addBowl 17 = .ok (.ireturn, 1) := dk_172 (dk_at dksX0_addBowl_0 17 rfl rfl)
theorem dX0_addBowl_18 : decode cX0_addBowl 18 = .ok (.iconst 0, 1) := dk_3 (dk_at dksX0_addBowl_0 18 rfl rfl)
theorem dX0_addBowl_19 : decode cX0_addBowl 19 = .ok (.ireturn, 1) := dk_172 (dk_at dksX0_addBowl_0 19 rfl rfl)
abbrev cX0_addLoaf : ByteArray := method_6_code
def yX0_addLoaf : MethodName := ⟨RX0, "addLoaf", "(LDoughLedger;II[J)I"⟩
def dkwX0_addLoaf_0 : List UInt8 := [45, 3, 42, 27, 28, 182, 0, 28, 133, 80, 167, 0, 11, 58, 4, 4, 172, 58, 4, 5, 172, 3, 172]
abbrev dktX0_addLoaf_0 : List UInt8 := dkwX0_addLoaf_0 ++ []
theorem dksX0_addLoaf_0 : cX0_addLoaf.data.toList.drop 0 = dktX0_addLoaf_0 := by decide +kernel
theorem dX0_addLoaf_0 : decode cX0_addLoaf 0 = .ok (.aload_n 3, 1) := dk_45 (dk_at dksX0_addLoaf_0 0 rfl rfl)
theorem dX0_addLoaf_1 : decode cX0_addLoaf 1 = .ok (.iconst 0, 1) := dk_3 (dk_at dksX0_addLoaf_0 1 rfl rfl)
theorem dX0_addLoaf_2 : decode cX0_addLoaf 2 = .ok (.aload_n 0, 1) := dk_42 (dk_at dksX0_addLoaf_0 2 rfl rfl)
theorem dX0_addLoaf_3 : decode cX0_addLoaf 3 = .ok (.iload_n 1, 1) := dk_27 (dk_at dksX0_addLoaf_0 3 rfl rfl)
theorem dX0_addLoaf_4 : decode cX0_addLoaf 4 = .ok (.iload_n 2, 1) := dk_28 (dk_at dksX0_addLoaf_0 4 rfl rfl)
theorem dX0_addLoaf_5 : decode cX0_addLoaf 5 = .ok (.invokevirtual 28, 3) := dk_182 0 28 (dk_at dksX0_addLoaf_0 5 rfl rfl)
theorem dX0_addLoaf_8 : decode cX0_addLoaf 8 = .ok (.i2l, 1) := dk_133 (dk_at dksX0_addLoaf_0 8 rfl rfl)
theorem dX0_addLoaf_9 : decode cX0_addLoaf 9 = .ok (.lastore, 1) := dk_80 (dk_at dksX0_addLoaf_0 9 rfl rfl)
theorem dX0_addLoaf_10 : decode cX0_addLoaf 10 = .ok (.goto 11, 3) := dk_167 0 11 (dk_at dksX0_addLoaf_0 10 rfl rfl)
theorem dX0_addLoaf_13 : decode cX0_addLoaf 13 = .ok (.astore 4, 2) := dk_58 4 (dk_at dksX0_addLoaf_0 13 rfl rfl)
theorem dX0_addLoaf_15 : decode cX0_addLoaf 15 = .ok (.iconst 1, 1) := dk_4 (dk_at dksX0_addLoaf_0 15 rfl rfl)
theorem dX0_addLoaf_16 : decode cX0_addLoaf 16 = .ok (.ireturn, 1) := dk_172 (dk_at dksX0_addLoaf_0 16 rfl rfl)
theorem dX0_addLoaf_17 : decode cX0_addLoaf 17 = .ok (.astore 4, 2) := dk_58 4 (dk_at dksX0_addLoaf_0 17 rfl rfl)
theorem dX0_addLoaf_19 : decode cX0_addLoaf 19 = .ok (.iconst 2, 1) := dk_5 (dk_at dksX0_addLoaf_0 19 rfl rfl)
theorem dX0_addLoaf_20 : decode cX0_addLoaf 20 = .ok (.ireturn, 1) := dk_172 (dk_at dksX0_addLoaf_0 20 rfl rfl)
theorem dX0_addLoaf_21 : decode cX0_addLoaf 21 = .ok (.iconst 0, 1) := dk_3 (dk_at dksX0_addLoaf_0 21 rfl rfl)
theorem dX0_addLoaf_22 : decode cX0_addLoaf 22 = .ok (.ireturn, 1) := dk_172 (dk_at dksX0_addLoaf_0 22 rfl rfl)
abbrev cX0_sellLoaf : ByteArray := method_7_code
def yX0_sellLoaf : MethodName := ⟨RX0, "sellLoaf", "(LDoughLedger;I[J)I"⟩
def dkwX0_sellLoaf_0 : List UInt8 := [44, 3, 42, 27, 182, 0, 31, 133, 80, 167, 0, 6, 78, 4, 172, 3, 172]
abbrev dktX0_sellLoaf_0 : List UInt8 := dkwX0_sellLoaf_0 ++ []
theorem dksX0_sellLoaf_0 : cX0_sellLoaf.data.toList.drop 0 = dktX0_sellLoaf_0 := by decide +kernel
theorem dX0_sellLoaf_0 : decode cX0_sellLoaf 0 = .ok (.aload_n 2, 1) := dk_44 (dk_at dksX0_sellLoaf_0 0 rfl rfl)
theorem dX0_sellLoaf_1 : decode cX0_sellLoaf 1 = .ok (.iconst 0, 1) := dk_3 (dk_at dksX0_sellLoaf_0 1 rfl rfl)
theorem dX0_sellLoaf_2 : decode cX0_sellLoaf 2 = .ok (.aload_n 0, 1) := dk_42 (dk_at dksX0_sellLoaf_0 2 rfl rfl)
theorem dX0_sellLoaf_3 : decode cX0_sellLoaf 3 = .ok (.iload_n 1, 1) := dk_27 (dk_at dksX0_sellLoaf_0 3 rfl rfl)
theorem dX0_sellLoaf_4 : decode cX0_sellLoaf 4 = .ok (.invokevirtual 31, 3) := dk_182 0 31 (dk_at dksX0_sellLoaf_0 4 rfl rfl)
theorem dX0_sellLoaf_7 : decode cX0_sellLoaf 7 = .ok (.i2l, 1) := dk_133 (dk_at dksX0_sellLoaf_0 7 rfl rfl)
theorem dX0_sellLoaf_8 : decode cX0_sellLoaf 8 = .ok (.lastore, 1) := dk_80 (dk_at dksX0_sellLoaf_0 8 rfl rfl)
theorem dX0_sellLoaf_9 : decode cX0_sellLoaf 9 = .ok (.goto 6, 3) := dk_167 0 6 (dk_at dksX0_sellLoaf_0 9 rfl rfl)
theorem dX0_sellLoaf_12 : decode cX0_sellLoaf 12 = .ok (.astore_n 3, 1) := dk_78 (dk_at dksX0_sellLoaf_0 12 rfl rfl)
theorem dX0_sellLoaf_13 : decode cX0_sellLoaf 13 = .ok (.iconst 1, 1) := dk_4 (dk_at dksX0_sellLoaf_0 13 rfl rfl)
theorem dX0_sellLoaf_14 : decode cX0_sellLoaf 14 = .ok (.ireturn, 1) := dk_172 (dk_at dksX0_sellLoaf_0 14 rfl rfl)
theorem dX0_sellLoaf_15 : decode cX0_sellLoaf 15 = .ok (.iconst 0, 1) := dk_3 (dk_at dksX0_sellLoaf_0 15 rfl rfl)
theorem dX0_sellLoaf_16 : decode cX0_sellLoaf 16 = .ok (.ireturn, 1) := dk_172 (dk_at dksX0_sellLoaf_0 16 rfl rfl)
abbrev cX0_setScale : ByteArray := method_8_code
def yX0_setScale : MethodName := ⟨RX0, "setScale", "(LDoughLedger;I[J)I"⟩
def dkwX0_setScale_0 : List UInt8 := [44, 3, 42, 27, 182, 0, 34, 133, 80, 167, 0, 9, 78, 4, 172, 78, 5, 172, 3, 172]
abbrev dktX0_setScale_0 : List UInt8 := dkwX0_setScale_0 ++ []
theorem dksX0_setScale_0 : cX0_setScale.data.toList.drop 0 = dktX0_setScale_0 := by decide +kernel
theorem dX0_setScale_0 : decode cX0_setScale 0 = .ok (.aload_n 2, 1) := dk_44 (dk_at dksX0_setScale_0 0 rfl rfl)
theorem dX0_setScale_1 : decode cX0_setScale 1 = .ok (.iconst 0, 1) := dk_3 (dk_at dksX0_setScale_0 1 rfl rfl)
theorem dX0_setScale_2 : decode cX0_setScale 2 = .ok (.aload_n 0, 1) := dk_42 (dk_at dksX0_setScale_0 2 rfl rfl)
theorem dX0_setScale_3 : decode cX0_setScale 3 = .ok (.iload_n 1, 1) := dk_27 (dk_at dksX0_setScale_0 3 rfl rfl)
theorem dX0_setScale_4 : decode cX0_setScale 4 = .ok (.invokevirtual 34, 3) := dk_182 0 34 (dk_at dksX0_setScale_0 4 rfl rfl)
theorem dX0_setScale_7 : decode cX0_setScale 7 = .ok (.i2l, 1) := dk_133 (dk_at dksX0_setScale_0 7 rfl rfl)
theorem dX0_setScale_8 : decode cX0_setScale 8 = .ok (.lastore, 1) := dk_80 (dk_at dksX0_setScale_0 8 rfl rfl)
theorem dX0_setScale_9 : decode cX0_setScale 9 = .ok (.goto 9, 3) := dk_167 0 9 (dk_at dksX0_setScale_0 9 rfl rfl)
theorem dX0_setScale_12 : decode cX0_setScale 12 = .ok (.astore_n 3, 1) := dk_78 (dk_at dksX0_setScale_0 12 rfl rfl)
theorem dX0_setScale_13 : decode cX0_setScale 13 = .ok (.iconst 1, 1) := dk_4 (dk_at dksX0_setScale_0 13 rfl rfl)
theorem dX0_setScale_14 : decode cX0_setScale 14 = .ok (.ireturn, 1) := dk_172 (dk_at dksX0_setScale_0 14 rfl rfl)
theorem dX0_setScale_15 : decode cX0_setScale 15 = .ok (.astore_n 3, 1) := dk_78 (dk_at dksX0_setScale_0 15 rfl rfl)
theorem dX0_setScale_16 : decode cX0_setScale 16 = .ok (.iconst 2, 1) := dk_5 (dk_at dksX0_setScale_0 16 rfl rfl)
theorem dX0_setScale_17 : decode cX0_setScale 17 = .ok (.ireturn, 1) := dk_172 (dk_at dksX0_setScale_0 17 rfl rfl)
theorem dX0_setScale_18 : decode cX0_setScale 18 = .ok (.iconst 0, 1) := dk_3 (dk_at dksX0_setScale_0 18 rfl rfl)
theorem dX0_setScale_19 : decode cX0_setScale 19 = .ok (.ireturn, 1) := dk_172 (dk_at dksX0_setScale_0 19 rfl rfl)
abbrev cX0_setRounding : ByteArray := method_9_code
def yX0_setRounding : MethodName := ⟨RX0, "setRounding", "(LDoughLedger;C[J)I"⟩
def dkwX0_setRounding_0 : List UInt8 := [44, 3, 42, 27, 182, 0, 37, 133, 80, 167, 0, 6, 78, 4, 172, 3, 172]
abbrev dktX0_setRounding_0 : List UInt8 := dkwX0_setRounding_0 ++ []
theorem dksX0_setRounding_0 : cX0_setRounding.data.toList.drop 0 = dktX0_setRounding_0 := by decide +kernel
theorem dX0_setRounding_0 : decode cX0_setRounding 0 = .ok (.aload_n 2, 1) := dk_44 (dk_at dksX0_setRounding_0 0 rfl rfl)
theorem dX0_setRounding_1 : decode cX0_setRounding 1 = .ok (.iconst 0, 1) := dk_3 (dk_at dksX0_setRounding_0 1 rfl rfl)
theorem dX0_setRounding_2 : decode cX0_setRounding 2 = .ok (.aload_n 0, 1) := dk_42 (dk_at dksX0_setRounding_0 2 rfl rfl)
theorem dX0_setRounding_3 : decode cX0_setRounding 3 = .ok (.iload_n 1, 1) := dk_27 (dk_at dksX0_setRounding_0 3 rfl rfl)
theorem dX0_setRounding_4 : decode cX0_setRounding 4 = .ok (.invokevirtual 37, 3) := dk_182 0 37 (dk_at dksX0_setRounding_0 4 rfl rfl)
theorem dX0_setRounding_7 : decode cX0_setRounding 7 = .ok (.i2l, 1) := dk_133 (dk_at dksX0_setRounding_0 7 rfl rfl)
theorem dX0_setRounding_8 : decode cX0_setRounding 8 = .ok (.lastore, 1) := dk_80 (dk_at dksX0_setRounding_0 8 rfl rfl)
theorem dX0_setRounding_9 : decode cX0_setRounding 9 = .ok (.goto 6, 3) := dk_167 0 6 (dk_at dksX0_setRounding_0 9 rfl rfl)
theorem dX0_setRounding_12 : decode cX0_setRounding 12 = .ok (.astore_n 3, 1) := dk_78 (dk_at dksX0_setRounding_0 12 rfl rfl)
theorem dX0_setRounding_13 : decode cX0_setRounding 13 = .ok (.iconst 1, 1) := dk_4 (dk_at dksX0_setRounding_0 13 rfl rfl)
theorem dX0_setRounding_14 : decode cX0_setRounding 14 = .ok (.ireturn, 1) := dk_172 (dk_at dksX0_setRounding_0 14 rfl rfl)
theorem dX0_setRounding_15 : decode cX0_setRounding 15 = .ok (.iconst 0, 1) := dk_3 (dk_at dksX0_setRounding_0 15 rfl rfl)
theorem dX0_setRounding_16 : decode cX0_setRounding 16 = .ok (.ireturn, 1) := dk_172 (dk_at dksX0_setRounding_0 16 rfl rfl)
abbrev cX0_pour : ByteArray := method_10_code
def yX0_pour : MethodName := ⟨RX0, "pour", "(LDoughLedger;II[J)I"⟩
def dkwX0_pour_0 : List UInt8 := [45, 3, 42, 27, 28, 182, 0, 41, 133, 80, 167, 0, 7, 58, 4, 4, 172, 3, 172]
abbrev dktX0_pour_0 : List UInt8 := dkwX0_pour_0 ++ []
theorem dksX0_pour_0 : cX0_pour.data.toList.drop 0 = dktX0_pour_0 := by decide +kernel
theorem dX0_pour_0 : decode cX0_pour 0 = .ok (.aload_n 3, 1) := dk_45 (dk_at dksX0_pour_0 0 rfl rfl)
theorem dX0_pour_1 : decode cX0_pour 1 = .ok (.iconst 0, 1) := dk_3 (dk_at dksX0_pour_0 1 rfl rfl)
theorem dX0_pour_2 : decode cX0_pour 2 = .ok (.aload_n 0, 1) := dk_42 (dk_at dksX0_pour_0 2 rfl rfl)
theorem dX0_pour_3 : decode cX0_pour 3 = .ok (.iload_n 1, 1) := dk_27 (dk_at dksX0_pour_0 3 rfl rfl)
theorem dX0_pour_4 : decode cX0_pour 4 = .ok (.iload_n 2, 1) := dk_28 (dk_at dksX0_pour_0 4 rfl rfl)
theorem dX0_pour_5 : decode cX0_pour 5 = .ok (.invokevirtual 41, 3) := dk_182 0 41 (dk_at dksX0_pour_0 5 rfl rfl)
theorem dX0_pour_8 : decode cX0_pour 8 = .ok (.i2l, 1) := dk_133 (dk_at dksX0_pour_0 8 rfl rfl)
theorem dX0_pour_9 : decode cX0_pour 9 = .ok (.lastore, 1) := dk_80 (dk_at dksX0_pour_0 9 rfl rfl)
theorem dX0_pour_10 : decode cX0_pour 10 = .ok (.goto 7, 3) := dk_167 0 7 (dk_at dksX0_pour_0 10 rfl rfl)
theorem dX0_pour_13 : decode cX0_pour 13 = .ok (.astore 4, 2) := dk_58 4 (dk_at dksX0_pour_0 13 rfl rfl)
theorem dX0_pour_15 : decode cX0_pour 15 = .ok (.iconst 1, 1) := dk_4 (dk_at dksX0_pour_0 15 rfl rfl)
theorem dX0_pour_16 : decode cX0_pour 16 = .ok (.ireturn, 1) := dk_172 (dk_at dksX0_pour_0 16 rfl rfl)
theorem dX0_pour_17 : decode cX0_pour 17 = .ok (.iconst 0, 1) := dk_3 (dk_at dksX0_pour_0 17 rfl rfl)
theorem dX0_pour_18 : decode cX0_pour 18 = .ok (.ireturn, 1) := dk_172 (dk_at dksX0_pour_0 18 rfl rfl)
abbrev cX0_empty : ByteArray := method_11_code
def yX0_empty : MethodName := ⟨RX0, "empty", "(LDoughLedger;I[J)I"⟩
def dkwX0_empty_0 : List UInt8 := [44, 3, 42, 27, 182, 0, 44, 133, 80, 167, 0, 6, 78, 4, 172, 3, 172]
abbrev dktX0_empty_0 : List UInt8 := dkwX0_empty_0 ++ []
theorem dksX0_empty_0 : cX0_empty.data.toList.drop 0 = dktX0_empty_0 := by decide +kernel
theorem dX0_empty_0 : decode cX0_empty 0 = .ok (.aload_n 2, 1) := dk_44 (dk_at dksX0_empty_0 0 rfl rfl)
theorem dX0_empty_1 : decode cX0_empty 1 = .ok (.iconst 0, 1) := dk_3 (dk_at dksX0_empty_0 1 rfl rfl)
theorem dX0_empty_2 : decode cX0_empty 2 = .ok (.aload_n 0, 1) := dk_42 (dk_at dksX0_empty_0 2 rfl rfl)
theorem dX0_empty_3 : decode cX0_empty 3 = .ok (.iload_n 1, 1) := dk_27 (dk_at dksX0_empty_0 3 rfl rfl)
theorem dX0_empty_4 : decode cX0_empty 4 = .ok (.invokevirtual 44, 3) := dk_182 0 44 (dk_at dksX0_empty_0 4 rfl rfl)
theorem dX0_empty_7 : decode cX0_empty 7 = .ok (.i2l, 1) := dk_133 (dk_at dksX0_empty_0 7 rfl rfl)
theorem dX0_empty_8 : decode cX0_empty 8 = .ok (.lastore, 1) := dk_80 (dk_at dksX0_empty_0 8 rfl rfl)
theorem dX0_empty_9 : decode cX0_empty 9 = .ok (.goto 6, 3) := dk_167 0 6 (dk_at dksX0_empty_0 9 rfl rfl)
theorem dX0_empty_12 : decode cX0_empty 12 = .ok (.astore_n 3, 1) := dk_78 (dk_at dksX0_empty_0 12 rfl rfl)
theorem dX0_empty_13 : decode cX0_empty 13 = .ok (.iconst 1, 1) := dk_4 (dk_at dksX0_empty_0 13 rfl rfl)
theorem dX0_empty_14 : decode cX0_empty 14 = .ok (.ireturn, 1) := dk_172 (dk_at dksX0_empty_0 14 rfl rfl)
theorem dX0_empty_15 : decode cX0_empty 15 = .ok (.iconst 0, 1) := dk_3 (dk_at dksX0_empty_0 15 rfl rfl)
theorem dX0_empty_16 : decode cX0_empty 16 = .ok (.ireturn, 1) := dk_172 (dk_at dksX0_empty_0 16 rfl rfl)
abbrev cX0_bake : ByteArray := method_12_code
def yX0_bake : MethodName := ⟨RX0, "bake", "(LDoughLedger;I[J)I"⟩
def dkwX0_bake_0 : List UInt8 := [44, 3, 42, 27, 182, 0, 47, 133, 80, 167, 0, 12, 78, 4, 172, 78, 5, 172, 78, 6, 172, 3, 172]
abbrev dktX0_bake_0 : List UInt8 := dkwX0_bake_0 ++ []
theorem dksX0_bake_0 : cX0_bake.data.toList.drop 0 = dktX0_bake_0 := by decide +kernel
theorem dX0_bake_0 : decode cX0_bake 0 = .ok (.aload_n 2, 1) := dk_44 (dk_at dksX0_bake_0 0 rfl rfl)
theorem dX0_bake_1 : decode cX0_bake 1 = .ok (.iconst 0, 1) := dk_3 (dk_at dksX0_bake_0 1 rfl rfl)
theorem dX0_bake_2 : decode cX0_bake 2 = .ok (.aload_n 0, 1) := dk_42 (dk_at dksX0_bake_0 2 rfl rfl)
theorem dX0_bake_3 : decode cX0_bake 3 = .ok (.iload_n 1, 1) := dk_27 (dk_at dksX0_bake_0 3 rfl rfl)
theorem dX0_bake_4 : decode cX0_bake 4 = .ok (.invokevirtual 47, 3) := dk_182 0 47 (dk_at dksX0_bake_0 4 rfl rfl)
theorem dX0_bake_7 : decode cX0_bake 7 = .ok (.i2l, 1) := dk_133 (dk_at dksX0_bake_0 7 rfl rfl)
theorem dX0_bake_8 : decode cX0_bake 8 = .ok (.lastore, 1) := dk_80 (dk_at dksX0_bake_0 8 rfl rfl)
theorem dX0_bake_9 : decode cX0_bake 9 = .ok (.goto 12, 3) := dk_167 0 12 (dk_at dksX0_bake_0 9 rfl rfl)
theorem dX0_bake_12 : decode cX0_bake 12 = .ok (.astore_n 3, 1) := dk_78 (dk_at dksX0_bake_0 12 rfl rfl)
theorem dX0_bake_13 : decode cX0_bake 13 = .ok (.iconst 1, 1) := dk_4 (dk_at dksX0_bake_0 13 rfl rfl)
theorem dX0_bake_14 : decode cX0_bake 14 = .ok (.ireturn, 1) := dk_172 (dk_at dksX0_bake_0 14 rfl rfl)
theorem dX0_bake_15 : decode cX0_bake 15 = .ok (.astore_n 3, 1) := dk_78 (dk_at dksX0_bake_0 15 rfl rfl)
theorem dX0_bake_16 : decode cX0_bake 16 = .ok (.iconst 2, 1) := dk_5 (dk_at dksX0_bake_0 16 rfl rfl)
theorem dX0_bake_17 : decode cX0_bake 17 = .ok (.ireturn, 1) := dk_172 (dk_at dksX0_bake_0 17 rfl rfl)
theorem dX0_bake_18 : decode cX0_bake 18 = .ok (.astore_n 3, 1) := dk_78 (dk_at dksX0_bake_0 18 rfl rfl)
theorem dX0_bake_19 : decode cX0_bake 19 = .ok (.iconst 3, 1) := dk_6 (dk_at dksX0_bake_0 19 rfl rfl)
theorem dX0_bake_20 : decode cX0_bake 20 = .ok (.ireturn, 1) := dk_172 (dk_at dksX0_bake_0 20 rfl rfl)
theorem dX0_bake_21 : decode cX0_bake 21 = .ok (.iconst 0, 1) := dk_3 (dk_at dksX0_bake_0 21 rfl rfl)
theorem dX0_bake_22 : decode cX0_bake 22 = .ok (.ireturn, 1) := dk_172 (dk_at dksX0_bake_0 22 rfl rfl)
abbrev cX0_setOvens : ByteArray := method_13_code
def yX0_setOvens : MethodName := ⟨RX0, "setOvens", "(LDoughLedger;I[J)I"⟩
def dkwX0_setOvens_0 : List UInt8 := [44, 3, 42, 27, 182, 0, 52, 133, 80, 167, 0, 6, 78, 4, 172, 3, 172]
abbrev dktX0_setOvens_0 : List UInt8 := dkwX0_setOvens_0 ++ []
theorem dksX0_setOvens_0 : cX0_setOvens.data.toList.drop 0 = dktX0_setOvens_0 := by decide +kernel
theorem dX0_setOvens_0 : decode cX0_setOvens 0 = .ok (.aload_n 2, 1) := dk_44 (dk_at dksX0_setOvens_0 0 rfl rfl)
theorem dX0_setOvens_1 : decode cX0_setOvens 1 = .ok (.iconst 0, 1) := dk_3 (dk_at dksX0_setOvens_0 1 rfl rfl)
theorem dX0_setOvens_2 : decode cX0_setOvens 2 = .ok (.aload_n 0, 1) := dk_42 (dk_at dksX0_setOvens_0 2 rfl rfl)
theorem dX0_setOvens_3 : decode cX0_setOvens 3 = .ok (.iload_n 1, 1) := dk_27 (dk_at dksX0_setOvens_0 3 rfl rfl)
theorem dX0_setOvens_4 : decode cX0_setOvens 4 = .ok (.invokevirtual 52, 3) := dk_182 0 52 (dk_at dksX0_setOvens_0 4 rfl rfl)
theorem dX0_setOvens_7 : decode cX0_setOvens 7 = .ok (.i2l, 1) := dk_133 (dk_at dksX0_setOvens_0 7 rfl rfl)
theorem dX0_setOvens_8 : decode cX0_setOvens 8 = .ok (.lastore, 1) := dk_80 (dk_at dksX0_setOvens_0 8 rfl rfl)
theorem dX0_setOvens_9 : decode cX0_setOvens 9 = .ok (.goto 6, 3) := dk_167 0 6 (dk_at dksX0_setOvens_0 9 rfl rfl)
theorem dX0_setOvens_12 : decode cX0_setOvens 12 = .ok (.astore_n 3, 1) := dk_78 (dk_at dksX0_setOvens_0 12 rfl rfl)
theorem dX0_setOvens_13 : decode cX0_setOvens 13 = .ok (.iconst 1, 1) := dk_4 (dk_at dksX0_setOvens_0 13 rfl rfl)
theorem dX0_setOvens_14 : decode cX0_setOvens 14 = .ok (.ireturn, 1) := dk_172 (dk_at dksX0_setOvens_0 14 rfl rfl)
theorem dX0_setOvens_15 : decode cX0_setOvens 15 = .ok (.iconst 0, 1) := dk_3 (dk_at dksX0_setOvens_0 15 rfl rfl)
theorem dX0_setOvens_16 : decode cX0_setOvens 16 = .ok (.ireturn, 1) := dk_172 (dk_at dksX0_setOvens_0 16 rfl rfl)
abbrev cX0_numeratorOf : ByteArray := method_14_code
def yX0_numeratorOf : MethodName := ⟨RX0, "numeratorOf", "(LDoughLedger;I[J)I"⟩
def dkwX0_numeratorOf_0 : List UInt8 := [44, 3, 42, 27, 182, 0, 55, 133, 80, 167, 0, 6, 78, 4, 172, 3, 172]
abbrev dktX0_numeratorOf_0 : List UInt8 := dkwX0_numeratorOf_0 ++ []
theorem dksX0_numeratorOf_0 : cX0_numeratorOf.data.toList.drop 0 = dktX0_numeratorOf_0 := by decide +kernel
theorem dX0_numeratorOf_0 : decode cX0_numeratorOf 0 = .ok (.aload_n 2, 1) := dk_44 (dk_at dksX0_numeratorOf_0 0 rfl rfl)
theorem dX0_numeratorOf_1 : decode cX0_numeratorOf 1 = .ok (.iconst 0, 1) := dk_3 (dk_at dksX0_numeratorOf_0 1 rfl rfl)
theorem dX0_numeratorOf_2 : decode cX0_numeratorOf 2 = .ok (.aload_n 0, 1) := dk_42 (dk_at dksX0_numeratorOf_0 2 rfl rfl)
theorem dX0_numeratorOf_3 : decode cX0_numeratorOf 3 = .ok (.iload_n 1, 1) := dk_27 (dk_at dksX0_numeratorOf_0 3 rfl rfl)
theorem dX0_numeratorOf_4 : decode cX0_numeratorOf 4 = .ok (.invokevirtual 55, 3) := dk_182 0 55 (dk_at dksX0_numeratorOf_0 4 rfl rfl)
theorem dX0_numeratorOf_7 : decode cX0_numeratorOf 7 = .ok (.i2l, 1) := dk_133 (dk_at dksX0_numeratorOf_0 7 rfl rfl)
theorem dX0_numeratorOf_8 : decode cX0_numeratorOf 8 = .ok (.lastore, 1) := dk_80 (dk_at dksX0_numeratorOf_0 8 rfl rfl)
theorem dX0_numeratorOf_9 : decode cX0_numeratorOf 9 = .ok (.goto 6, 3) := dk_167 0 6 (dk_at dksX0_numeratorOf_0 9 rfl rfl)
theorem dX0_numeratorOf_12 : decode cX0_numeratorOf 12 = .ok (.astore_n 3, 1) := dk_78 (dk_at dksX0_numeratorOf_0 12 rfl rfl)
theorem dX0_numeratorOf_13 : decode cX0_numeratorOf 13 = .ok (.iconst 1, 1) := dk_4 (dk_at dksX0_numeratorOf_0 13 rfl rfl)
theorem dX0_numeratorOf_14 : decode cX0_numeratorOf 14 = .ok (.ireturn, 1) := dk_172 (dk_at dksX0_numeratorOf_0 14 rfl rfl)
theorem dX0_numeratorOf_15 : decode cX0_numeratorOf 15 = .ok (.iconst 0, 1) := dk_3 (dk_at dksX0_numeratorOf_0 15 rfl rfl)
theorem dX0_numeratorOf_16 : decode cX0_numeratorOf 16 = .ok (.ireturn, 1) := dk_172 (dk_at dksX0_numeratorOf_0 16 rfl rfl)
abbrev cX0_denominatorOf : ByteArray := method_15_code
def yX0_denominatorOf : MethodName := ⟨RX0, "denominatorOf", "(LDoughLedger;I[J)I"⟩
def dkwX0_denominatorOf_0 : List UInt8 := [44, 3, 42, 27, 182, 0, 58, 133, 80, 167, 0, 6, 78, 4, 172, 3, 172]
abbrev dktX0_denominatorOf_0 : List UInt8 := dkwX0_denominatorOf_0 ++ []
theorem dksX0_denominatorOf_0 : cX0_denominatorOf.data.toList.drop 0 = dktX0_denominatorOf_0 := by decide +kernel
theorem dX0_denominatorOf_0 : decode cX0_denominatorOf 0 = .ok (.aload_n 2, 1) := dk_44 (dk_at dksX0_denominatorOf_0 0 rfl rfl)
theorem dX0_denominatorOf_1 : decode cX0_denominatorOf 1 = .ok (.iconst 0, 1) := dk_3 (dk_at dksX0_denominatorOf_0 1 rfl rfl)
theorem dX0_denominatorOf_2 : decode cX0_denominatorOf 2 = .ok (.aload_n 0, 1) := dk_42 (dk_at dksX0_denominatorOf_0 2 rfl rfl)
theorem dX0_denominatorOf_3 : decode cX0_denominatorOf 3 = .ok (.iload_n 1, 1) := dk_27 (dk_at dksX0_denominatorOf_0 3 rfl rfl)
theorem dX0_denominatorOf_4 : decode cX0_denominatorOf 4 = .ok (.invokevirtual 58, 3) := dk_182 0 58 (dk_at dksX0_denominatorOf_0 4 rfl rfl)
theorem dX0_denominatorOf_7 : decode cX0_denominatorOf 7 = .ok (.i2l, 1) := dk_133 (dk_at dksX0_denominatorOf_0 7 rfl rfl)
theorem dX0_denominatorOf_8 : decode cX0_denominatorOf 8 = .ok (.lastore, 1) := dk_80 (dk_at dksX0_denominatorOf_0 8 rfl rfl)
theorem dX0_denominatorOf_9 : decode cX0_denominatorOf 9 = .ok (.goto 6, 3) := dk_167 0 6 (dk_at dksX0_denominatorOf_0 9 rfl rfl)
theorem dX0_denominatorOf_12 : decode cX0_denominatorOf 12 = .ok (.astore_n 3, 1) := dk_78 (dk_at dksX0_denominatorOf_0 12 rfl rfl)
theorem dX0_denominatorOf_13 : decode cX0_denominatorOf 13 = .ok (.iconst 1, 1) := dk_4 (dk_at dksX0_denominatorOf_0 13 rfl rfl)
theorem dX0_denominatorOf_14 : decode cX0_denominatorOf 14 = .ok (.ireturn, 1) := dk_172 (dk_at dksX0_denominatorOf_0 14 rfl rfl)
theorem dX0_denominatorOf_15 : decode cX0_denominatorOf 15 = .ok (.iconst 0, 1) := dk_3 (dk_at dksX0_denominatorOf_0 15 rfl rfl)
theorem dX0_denominatorOf_16 : decode cX0_denominatorOf 16 = .ok (.ireturn, 1) := dk_172 (dk_at dksX0_denominatorOf_0 16 rfl rfl)
abbrev cX0_crumbsIn : ByteArray := method_16_code
def yX0_crumbsIn : MethodName := ⟨RX0, "crumbsIn", "(LDoughLedger;I[J)I"⟩
def dkwX0_crumbsIn_0 : List UInt8 := [44, 3, 42, 27, 182, 0, 61, 133, 80, 167, 0, 6, 78, 4, 172, 3, 172]
abbrev dktX0_crumbsIn_0 : List UInt8 := dkwX0_crumbsIn_0 ++ []
theorem dksX0_crumbsIn_0 : cX0_crumbsIn.data.toList.drop 0 = dktX0_crumbsIn_0 := by decide +kernel
theorem dX0_crumbsIn_0 : decode cX0_crumbsIn 0 = .ok (.aload_n 2, 1) := dk_44 (dk_at dksX0_crumbsIn_0 0 rfl rfl)
theorem dX0_crumbsIn_1 : decode cX0_crumbsIn 1 = .ok (.iconst 0, 1) := dk_3 (dk_at dksX0_crumbsIn_0 1 rfl rfl)
theorem dX0_crumbsIn_2 : decode cX0_crumbsIn 2 = .ok (.aload_n 0, 1) := dk_42 (dk_at dksX0_crumbsIn_0 2 rfl rfl)
theorem dX0_crumbsIn_3 : decode cX0_crumbsIn 3 = .ok (.iload_n 1, 1) := dk_27 (dk_at dksX0_crumbsIn_0 3 rfl rfl)
theorem dX0_crumbsIn_4 : decode cX0_crumbsIn 4 = .ok (.invokevirtual 61, 3) := dk_182 0 61 (dk_at dksX0_crumbsIn_0 4 rfl rfl)
theorem dX0_crumbsIn_7 : decode cX0_crumbsIn 7 = .ok (.i2l, 1) := dk_133 (dk_at dksX0_crumbsIn_0 7 rfl rfl)
theorem dX0_crumbsIn_8 : decode cX0_crumbsIn 8 = .ok (.lastore, 1) := dk_80 (dk_at dksX0_crumbsIn_0 8 rfl rfl)
theorem dX0_crumbsIn_9 : decode cX0_crumbsIn 9 = .ok (.goto 6, 3) := dk_167 0 6 (dk_at dksX0_crumbsIn_0 9 rfl rfl)
theorem dX0_crumbsIn_12 : decode cX0_crumbsIn 12 = .ok (.astore_n 3, 1) := dk_78 (dk_at dksX0_crumbsIn_0 12 rfl rfl)
theorem dX0_crumbsIn_13 : decode cX0_crumbsIn 13 = .ok (.iconst 1, 1) := dk_4 (dk_at dksX0_crumbsIn_0 13 rfl rfl)
theorem dX0_crumbsIn_14 : decode cX0_crumbsIn 14 = .ok (.ireturn, 1) := dk_172 (dk_at dksX0_crumbsIn_0 14 rfl rfl)
theorem dX0_crumbsIn_15 : decode cX0_crumbsIn 15 = .ok (.iconst 0, 1) := dk_3 (dk_at dksX0_crumbsIn_0 15 rfl rfl)
theorem dX0_crumbsIn_16 : decode cX0_crumbsIn 16 = .ok (.ireturn, 1) := dk_172 (dk_at dksX0_crumbsIn_0 16 rfl rfl)
abbrev cX0_crumbsByDigits : ByteArray := method_17_code
def yX0_crumbsByDigits : MethodName := ⟨RX0, "crumbsByDigits", "(LDoughLedger;I[J)I"⟩
def dkwX0_crumbsByDigits_0 : List UInt8 := [44, 3, 42, 27, 182, 0, 64, 133, 80, 167, 0, 6, 78, 4, 172, 3, 172]
abbrev dktX0_crumbsByDigits_0 : List UInt8 := dkwX0_crumbsByDigits_0 ++ []
theorem dksX0_crumbsByDigits_0 : cX0_crumbsByDigits.data.toList.drop 0 = dktX0_crumbsByDigits_0 := by decide +kernel
theorem dX0_crumbsByDigits_0 : decode cX0_crumbsByDigits 0 = .ok (.aload_n 2, 1) := dk_44 (dk_at dksX0_crumbsByDigits_0 0 rfl rfl)
theorem dX0_crumbsByDigits_1 : decode cX0_crumbsByDigits 1 = .ok (.iconst 0, 1) := dk_3 (dk_at dksX0_crumbsByDigits_0 1 rfl rfl)
theorem dX0_crumbsByDigits_2 : decode cX0_crumbsByDigits 2 = .ok (.aload_n 0, 1) := dk_42 (dk_at dksX0_crumbsByDigits_0 2 rfl rfl)
theorem dX0_crumbsByDigits_3 : decode cX0_crumbsByDigits 3 = .ok (.iload_n 1, 1) := dk_27 (dk_at dksX0_crumbsByDigits_0 3 rfl rfl)
theorem dX0_crumbsByDigits_4 : decode cX0_crumbsByDigits 4 = .ok (.invokevirtual 64, 3) := dk_182 0 64 (dk_at dksX0_crumbsByDigits_0 4 rfl rfl)
theorem dX0_crumbsByDigits_7 : decode cX0_crumbsByDigits 7 = .ok (.i2l, 1) := dk_133 (dk_at dksX0_crumbsByDigits_0 7 rfl rfl)
theorem dX0_crumbsByDigits_8 : decode cX0_crumbsByDigits 8 = .ok (.lastore, 1) := dk_80 (dk_at dksX0_crumbsByDigits_0 8 rfl rfl)
theorem dX0_crumbsByDigits_9 : decode cX0_crumbsByDigits 9 = .ok (.goto 6, 3) := dk_167 0 6 (dk_at dksX0_crumbsByDigits_0 9 rfl rfl)
theorem dX0_crumbsByDigits_12 : decode cX0_crumbsByDigits 12 = .ok (.astore_n 3, 1) := dk_78 (dk_at dksX0_crumbsByDigits_0 12 rfl rfl)
theorem dX0_crumbsByDigits_13 : decode cX0_crumbsByDigits 13 = .ok (.iconst 1, 1) := dk_4 (dk_at dksX0_crumbsByDigits_0 13 rfl rfl)
theorem dX0_crumbsByDigits_14 : decode cX0_crumbsByDigits 14 = .ok (.ireturn, 1) := dk_172 (dk_at dksX0_crumbsByDigits_0 14 rfl rfl)
theorem dX0_crumbsByDigits_15 : decode cX0_crumbsByDigits 15 = .ok (.iconst 0, 1) := dk_3 (dk_at dksX0_crumbsByDigits_0 15 rfl rfl)
theorem dX0_crumbsByDigits_16 : decode cX0_crumbsByDigits 16 = .ok (.ireturn, 1) := dk_172 (dk_at dksX0_crumbsByDigits_0 16 rfl rfl)
abbrev cX0_doughByAmount : ByteArray := method_18_code
def yX0_doughByAmount : MethodName := ⟨RX0, "doughByAmount", "(LDoughLedger;I[J)I"⟩
def dkwX0_doughByAmount_0 : List UInt8 := [44, 3, 42, 27, 182, 0, 67, 133, 80, 167, 0, 6, 78, 4, 172, 3, 172]
abbrev dktX0_doughByAmount_0 : List UInt8 := dkwX0_doughByAmount_0 ++ []
theorem dksX0_doughByAmount_0 : cX0_doughByAmount.data.toList.drop 0 = dktX0_doughByAmount_0 := by decide +kernel
theorem dX0_doughByAmount_0 : decode cX0_doughByAmount 0 = .ok (.aload_n 2, 1) := dk_44 (dk_at dksX0_doughByAmount_0 0 rfl rfl)
theorem dX0_doughByAmount_1 : decode cX0_doughByAmount 1 = .ok (.iconst 0, 1) := dk_3 (dk_at dksX0_doughByAmount_0 1 rfl rfl)
theorem dX0_doughByAmount_2 : decode cX0_doughByAmount 2 = .ok (.aload_n 0, 1) := dk_42 (dk_at dksX0_doughByAmount_0 2 rfl rfl)
theorem dX0_doughByAmount_3 : decode cX0_doughByAmount 3 = .ok (.iload_n 1, 1) := dk_27 (dk_at dksX0_doughByAmount_0 3 rfl rfl)
theorem dX0_doughByAmount_4 : decode cX0_doughByAmount 4 = .ok (.invokevirtual 67, 3) := dk_182 0 67 (dk_at dksX0_doughByAmount_0 4 rfl rfl)
theorem dX0_doughByAmount_7 : decode cX0_doughByAmount 7 = .ok (.i2l, 1) := dk_133 (dk_at dksX0_doughByAmount_0 7 rfl rfl)
theorem dX0_doughByAmount_8 : decode cX0_doughByAmount 8 = .ok (.lastore, 1) := dk_80 (dk_at dksX0_doughByAmount_0 8 rfl rfl)
theorem dX0_doughByAmount_9 : decode cX0_doughByAmount 9 = .ok (.goto 6, 3) := dk_167 0 6 (dk_at dksX0_doughByAmount_0 9 rfl rfl)
theorem dX0_doughByAmount_12 : decode cX0_doughByAmount 12 = .ok (.astore_n 3, 1) := dk_78 (dk_at dksX0_doughByAmount_0 12 rfl rfl)
theorem dX0_doughByAmount_13 : decode cX0_doughByAmount 13 = .ok (.iconst 1, 1) := dk_4 (dk_at dksX0_doughByAmount_0 13 rfl rfl)
theorem dX0_doughByAmount_14 : decode cX0_doughByAmount 14 = .ok (.ireturn, 1) := dk_172 (dk_at dksX0_doughByAmount_0 14 rfl rfl)
theorem dX0_doughByAmount_15 : decode cX0_doughByAmount 15 = .ok (.iconst 0, 1) := dk_3 (dk_at dksX0_doughByAmount_0 15 rfl rfl)
theorem dX0_doughByAmount_16 : decode cX0_doughByAmount 16 = .ok (.ireturn, 1) := dk_172 (dk_at dksX0_doughByAmount_0 16 rfl rfl)
abbrev cX0_nearestNumerator : ByteArray := method_19_code
def yX0_nearestNumerator : MethodName := ⟨RX0, "nearestNumerator", "(LDoughLedger;III[J)I"⟩
def dkwX0_nearestNumerator_1 : List UInt8 := [58, 5, 6, 172, 3, 172]
abbrev dktX0_nearestNumerator_1 : List UInt8 := dkwX0_nearestNumerator_1 ++ []
def dkwX0_nearestNumerator_0 : List UInt8 := [25, 4, 3, 42, 27, 28, 29, 182, 0, 70, 133, 80, 167, 0, 15, 58, 5, 4, 172, 58, 5, 5, 172]
abbrev dktX0_nearestNumerator_0 : List UInt8 := dkwX0_nearestNumerator_0 ++ dktX0_nearestNumerator_1
theorem dksX0_nearestNumerator_0 : cX0_nearestNumerator.data.toList.drop 0 = dktX0_nearestNumerator_0 := by decide +kernel
theorem dksX0_nearestNumerator_1 : cX0_nearestNumerator.data.toList.drop 23 = dktX0_nearestNumerator_1 := dk_seg dksX0_nearestNumerator_0 23 rfl rfl
theorem dX0_nearestNumerator_0 : decode cX0_nearestNumerator 0 = .ok (.aload 4, 2) := dk_25 4 (dk_at dksX0_nearestNumerator_0 0 rfl rfl)
theorem dX0_nearestNumerator_2 : decode cX0_nearestNumerator 2 = .ok (.iconst 0, 1) := dk_3 (dk_at dksX0_nearestNumerator_0 2 rfl rfl)
theorem dX0_nearestNumerator_3 : decode cX0_nearestNumerator 3 = .ok (.aload_n 0, 1) := dk_42 (dk_at dksX0_nearestNumerator_0 3 rfl rfl)
theorem dX0_nearestNumerator_4 : decode cX0_nearestNumerator 4 = .ok (.iload_n 1, 1) := dk_27 (dk_at dksX0_nearestNumerator_0 4 rfl rfl)
theorem dX0_nearestNumerator_5 : decode cX0_nearestNumerator 5 = .ok (.iload_n 2, 1) := dk_28 (dk_at dksX0_nearestNumerator_0 5 rfl rfl)
theorem dX0_nearestNumerator_6 : decode cX0_nearestNumerator 6 = .ok (.iload_n 3, 1) := dk_29 (dk_at dksX0_nearestNumerator_0 6 rfl rfl)
theorem dX0_nearestNumerator_7 : decode cX0_nearestNumerator 7 = .ok (.invokevirtual 70, 3) := dk_182 0 70 (dk_at dksX0_nearestNumerator_0 7 rfl rfl)
theorem dX0_nearestNumerator_10 : decode cX0_nearestNumerator 10 = .ok (.i2l, 1) := dk_133 (dk_at dksX0_nearestNumerator_0 10 rfl rfl)
theorem dX0_nearestNumerator_11 : decode cX0_nearestNumerator 11 = .ok (.lastore, 1) := dk_80 (dk_at dksX0_nearestNumerator_0 11 rfl rfl)
theorem dX0_nearestNumerator_12 : decode cX0_nearestNumerator 12 = .ok (.goto 15, 3) := dk_167 0 15 (dk_at dksX0_nearestNumerator_0 12 rfl rfl)
theorem dX0_nearestNumerator_15 : decode cX0_nearestNumerator 15 = .ok (.astore 5, 2) := dk_58 5 (dk_at dksX0_nearestNumerator_0 15 rfl rfl)
theorem dX0_nearestNumerator_17 : decode cX0_nearestNumerator 17 = .ok (.iconst 1, 1) := dk_4 (dk_at dksX0_nearestNumerator_0 17 rfl rfl)
theorem dX0_nearestNumerator_18 : decode cX0_nearestNumerator 18 = .ok (.ireturn, 1) := dk_172 (dk_at dksX0_nearestNumerator_0 18 rfl rfl)
theorem dX0_nearestNumerator_19 : decode cX0_nearestNumerator 19 = .ok (.astore 5, 2) := dk_58 5 (dk_at dksX0_nearestNumerator_0 19 rfl rfl)
theorem dX0_nearestNumerator_21 : decode cX0_nearestNumerator 21 = .ok (.iconst 2, 1) := dk_5 (dk_at dksX0_nearestNumerator_0 21 rfl rfl)
theorem dX0_nearestNumerator_22 : decode cX0_nearestNumerator 22 = .ok (.ireturn, 1) := dk_172 (dk_at dksX0_nearestNumerator_0 22 rfl rfl)
theorem dX0_nearestNumerator_23 : decode cX0_nearestNumerator 23 = .ok (.astore 5, 2) := dk_58 5 (dk_at dksX0_nearestNumerator_1 0 rfl rfl)
theorem dX0_nearestNumerator_25 : decode cX0_nearestNumerator 25 = .ok (.iconst 3, 1) := dk_6 (dk_at dksX0_nearestNumerator_1 2 rfl rfl)
theorem dX0_nearestNumerator_26 : decode cX0_nearestNumerator 26 = .ok (.ireturn, 1) := dk_172 (dk_at dksX0_nearestNumerator_1 3 rfl rfl)
theorem dX0_nearestNumerator_27 : decode cX0_nearestNumerator 27 = .ok (.iconst 0, 1) := dk_3 (dk_at dksX0_nearestNumerator_1 4 rfl rfl)
theorem dX0_nearestNumerator_28 : decode cX0_nearestNumerator 28 = .ok (.ireturn, 1) := dk_172 (dk_at dksX0_nearestNumerator_1 5 rfl rfl)
abbrev cX0_nearestDenominator : ByteArray := method_20_code
def yX0_nearestDenominator : MethodName := ⟨RX0, "nearestDenominator", "(LDoughLedger;III[J)I"⟩
def dkwX0_nearestDenominator_1 : List UInt8 := [58, 5, 6, 172, 3, 172]
abbrev dktX0_nearestDenominator_1 : List UInt8 := dkwX0_nearestDenominator_1 ++ []
def dkwX0_nearestDenominator_0 : List UInt8 := [25, 4, 3, 42, 27, 28, 29, 182, 0, 74, 133, 80, 167, 0, 15, 58, 5, 4, 172, 58, 5, 5, 172]
abbrev dktX0_nearestDenominator_0 : List UInt8 := dkwX0_nearestDenominator_0 ++ dktX0_nearestDenominator_1
theorem dksX0_nearestDenominator_0 : cX0_nearestDenominator.data.toList.drop 0 = dktX0_nearestDenominator_0 := by decide +kernel
theorem dksX0_nearestDenominator_1 : cX0_nearestDenominator.data.toList.drop 23 = dktX0_nearestDenominator_1 := dk_seg dksX0_nearestDenominator_0 23 rfl rfl
theorem dX0_nearestDenominator_0 : decode cX0_nearestDenominator 0 = .ok (.aload 4, 2) := dk_25 4 (dk_at dksX0_nearestDenominator_0 0 rfl rfl)
theorem dX0_nearestDenominator_2 : decode cX0_nearestDenominator 2 = .ok (.iconst 0, 1) := dk_3 (dk_at dksX0_nearestDenominator_0 2 rfl rfl)
theorem dX0_nearestDenominator_3 : decode cX0_nearestDenominator 3 = .ok (.aload_n 0, 1) := dk_42 (dk_at dksX0_nearestDenominator_0 3 rfl rfl)
theorem dX0_nearestDenominator_4 : decode cX0_nearestDenominator 4 = .ok (.iload_n 1, 1) := dk_27 (dk_at dksX0_nearestDenominator_0 4 rfl rfl)
theorem dX0_nearestDenominator_5 : decode cX0_nearestDenominator 5 = .ok (.iload_n 2, 1) := dk_28 (dk_at dksX0_nearestDenominator_0 5 rfl rfl)
theorem dX0_nearestDenominator_6 : decode cX0_nearestDenominator 6 = .ok (.iload_n 3, 1) := dk_29 (dk_at dksX0_nearestDenominator_0 6 rfl rfl)
theorem dX0_nearestDenominator_7 : decode cX0_nearestDenominator 7 = .ok (.invokevirtual 74, 3) := dk_182 0 74 (dk_at dksX0_nearestDenominator_0 7 rfl rfl)
theorem dX0_nearestDenominator_10 : decode cX0_nearestDenominator 10 = .ok (.i2l, 1) := dk_133 (dk_at dksX0_nearestDenominator_0 10 rfl rfl)
theorem dX0_nearestDenominator_11 : decode cX0_nearestDenominator 11 = .ok (.lastore, 1) := dk_80 (dk_at dksX0_nearestDenominator_0 11 rfl rfl)
theorem dX0_nearestDenominator_12 : decode cX0_nearestDenominator 12 = .ok (.goto 15, 3) := dk_167 0 15 (dk_at dksX0_nearestDenominator_0 12 rfl rfl)
theorem dX0_nearestDenominator_15 : decode cX0_nearestDenominator 15 = .ok (.astore 5, 2) := dk_58 5 (dk_at dksX0_nearestDenominator_0 15 rfl rfl)
theorem dX0_nearestDenominator_17 : decode cX0_nearestDenominator 17 = .ok (.iconst 1, 1) := dk_4 (dk_at dksX0_nearestDenominator_0 17 rfl rfl)
theorem dX0_nearestDenominator_18 : decode cX0_nearestDenominator 18 = .ok (.ireturn, 1) := dk_172 (dk_at dksX0_nearestDenominator_0 18 rfl rfl)
theorem dX0_nearestDenominator_19 : decode cX0_nearestDenominator 19 = .ok (.astore 5, 2) := dk_58 5 (dk_at dksX0_nearestDenominator_0 19 rfl rfl)
theorem dX0_nearestDenominator_21 : decode cX0_nearestDenominator 21 = .ok (.iconst 2, 1) := dk_5 (dk_at dksX0_nearestDenominator_0 21 rfl rfl)
theorem dX0_nearestDenominator_22 : decode cX0_nearestDenominator 22 = .ok (.ireturn, 1) := dk_172 (dk_at dksX0_nearestDenominator_0 22 rfl rfl)
theorem dX0_nearestDenominator_23 : decode cX0_nearestDenominator 23 = .ok (.astore 5, 2) := dk_58 5 (dk_at dksX0_nearestDenominator_1 0 rfl rfl)
theorem dX0_nearestDenominator_25 : decode cX0_nearestDenominator 25 = .ok (.iconst 3, 1) := dk_6 (dk_at dksX0_nearestDenominator_1 2 rfl rfl)
theorem dX0_nearestDenominator_26 : decode cX0_nearestDenominator 26 = .ok (.ireturn, 1) := dk_172 (dk_at dksX0_nearestDenominator_1 3 rfl rfl)
theorem dX0_nearestDenominator_27 : decode cX0_nearestDenominator 27 = .ok (.iconst 0, 1) := dk_3 (dk_at dksX0_nearestDenominator_1 4 rfl rfl)
theorem dX0_nearestDenominator_28 : decode cX0_nearestDenominator 28 = .ok (.ireturn, 1) := dk_172 (dk_at dksX0_nearestDenominator_1 5 rfl rfl)
abbrev cX0_denominatorByTrying : ByteArray := method_21_code
def yX0_denominatorByTrying : MethodName := ⟨RX0, "denominatorByTrying", "(LDoughLedger;III[J)I"⟩
def dkwX0_denominatorByTrying_1 : List UInt8 := [58, 5, 6, 172, 3, 172]
abbrev dktX0_denominatorByTrying_1 : List UInt8 := dkwX0_denominatorByTrying_1 ++ []
def dkwX0_denominatorByTrying_0 : List UInt8 := [25, 4, 3, 42, 27, 28, 29, 182, 0, 77, 133, 80, 167, 0, 15, 58, 5, 4, 172, 58, 5, 5, 172]
abbrev dktX0_denominatorByTrying_0 : List UInt8 := dkwX0_denominatorByTrying_0 ++ dktX0_denominatorByTrying_1
theorem dksX0_denominatorByTrying_0 : cX0_denominatorByTrying.data.toList.drop 0 = dktX0_denominatorByTrying_0 := by decide +kernel
theorem dksX0_denominatorByTrying_1 : cX0_denominatorByTrying.data.toList.drop 23 = dktX0_denominatorByTrying_1 := dk_seg dksX0_denominatorByTrying_0 23 rfl rfl
theorem dX0_denominatorByTrying_0 : decode cX0_denominatorByTrying 0 = .ok (.aload 4, 2) := dk_25 4 (dk_at dksX0_denominatorByTrying_0 0 rfl rfl)
theorem dX0_denominatorByTrying_2 : decode cX0_denominatorByTrying 2 = .ok (.iconst 0, 1) := dk_3 (dk_at dksX0_denominatorByTrying_0 2 rfl rfl)
theorem dX0_denominatorByTrying_3 : decode cX0_denominatorByTrying 3 = .ok (.aload_n 0, 1) := dk_42 (dk_at dksX0_denominatorByTrying_0 3 rfl rfl)
theorem dX0_denominatorByTrying_4 : decode cX0_denominatorByTrying 4 = .ok (.iload_n 1, 1) := dk_27 (dk_at dksX0_denominatorByTrying_0 4 rfl rfl)
theorem dX0_denominatorByTrying_5 : decode cX0_denominatorByTrying 5 = .ok (.iload_n 2, 1) := dk_28 (dk_at dksX0_denominatorByTrying_0 5 rfl rfl)
theorem dX0_denominatorByTrying_6 : decode cX0_denominatorByTrying 6 = .ok (.iload_n 3, 1) := dk_29 (dk_at dksX0_denominatorByTrying_0 6 rfl rfl)
theorem dX0_denominatorByTrying_7 : decode cX0_denominatorByTrying 7 = .ok (.invokevirtual 77, 3) := dk_182 0 77 (dk_at dksX0_denominatorByTrying_0 7 rfl rfl)
theorem dX0_denominatorByTrying_10 : decode cX0_denominatorByTrying 10 = .ok (.i2l, 1) := dk_133 (dk_at dksX0_denominatorByTrying_0 10 rfl rfl)
theorem dX0_denominatorByTrying_11 : decode cX0_denominatorByTrying 11 = .ok (.lastore, 1) := dk_80 (dk_at dksX0_denominatorByTrying_0 11 rfl rfl)
theorem dX0_denominatorByTrying_12 : decode cX0_denominatorByTrying 12 = .ok (.goto 15, 3) := dk_167 0 15 (dk_at dksX0_denominatorByTrying_0 12 rfl rfl)
theorem dX0_denominatorByTrying_15 : decode cX0_denominatorByTrying 15 = .ok (.astore 5, 2) := dk_58 5 (dk_at dksX0_denominatorByTrying_0 15 rfl rfl)
theorem dX0_denominatorByTrying_17 : decode cX0_denominatorByTrying 17 = .ok (.iconst 1, 1) := dk_4 (dk_at dksX0_denominatorByTrying_0 17 rfl rfl)
theorem dX0_denominatorByTrying_18 : decode cX0_denominatorByTrying 18 = .ok (.ireturn, 1) := dk_172 (dk_at dksX0_denominatorByTrying_0 18 rfl rfl)
theorem dX0_denominatorByTrying_19 : decode cX0_denominatorByTrying 19 = .ok (.astore 5, 2) := dk_58 5 (dk_at dksX0_denominatorByTrying_0 19 rfl rfl)
theorem dX0_denominatorByTrying_21 : decode cX0_denominatorByTrying 21 = .ok (.iconst 2, 1) := dk_5 (dk_at dksX0_denominatorByTrying_0 21 rfl rfl)
theorem dX0_denominatorByTrying_22 : decode cX0_denominatorByTrying 22 = .ok (.ireturn, 1) := dk_172 (dk_at dksX0_denominatorByTrying_0 22 rfl rfl)
theorem dX0_denominatorByTrying_23 : decode cX0_denominatorByTrying 23 = .ok (.astore 5, 2) := dk_58 5 (dk_at dksX0_denominatorByTrying_1 0 rfl rfl)
theorem dX0_denominatorByTrying_25 : decode cX0_denominatorByTrying 25 = .ok (.iconst 3, 1) := dk_6 (dk_at dksX0_denominatorByTrying_1 2 rfl rfl)
theorem dX0_denominatorByTrying_26 : decode cX0_denominatorByTrying 26 = .ok (.ireturn, 1) := dk_172 (dk_at dksX0_denominatorByTrying_1 3 rfl rfl)
theorem dX0_denominatorByTrying_27 : decode cX0_denominatorByTrying 27 = .ok (.iconst 0, 1) := dk_3 (dk_at dksX0_denominatorByTrying_1 4 rfl rfl)
theorem dX0_denominatorByTrying_28 : decode cX0_denominatorByTrying 28 = .ok (.ireturn, 1) := dk_172 (dk_at dksX0_denominatorByTrying_1 5 rfl rfl)
abbrev cX0_capacityOf : ByteArray := method_22_code
def yX0_capacityOf : MethodName := ⟨RX0, "capacityOf", "(LDoughLedger;I[J)I"⟩
def dkwX0_capacityOf_0 : List UInt8 := [44, 3, 42, 27, 182, 0, 80, 133, 80, 167, 0, 6, 78, 4, 172, 3, 172]
abbrev dktX0_capacityOf_0 : List UInt8 := dkwX0_capacityOf_0 ++ []
theorem dksX0_capacityOf_0 : cX0_capacityOf.data.toList.drop 0 = dktX0_capacityOf_0 := by decide +kernel
theorem dX0_capacityOf_0 : decode cX0_capacityOf 0 = .ok (.aload_n 2, 1) := dk_44 (dk_at dksX0_capacityOf_0 0 rfl rfl)
theorem dX0_capacityOf_1 : decode cX0_capacityOf 1 = .ok (.iconst 0, 1) := dk_3 (dk_at dksX0_capacityOf_0 1 rfl rfl)
theorem dX0_capacityOf_2 : decode cX0_capacityOf 2 = .ok (.aload_n 0, 1) := dk_42 (dk_at dksX0_capacityOf_0 2 rfl rfl)
theorem dX0_capacityOf_3 : decode cX0_capacityOf 3 = .ok (.iload_n 1, 1) := dk_27 (dk_at dksX0_capacityOf_0 3 rfl rfl)
theorem dX0_capacityOf_4 : decode cX0_capacityOf 4 = .ok (.invokevirtual 80, 3) := dk_182 0 80 (dk_at dksX0_capacityOf_0 4 rfl rfl)
theorem dX0_capacityOf_7 : decode cX0_capacityOf 7 = .ok (.i2l, 1) := dk_133 (dk_at dksX0_capacityOf_0 7 rfl rfl)
theorem dX0_capacityOf_8 : decode cX0_capacityOf 8 = .ok (.lastore, 1) := dk_80 (dk_at dksX0_capacityOf_0 8 rfl rfl)
theorem dX0_capacityOf_9 : decode cX0_capacityOf 9 = .ok (.goto 6, 3) := dk_167 0 6 (dk_at dksX0_capacityOf_0 9 rfl rfl)
theorem dX0_capacityOf_12 : decode cX0_capacityOf 12 = .ok (.astore_n 3, 1) := dk_78 (dk_at dksX0_capacityOf_0 12 rfl rfl)
theorem dX0_capacityOf_13 : decode cX0_capacityOf 13 = .ok (.iconst 1, 1) := dk_4 (dk_at dksX0_capacityOf_0 13 rfl rfl)
theorem dX0_capacityOf_14 : decode cX0_capacityOf 14 = .ok (.ireturn, 1) := dk_172 (dk_at dksX0_capacityOf_0 14 rfl rfl)
theorem dX0_capacityOf_15 : decode cX0_capacityOf 15 = .ok (.iconst 0, 1) := dk_3 (dk_at dksX0_capacityOf_0 15 rfl rfl)
theorem dX0_capacityOf_16 : decode cX0_capacityOf 16 = .ok (.ireturn, 1) := dk_172 (dk_at dksX0_capacityOf_0 16 rfl rfl)
abbrev cX0_contentOf : ByteArray := method_23_code
def yX0_contentOf : MethodName := ⟨RX0, "contentOf", "(LDoughLedger;I[J)I"⟩
def dkwX0_contentOf_0 : List UInt8 := [44, 3, 42, 27, 182, 0, 83, 133, 80, 167, 0, 6, 78, 4, 172, 3, 172]
abbrev dktX0_contentOf_0 : List UInt8 := dkwX0_contentOf_0 ++ []
theorem dksX0_contentOf_0 : cX0_contentOf.data.toList.drop 0 = dktX0_contentOf_0 := by decide +kernel
theorem dX0_contentOf_0 : decode cX0_contentOf 0 = .ok (.aload_n 2, 1) := dk_44 (dk_at dksX0_contentOf_0 0 rfl rfl)
theorem dX0_contentOf_1 : decode cX0_contentOf 1 = .ok (.iconst 0, 1) := dk_3 (dk_at dksX0_contentOf_0 1 rfl rfl)
theorem dX0_contentOf_2 : decode cX0_contentOf 2 = .ok (.aload_n 0, 1) := dk_42 (dk_at dksX0_contentOf_0 2 rfl rfl)
theorem dX0_contentOf_3 : decode cX0_contentOf 3 = .ok (.iload_n 1, 1) := dk_27 (dk_at dksX0_contentOf_0 3 rfl rfl)
theorem dX0_contentOf_4 : decode cX0_contentOf 4 = .ok (.invokevirtual 83, 3) := dk_182 0 83 (dk_at dksX0_contentOf_0 4 rfl rfl)
theorem dX0_contentOf_7 : decode cX0_contentOf 7 = .ok (.i2l, 1) := dk_133 (dk_at dksX0_contentOf_0 7 rfl rfl)
theorem dX0_contentOf_8 : decode cX0_contentOf 8 = .ok (.lastore, 1) := dk_80 (dk_at dksX0_contentOf_0 8 rfl rfl)
theorem dX0_contentOf_9 : decode cX0_contentOf 9 = .ok (.goto 6, 3) := dk_167 0 6 (dk_at dksX0_contentOf_0 9 rfl rfl)
theorem dX0_contentOf_12 : decode cX0_contentOf 12 = .ok (.astore_n 3, 1) := dk_78 (dk_at dksX0_contentOf_0 12 rfl rfl)
theorem dX0_contentOf_13 : decode cX0_contentOf 13 = .ok (.iconst 1, 1) := dk_4 (dk_at dksX0_contentOf_0 13 rfl rfl)
theorem dX0_contentOf_14 : decode cX0_contentOf 14 = .ok (.ireturn, 1) := dk_172 (dk_at dksX0_contentOf_0 14 rfl rfl)
theorem dX0_contentOf_15 : decode cX0_contentOf 15 = .ok (.iconst 0, 1) := dk_3 (dk_at dksX0_contentOf_0 15 rfl rfl)
theorem dX0_contentOf_16 : decode cX0_contentOf 16 = .ok (.ireturn, 1) := dk_172 (dk_at dksX0_contentOf_0 16 rfl rfl)
abbrev cX0_roomFrom : ByteArray := method_24_code
def yX0_roomFrom : MethodName := ⟨RX0, "roomFrom", "(LDoughLedger;I[J)I"⟩
def dkwX0_roomFrom_0 : List UInt8 := [44, 3, 42, 27, 182, 0, 86, 133, 80, 167, 0, 6, 78, 4, 172, 3, 172]
abbrev dktX0_roomFrom_0 : List UInt8 := dkwX0_roomFrom_0 ++ []
theorem dksX0_roomFrom_0 : cX0_roomFrom.data.toList.drop 0 = dktX0_roomFrom_0 := by decide +kernel
theorem dX0_roomFrom_0 : decode cX0_roomFrom 0 = .ok (.aload_n 2, 1) := dk_44 (dk_at dksX0_roomFrom_0 0 rfl rfl)
theorem dX0_roomFrom_1 : decode cX0_roomFrom 1 = .ok (.iconst 0, 1) := dk_3 (dk_at dksX0_roomFrom_0 1 rfl rfl)
theorem dX0_roomFrom_2 : decode cX0_roomFrom 2 = .ok (.aload_n 0, 1) := dk_42 (dk_at dksX0_roomFrom_0 2 rfl rfl)
theorem dX0_roomFrom_3 : decode cX0_roomFrom 3 = .ok (.iload_n 1, 1) := dk_27 (dk_at dksX0_roomFrom_0 3 rfl rfl)
theorem dX0_roomFrom_4 : decode cX0_roomFrom 4 = .ok (.invokevirtual 86, 3) := dk_182 0 86 (dk_at dksX0_roomFrom_0 4 rfl rfl)
theorem dX0_roomFrom_7 : decode cX0_roomFrom 7 = .ok (.i2l, 1) := dk_133 (dk_at dksX0_roomFrom_0 7 rfl rfl)
theorem dX0_roomFrom_8 : decode cX0_roomFrom 8 = .ok (.lastore, 1) := dk_80 (dk_at dksX0_roomFrom_0 8 rfl rfl)
theorem dX0_roomFrom_9 : decode cX0_roomFrom 9 = .ok (.goto 6, 3) := dk_167 0 6 (dk_at dksX0_roomFrom_0 9 rfl rfl)
theorem dX0_roomFrom_12 : decode cX0_roomFrom 12 = .ok (.astore_n 3, 1) := dk_78 (dk_at dksX0_roomFrom_0 12 rfl rfl)
theorem dX0_roomFrom_13 : decode cX0_roomFrom 13 = .ok (.iconst 1, 1) := dk_4 (dk_at dksX0_roomFrom_0 13 rfl rfl)
theorem dX0_roomFrom_14 : decode cX0_roomFrom 14 = .ok (.ireturn, 1) := dk_172 (dk_at dksX0_roomFrom_0 14 rfl rfl)
theorem dX0_roomFrom_15 : decode cX0_roomFrom 15 = .ok (.iconst 0, 1) := dk_3 (dk_at dksX0_roomFrom_0 15 rfl rfl)
theorem dX0_roomFrom_16 : decode cX0_roomFrom 16 = .ok (.ireturn, 1) := dk_172 (dk_at dksX0_roomFrom_0 16 rfl rfl)
abbrev cX0_fullestBowl : ByteArray := method_25_code
def yX0_fullestBowl : MethodName := ⟨RX0, "fullestBowl", "(LDoughLedger;[J)I"⟩
def dkwX0_fullestBowl_0 : List UInt8 := [43, 3, 42, 182, 0, 89, 133, 80, 167, 0, 6, 77, 4, 172, 3, 172]
abbrev dktX0_fullestBowl_0 : List UInt8 := dkwX0_fullestBowl_0 ++ []
theorem dksX0_fullestBowl_0 : cX0_fullestBowl.data.toList.drop 0 = dktX0_fullestBowl_0 := by decide +kernel
theorem dX0_fullestBowl_0 : decode cX0_fullestBowl 0 = .ok (.aload_n 1, 1) := dk_43 (dk_at dksX0_fullestBowl_0 0 rfl rfl)
theorem dX0_fullestBowl_1 : decode cX0_fullestBowl 1 = .ok (.iconst 0, 1) := dk_3 (dk_at dksX0_fullestBowl_0 1 rfl rfl)
theorem dX0_fullestBowl_2 : decode cX0_fullestBowl 2 = .ok (.aload_n 0, 1) := dk_42 (dk_at dksX0_fullestBowl_0 2 rfl rfl)
theorem dX0_fullestBowl_3 : decode cX0_fullestBowl 3 = .ok (.invokevirtual 89, 3) := dk_182 0 89 (dk_at dksX0_fullestBowl_0 3 rfl rfl)
theorem dX0_fullestBowl_6 : decode cX0_fullestBowl 6 = .ok (.i2l, 1) := dk_133 (dk_at dksX0_fullestBowl_0 6 rfl rfl)
theorem dX0_fullestBowl_7 : decode cX0_fullestBowl 7 = .ok (.lastore, 1) := dk_80 (dk_at dksX0_fullestBowl_0 7 rfl rfl)
theorem dX0_fullestBowl_8 : decode cX0_fullestBowl 8 = .ok (.goto 6, 3) := dk_167 0 6 (dk_at dksX0_fullestBowl_0 8 rfl rfl)
theorem dX0_fullestBowl_11 : decode cX0_fullestBowl 11 = .ok (.astore_n 2, 1) := dk_77 (dk_at dksX0_fullestBowl_0 11 rfl rfl)
theorem dX0_fullestBowl_12 : decode cX0_fullestBowl 12 = .ok (.iconst 1, 1) := dk_4 (dk_at dksX0_fullestBowl_0 12 rfl rfl)
theorem dX0_fullestBowl_13 : decode cX0_fullestBowl 13 = .ok (.ireturn, 1) := dk_172 (dk_at dksX0_fullestBowl_0 13 rfl rfl)
theorem dX0_fullestBowl_14 : decode cX0_fullestBowl 14 = .ok (.iconst 0, 1) := dk_3 (dk_at dksX0_fullestBowl_0 14 rfl rfl)
theorem dX0_fullestBowl_15 : decode cX0_fullestBowl 15 = .ok (.ireturn, 1) := dk_172 (dk_at dksX0_fullestBowl_0 15 rfl rfl)
abbrev cX0_weightOf : ByteArray := method_26_code
def yX0_weightOf : MethodName := ⟨RX0, "weightOf", "(LDoughLedger;I[J)I"⟩
def dkwX0_weightOf_0 : List UInt8 := [44, 3, 42, 27, 182, 0, 93, 133, 80, 167, 0, 6, 78, 4, 172, 3, 172]
abbrev dktX0_weightOf_0 : List UInt8 := dkwX0_weightOf_0 ++ []
theorem dksX0_weightOf_0 : cX0_weightOf.data.toList.drop 0 = dktX0_weightOf_0 := by decide +kernel
theorem dX0_weightOf_0 : decode cX0_weightOf 0 = .ok (.aload_n 2, 1) := dk_44 (dk_at dksX0_weightOf_0 0 rfl rfl)
theorem dX0_weightOf_1 : decode cX0_weightOf 1 = .ok (.iconst 0, 1) := dk_3 (dk_at dksX0_weightOf_0 1 rfl rfl)
theorem dX0_weightOf_2 : decode cX0_weightOf 2 = .ok (.aload_n 0, 1) := dk_42 (dk_at dksX0_weightOf_0 2 rfl rfl)
theorem dX0_weightOf_3 : decode cX0_weightOf 3 = .ok (.iload_n 1, 1) := dk_27 (dk_at dksX0_weightOf_0 3 rfl rfl)
theorem dX0_weightOf_4 : decode cX0_weightOf 4 = .ok (.invokevirtual 93, 3) := dk_182 0 93 (dk_at dksX0_weightOf_0 4 rfl rfl)
theorem dX0_weightOf_7 : decode cX0_weightOf 7 = .ok (.i2l, 1) := dk_133 (dk_at dksX0_weightOf_0 7 rfl rfl)
theorem dX0_weightOf_8 : decode cX0_weightOf 8 = .ok (.lastore, 1) := dk_80 (dk_at dksX0_weightOf_0 8 rfl rfl)
theorem dX0_weightOf_9 : decode cX0_weightOf 9 = .ok (.goto 6, 3) := dk_167 0 6 (dk_at dksX0_weightOf_0 9 rfl rfl)
theorem dX0_weightOf_12 : decode cX0_weightOf 12 = .ok (.astore_n 3, 1) := dk_78 (dk_at dksX0_weightOf_0 12 rfl rfl)
theorem dX0_weightOf_13 : decode cX0_weightOf 13 = .ok (.iconst 1, 1) := dk_4 (dk_at dksX0_weightOf_0 13 rfl rfl)
theorem dX0_weightOf_14 : decode cX0_weightOf 14 = .ok (.ireturn, 1) := dk_172 (dk_at dksX0_weightOf_0 14 rfl rfl)
theorem dX0_weightOf_15 : decode cX0_weightOf 15 = .ok (.iconst 0, 1) := dk_3 (dk_at dksX0_weightOf_0 15 rfl rfl)
theorem dX0_weightOf_16 : decode cX0_weightOf 16 = .ok (.ireturn, 1) := dk_172 (dk_at dksX0_weightOf_0 16 rfl rfl)
abbrev cX0_minutesOf : ByteArray := method_27_code
def yX0_minutesOf : MethodName := ⟨RX0, "minutesOf", "(LDoughLedger;I[J)I"⟩
def dkwX0_minutesOf_0 : List UInt8 := [44, 3, 42, 27, 182, 0, 96, 133, 80, 167, 0, 6, 78, 4, 172, 3, 172]
abbrev dktX0_minutesOf_0 : List UInt8 := dkwX0_minutesOf_0 ++ []
theorem dksX0_minutesOf_0 : cX0_minutesOf.data.toList.drop 0 = dktX0_minutesOf_0 := by decide +kernel
theorem dX0_minutesOf_0 : decode cX0_minutesOf 0 = .ok (.aload_n 2, 1) := dk_44 (dk_at dksX0_minutesOf_0 0 rfl rfl)
theorem dX0_minutesOf_1 : decode cX0_minutesOf 1 = .ok (.iconst 0, 1) := dk_3 (dk_at dksX0_minutesOf_0 1 rfl rfl)
theorem dX0_minutesOf_2 : decode cX0_minutesOf 2 = .ok (.aload_n 0, 1) := dk_42 (dk_at dksX0_minutesOf_0 2 rfl rfl)
theorem dX0_minutesOf_3 : decode cX0_minutesOf 3 = .ok (.iload_n 1, 1) := dk_27 (dk_at dksX0_minutesOf_0 3 rfl rfl)
theorem dX0_minutesOf_4 : decode cX0_minutesOf 4 = .ok (.invokevirtual 96, 3) := dk_182 0 96 (dk_at dksX0_minutesOf_0 4 rfl rfl)
theorem dX0_minutesOf_7 : decode cX0_minutesOf 7 = .ok (.i2l, 1) := dk_133 (dk_at dksX0_minutesOf_0 7 rfl rfl)
theorem dX0_minutesOf_8 : decode cX0_minutesOf 8 = .ok (.lastore, 1) := dk_80 (dk_at dksX0_minutesOf_0 8 rfl rfl)
theorem dX0_minutesOf_9 : decode cX0_minutesOf 9 = .ok (.goto 6, 3) := dk_167 0 6 (dk_at dksX0_minutesOf_0 9 rfl rfl)
theorem dX0_minutesOf_12 : decode cX0_minutesOf 12 = .ok (.astore_n 3, 1) := dk_78 (dk_at dksX0_minutesOf_0 12 rfl rfl)
theorem dX0_minutesOf_13 : decode cX0_minutesOf 13 = .ok (.iconst 1, 1) := dk_4 (dk_at dksX0_minutesOf_0 13 rfl rfl)
theorem dX0_minutesOf_14 : decode cX0_minutesOf 14 = .ok (.ireturn, 1) := dk_172 (dk_at dksX0_minutesOf_0 14 rfl rfl)
theorem dX0_minutesOf_15 : decode cX0_minutesOf 15 = .ok (.iconst 0, 1) := dk_3 (dk_at dksX0_minutesOf_0 15 rfl rfl)
theorem dX0_minutesOf_16 : decode cX0_minutesOf 16 = .ok (.ireturn, 1) := dk_172 (dk_at dksX0_minutesOf_0 16 rfl rfl)
abbrev cX0_crumbsOf : ByteArray := method_28_code
def yX0_crumbsOf : MethodName := ⟨RX0, "crumbsOf", "(LDoughLedger;I[J)I"⟩
def dkwX0_crumbsOf_0 : List UInt8 := [44, 3, 42, 27, 182, 0, 99, 133, 80, 167, 0, 6, 78, 4, 172, 3, 172]
abbrev dktX0_crumbsOf_0 : List UInt8 := dkwX0_crumbsOf_0 ++ []
theorem dksX0_crumbsOf_0 : cX0_crumbsOf.data.toList.drop 0 = dktX0_crumbsOf_0 := by decide +kernel
theorem dX0_crumbsOf_0 : decode cX0_crumbsOf 0 = .ok (.aload_n 2, 1) := dk_44 (dk_at dksX0_crumbsOf_0 0 rfl rfl)
theorem dX0_crumbsOf_1 : decode cX0_crumbsOf 1 = .ok (.iconst 0, 1) := dk_3 (dk_at dksX0_crumbsOf_0 1 rfl rfl)
theorem dX0_crumbsOf_2 : decode cX0_crumbsOf 2 = .ok (.aload_n 0, 1) := dk_42 (dk_at dksX0_crumbsOf_0 2 rfl rfl)
theorem dX0_crumbsOf_3 : decode cX0_crumbsOf 3 = .ok (.iload_n 1, 1) := dk_27 (dk_at dksX0_crumbsOf_0 3 rfl rfl)
theorem dX0_crumbsOf_4 : decode cX0_crumbsOf 4 = .ok (.invokevirtual 99, 3) := dk_182 0 99 (dk_at dksX0_crumbsOf_0 4 rfl rfl)
theorem dX0_crumbsOf_7 : decode cX0_crumbsOf 7 = .ok (.i2l, 1) := dk_133 (dk_at dksX0_crumbsOf_0 7 rfl rfl)
theorem dX0_crumbsOf_8 : decode cX0_crumbsOf 8 = .ok (.lastore, 1) := dk_80 (dk_at dksX0_crumbsOf_0 8 rfl rfl)
theorem dX0_crumbsOf_9 : decode cX0_crumbsOf 9 = .ok (.goto 6, 3) := dk_167 0 6 (dk_at dksX0_crumbsOf_0 9 rfl rfl)
theorem dX0_crumbsOf_12 : decode cX0_crumbsOf 12 = .ok (.astore_n 3, 1) := dk_78 (dk_at dksX0_crumbsOf_0 12 rfl rfl)
theorem dX0_crumbsOf_13 : decode cX0_crumbsOf 13 = .ok (.iconst 1, 1) := dk_4 (dk_at dksX0_crumbsOf_0 13 rfl rfl)
theorem dX0_crumbsOf_14 : decode cX0_crumbsOf 14 = .ok (.ireturn, 1) := dk_172 (dk_at dksX0_crumbsOf_0 14 rfl rfl)
theorem dX0_crumbsOf_15 : decode cX0_crumbsOf 15 = .ok (.iconst 0, 1) := dk_3 (dk_at dksX0_crumbsOf_0 15 rfl rfl)
theorem dX0_crumbsOf_16 : decode cX0_crumbsOf 16 = .ok (.ireturn, 1) := dk_172 (dk_at dksX0_crumbsOf_0 16 rfl rfl)
abbrev cX0_share : ByteArray := method_29_code
def yX0_share : MethodName := ⟨RX0, "share", "(LDoughLedger;II[J)I"⟩
def dkwX0_share_0 : List UInt8 := [45, 3, 42, 27, 28, 182, 0, 102, 133, 80, 167, 0, 7, 58, 4, 4, 172, 3, 172]
abbrev dktX0_share_0 : List UInt8 := dkwX0_share_0 ++ []
theorem dksX0_share_0 : cX0_share.data.toList.drop 0 = dktX0_share_0 := by decide +kernel
theorem dX0_share_0 : decode cX0_share 0 = .ok (.aload_n 3, 1) := dk_45 (dk_at dksX0_share_0 0 rfl rfl)
theorem dX0_share_1 : decode cX0_share 1 = .ok (.iconst 0, 1) := dk_3 (dk_at dksX0_share_0 1 rfl rfl)
theorem dX0_share_2 : decode cX0_share 2 = .ok (.aload_n 0, 1) := dk_42 (dk_at dksX0_share_0 2 rfl rfl)
theorem dX0_share_3 : decode cX0_share 3 = .ok (.iload_n 1, 1) := dk_27 (dk_at dksX0_share_0 3 rfl rfl)
theorem dX0_share_4 : decode cX0_share 4 = .ok (.iload_n 2, 1) := dk_28 (dk_at dksX0_share_0 4 rfl rfl)
theorem dX0_share_5 : decode cX0_share 5 = .ok (.invokevirtual 102, 3) := dk_182 0 102 (dk_at dksX0_share_0 5 rfl rfl)
theorem dX0_share_8 : decode cX0_share 8 = .ok (.i2l, 1) := dk_133 (dk_at dksX0_share_0 8 rfl rfl)
theorem dX0_share_9 : decode cX0_share 9 = .ok (.lastore, 1) := dk_80 (dk_at dksX0_share_0 9 rfl rfl)
theorem dX0_share_10 : decode cX0_share 10 = .ok (.goto 7, 3) := dk_167 0 7 (dk_at dksX0_share_0 10 rfl rfl)
theorem dX0_share_13 : decode cX0_share 13 = .ok (.astore 4, 2) := dk_58 4 (dk_at dksX0_share_0 13 rfl rfl)
theorem dX0_share_15 : decode cX0_share 15 = .ok (.iconst 1, 1) := dk_4 (dk_at dksX0_share_0 15 rfl rfl)
theorem dX0_share_16 : decode cX0_share 16 = .ok (.ireturn, 1) := dk_172 (dk_at dksX0_share_0 16 rfl rfl)
theorem dX0_share_17 : decode cX0_share 17 = .ok (.iconst 0, 1) := dk_3 (dk_at dksX0_share_0 17 rfl rfl)
theorem dX0_share_18 : decode cX0_share 18 = .ok (.ireturn, 1) := dk_172 (dk_at dksX0_share_0 18 rfl rfl)
abbrev cX0_shareByRanks : ByteArray := method_30_code
def yX0_shareByRanks : MethodName := ⟨RX0, "shareByRanks", "(LDoughLedger;II[J)I"⟩
def dkwX0_shareByRanks_0 : List UInt8 := [45, 3, 42, 27, 28, 182, 0, 105, 133, 80, 167, 0, 7, 58, 4, 4, 172, 3, 172]
abbrev dktX0_shareByRanks_0 : List UInt8 := dkwX0_shareByRanks_0 ++ []
theorem dksX0_shareByRanks_0 : cX0_shareByRanks.data.toList.drop 0 = dktX0_shareByRanks_0 := by decide +kernel
theorem dX0_shareByRanks_0 : decode cX0_shareByRanks 0 = .ok (.aload_n 3, 1) := dk_45 (dk_at dksX0_shareByRanks_0 0 rfl rfl)
theorem dX0_shareByRanks_1 : decode cX0_shareByRanks 1 = .ok (.iconst 0, 1) := dk_3 (dk_at dksX0_shareByRanks_0 1 rfl rfl)
theorem dX0_shareByRanks_2 : decode cX0_shareByRanks 2 = .ok (.aload_n 0, 1) := dk_42 (dk_at dksX0_shareByRanks_0 2 rfl rfl)
theorem dX0_shareByRanks_3 : decode cX0_shareByRanks 3 = .ok (.iload_n 1, 1) := dk_27 (dk_at dksX0_shareByRanks_0 3 rfl rfl)
theorem dX0_shareByRanks_4 : decode cX0_shareByRanks 4 = .ok (.iload_n 2, 1) := dk_28 (dk_at dksX0_shareByRanks_0 4 rfl rfl)
theorem dX0_shareByRanks_5 : decode cX0_shareByRanks 5 = .ok (.invokevirtual 105, 3) := dk_182 0 105 (dk_at dksX0_shareByRanks_0 5 rfl rfl)
theorem dX0_shareByRanks_8 : decode cX0_shareByRanks 8 = .ok (.i2l, 1) := dk_133 (dk_at dksX0_shareByRanks_0 8 rfl rfl)
theorem dX0_shareByRanks_9 : decode cX0_shareByRanks 9 = .ok (.lastore, 1) := dk_80 (dk_at dksX0_shareByRanks_0 9 rfl rfl)
theorem dX0_shareByRanks_10 : decode cX0_shareByRanks 10 = .ok (.goto 7, 3) := dk_167 0 7 (dk_at dksX0_shareByRanks_0 10 rfl rfl)
theorem dX0_shareByRanks_13 : decode cX0_shareByRanks 13 = .ok (.astore 4, 2) := dk_58 4 (dk_at dksX0_shareByRanks_0 13 rfl rfl)
theorem dX0_shareByRanks_15 : decode cX0_shareByRanks 15 = .ok (.iconst 1, 1) := dk_4 (dk_at dksX0_shareByRanks_0 15 rfl rfl)
theorem dX0_shareByRanks_16 : decode cX0_shareByRanks 16 = .ok (.ireturn, 1) := dk_172 (dk_at dksX0_shareByRanks_0 16 rfl rfl)
theorem dX0_shareByRanks_17 : decode cX0_shareByRanks 17 = .ok (.iconst 0, 1) := dk_3 (dk_at dksX0_shareByRanks_0 17 rfl rfl)
theorem dX0_shareByRanks_18 : decode cX0_shareByRanks 18 = .ok (.ireturn, 1) := dk_172 (dk_at dksX0_shareByRanks_0 18 rfl rfl)
abbrev cX0_loafByCrumbs : ByteArray := method_31_code
def yX0_loafByCrumbs : MethodName := ⟨RX0, "loafByCrumbs", "(LDoughLedger;I[J)I"⟩
def dkwX0_loafByCrumbs_0 : List UInt8 := [44, 3, 42, 27, 182, 0, 108, 133, 80, 167, 0, 6, 78, 4, 172, 3, 172]
abbrev dktX0_loafByCrumbs_0 : List UInt8 := dkwX0_loafByCrumbs_0 ++ []
theorem dksX0_loafByCrumbs_0 : cX0_loafByCrumbs.data.toList.drop 0 = dktX0_loafByCrumbs_0 := by decide +kernel
theorem dX0_loafByCrumbs_0 : decode cX0_loafByCrumbs 0 = .ok (.aload_n 2, 1) := dk_44 (dk_at dksX0_loafByCrumbs_0 0 rfl rfl)
theorem dX0_loafByCrumbs_1 : decode cX0_loafByCrumbs 1 = .ok (.iconst 0, 1) := dk_3 (dk_at dksX0_loafByCrumbs_0 1 rfl rfl)
theorem dX0_loafByCrumbs_2 : decode cX0_loafByCrumbs 2 = .ok (.aload_n 0, 1) := dk_42 (dk_at dksX0_loafByCrumbs_0 2 rfl rfl)
theorem dX0_loafByCrumbs_3 : decode cX0_loafByCrumbs 3 = .ok (.iload_n 1, 1) := dk_27 (dk_at dksX0_loafByCrumbs_0 3 rfl rfl)
theorem dX0_loafByCrumbs_4 : decode cX0_loafByCrumbs 4 = .ok (.invokevirtual 108, 3) := dk_182 0 108 (dk_at dksX0_loafByCrumbs_0 4 rfl rfl)
theorem dX0_loafByCrumbs_7 : decode cX0_loafByCrumbs 7 = .ok (.i2l, 1) := dk_133 (dk_at dksX0_loafByCrumbs_0 7 rfl rfl)
theorem dX0_loafByCrumbs_8 : decode cX0_loafByCrumbs 8 = .ok (.lastore, 1) := dk_80 (dk_at dksX0_loafByCrumbs_0 8 rfl rfl)
theorem dX0_loafByCrumbs_9 : decode cX0_loafByCrumbs 9 = .ok (.goto 6, 3) := dk_167 0 6 (dk_at dksX0_loafByCrumbs_0 9 rfl rfl)
theorem dX0_loafByCrumbs_12 : decode cX0_loafByCrumbs 12 = .ok (.astore_n 3, 1) := dk_78 (dk_at dksX0_loafByCrumbs_0 12 rfl rfl)
theorem dX0_loafByCrumbs_13 : decode cX0_loafByCrumbs 13 = .ok (.iconst 1, 1) := dk_4 (dk_at dksX0_loafByCrumbs_0 13 rfl rfl)
theorem dX0_loafByCrumbs_14 : decode cX0_loafByCrumbs 14 = .ok (.ireturn, 1) := dk_172 (dk_at dksX0_loafByCrumbs_0 14 rfl rfl)
theorem dX0_loafByCrumbs_15 : decode cX0_loafByCrumbs 15 = .ok (.iconst 0, 1) := dk_3 (dk_at dksX0_loafByCrumbs_0 15 rfl rfl)
theorem dX0_loafByCrumbs_16 : decode cX0_loafByCrumbs 16 = .ok (.ireturn, 1) := dk_172 (dk_at dksX0_loafByCrumbs_0 16 rfl rfl)
abbrev cX0_meanCrumbs : ByteArray := method_32_code
def yX0_meanCrumbs : MethodName := ⟨RX0, "meanCrumbs", "(LDoughLedger;[D)I"⟩
def dkwX0_meanCrumbs_0 : List UInt8 := [43, 3, 42, 182, 0, 111, 82, 167, 0, 6, 77, 4, 172, 3, 172]
abbrev dktX0_meanCrumbs_0 : List UInt8 := dkwX0_meanCrumbs_0 ++ []
theorem dksX0_meanCrumbs_0 : cX0_meanCrumbs.data.toList.drop 0 = dktX0_meanCrumbs_0 := by decide +kernel
theorem dX0_meanCrumbs_0 : decode cX0_meanCrumbs 0 = .ok (.aload_n 1, 1) := dk_43 (dk_at dksX0_meanCrumbs_0 0 rfl rfl)
theorem dX0_meanCrumbs_1 : decode cX0_meanCrumbs 1 = .ok (.iconst 0, 1) := dk_3 (dk_at dksX0_meanCrumbs_0 1 rfl rfl)
theorem dX0_meanCrumbs_2 : decode cX0_meanCrumbs 2 = .ok (.aload_n 0, 1) := dk_42 (dk_at dksX0_meanCrumbs_0 2 rfl rfl)
theorem dX0_meanCrumbs_3 : decode cX0_meanCrumbs 3 = .ok (.invokevirtual 111, 3) := dk_182 0 111 (dk_at dksX0_meanCrumbs_0 3 rfl rfl)
theorem dX0_meanCrumbs_6 : decode cX0_meanCrumbs 6 = .ok (.dastore, 1) := dk_82 (dk_at dksX0_meanCrumbs_0 6 rfl rfl)
theorem dX0_meanCrumbs_7 : decode cX0_meanCrumbs 7 = .ok (.goto 6, 3) := dk_167 0 6 (dk_at dksX0_meanCrumbs_0 7 rfl rfl)
theorem dX0_meanCrumbs_10 : decode cX0_meanCrumbs 10 = .ok (.astore_n 2, 1) := dk_77 (dk_at dksX0_meanCrumbs_0 10 rfl rfl)
theorem dX0_meanCrumbs_11 : decode cX0_meanCrumbs 11 = .ok (.iconst 1, 1) := dk_4 (dk_at dksX0_meanCrumbs_0 11 rfl rfl)
theorem dX0_meanCrumbs_12 : decode cX0_meanCrumbs 12 = .ok (.ireturn, 1) := dk_172 (dk_at dksX0_meanCrumbs_0 12 rfl rfl)
theorem dX0_meanCrumbs_13 : decode cX0_meanCrumbs 13 = .ok (.iconst 0, 1) := dk_3 (dk_at dksX0_meanCrumbs_0 13 rfl rfl)
theorem dX0_meanCrumbs_14 : decode cX0_meanCrumbs 14 = .ok (.ireturn, 1) := dk_172 (dk_at dksX0_meanCrumbs_0 14 rfl rfl)
abbrev cX0_fullShare : ByteArray := method_33_code
def yX0_fullShare : MethodName := ⟨RX0, "fullShare", "(LDoughLedger;[D)I"⟩
def dkwX0_fullShare_0 : List UInt8 := [43, 3, 42, 182, 0, 117, 141, 82, 167, 0, 6, 77, 4, 172, 3, 172]
abbrev dktX0_fullShare_0 : List UInt8 := dkwX0_fullShare_0 ++ []
theorem dksX0_fullShare_0 : cX0_fullShare.data.toList.drop 0 = dktX0_fullShare_0 := by decide +kernel
theorem dX0_fullShare_0 : decode cX0_fullShare 0 = .ok (.aload_n 1, 1) := dk_43 (dk_at dksX0_fullShare_0 0 rfl rfl)
theorem dX0_fullShare_1 : decode cX0_fullShare 1 = .ok (.iconst 0, 1) := dk_3 (dk_at dksX0_fullShare_0 1 rfl rfl)
theorem dX0_fullShare_2 : decode cX0_fullShare 2 = .ok (.aload_n 0, 1) := dk_42 (dk_at dksX0_fullShare_0 2 rfl rfl)
theorem dX0_fullShare_3 : decode cX0_fullShare 3 = .ok (.invokevirtual 117, 3) := dk_182 0 117 (dk_at dksX0_fullShare_0 3 rfl rfl)
theorem dX0_fullShare_6 : decode cX0_fullShare 6 = .ok (.f2d, 1) := dk_141 (dk_at dksX0_fullShare_0 6 rfl rfl)
theorem dX0_fullShare_7 : decode cX0_fullShare 7 = .ok (.dastore, 1) := dk_82 (dk_at dksX0_fullShare_0 7 rfl rfl)
theorem dX0_fullShare_8 : decode cX0_fullShare 8 = .ok (.goto 6, 3) := dk_167 0 6 (dk_at dksX0_fullShare_0 8 rfl rfl)
theorem dX0_fullShare_11 : decode cX0_fullShare 11 = .ok (.astore_n 2, 1) := dk_77 (dk_at dksX0_fullShare_0 11 rfl rfl)
theorem dX0_fullShare_12 : decode cX0_fullShare 12 = .ok (.iconst 1, 1) := dk_4 (dk_at dksX0_fullShare_0 12 rfl rfl)
theorem dX0_fullShare_13 : decode cX0_fullShare 13 = .ok (.ireturn, 1) := dk_172 (dk_at dksX0_fullShare_0 13 rfl rfl)
theorem dX0_fullShare_14 : decode cX0_fullShare 14 = .ok (.iconst 0, 1) := dk_3 (dk_at dksX0_fullShare_0 14 rfl rfl)
theorem dX0_fullShare_15 : decode cX0_fullShare 15 = .ok (.ireturn, 1) := dk_172 (dk_at dksX0_fullShare_0 15 rfl rfl)
abbrev cX0_renderDough : ByteArray := method_34_code
def yX0_renderDough : MethodName := ⟨RX0, "renderDough", "(LDoughLedger;I[J)I"⟩
def dkwX0_renderDough_0 : List UInt8 := [44, 3, 42, 27, 182, 0, 121, 133, 80, 167, 0, 6, 78, 4, 172, 3, 172]
abbrev dktX0_renderDough_0 : List UInt8 := dkwX0_renderDough_0 ++ []
theorem dksX0_renderDough_0 : cX0_renderDough.data.toList.drop 0 = dktX0_renderDough_0 := by decide +kernel
theorem dX0_renderDough_0 : decode cX0_renderDough 0 = .ok (.aload_n 2, 1) := dk_44 (dk_at dksX0_renderDough_0 0 rfl rfl)
theorem dX0_renderDough_1 : decode cX0_renderDough 1 = .ok (.iconst 0, 1) := dk_3 (dk_at dksX0_renderDough_0 1 rfl rfl)
theorem dX0_renderDough_2 : decode cX0_renderDough 2 = .ok (.aload_n 0, 1) := dk_42 (dk_at dksX0_renderDough_0 2 rfl rfl)
theorem dX0_renderDough_3 : decode cX0_renderDough 3 = .ok (.iload_n 1, 1) := dk_27 (dk_at dksX0_renderDough_0 3 rfl rfl)
theorem dX0_renderDough_4 : decode cX0_renderDough 4 = .ok (.invokevirtual 121, 3) := dk_182 0 121 (dk_at dksX0_renderDough_0 4 rfl rfl)
theorem dX0_renderDough_7 : decode cX0_renderDough 7 = .ok (.i2l, 1) := dk_133 (dk_at dksX0_renderDough_0 7 rfl rfl)
theorem dX0_renderDough_8 : decode cX0_renderDough 8 = .ok (.lastore, 1) := dk_80 (dk_at dksX0_renderDough_0 8 rfl rfl)
theorem dX0_renderDough_9 : decode cX0_renderDough 9 = .ok (.goto 6, 3) := dk_167 0 6 (dk_at dksX0_renderDough_0 9 rfl rfl)
theorem dX0_renderDough_12 : decode cX0_renderDough 12 = .ok (.astore_n 3, 1) := dk_78 (dk_at dksX0_renderDough_0 12 rfl rfl)
theorem dX0_renderDough_13 : decode cX0_renderDough 13 = .ok (.iconst 1, 1) := dk_4 (dk_at dksX0_renderDough_0 13 rfl rfl)
theorem dX0_renderDough_14 : decode cX0_renderDough 14 = .ok (.ireturn, 1) := dk_172 (dk_at dksX0_renderDough_0 14 rfl rfl)
theorem dX0_renderDough_15 : decode cX0_renderDough 15 = .ok (.iconst 0, 1) := dk_3 (dk_at dksX0_renderDough_0 15 rfl rfl)
theorem dX0_renderDough_16 : decode cX0_renderDough 16 = .ok (.ireturn, 1) := dk_172 (dk_at dksX0_renderDough_0 16 rfl rfl)
abbrev cX0_outputAt : ByteArray := method_35_code
def yX0_outputAt : MethodName := ⟨RX0, "outputAt", "(LDoughLedger;I[J)I"⟩
def dkwX0_outputAt_0 : List UInt8 := [44, 3, 42, 27, 182, 0, 124, 133, 80, 167, 0, 6, 78, 4, 172, 3, 172]
abbrev dktX0_outputAt_0 : List UInt8 := dkwX0_outputAt_0 ++ []
theorem dksX0_outputAt_0 : cX0_outputAt.data.toList.drop 0 = dktX0_outputAt_0 := by decide +kernel
theorem dX0_outputAt_0 : decode cX0_outputAt 0 = .ok (.aload_n 2, 1) := dk_44 (dk_at dksX0_outputAt_0 0 rfl rfl)
theorem dX0_outputAt_1 : decode cX0_outputAt 1 = .ok (.iconst 0, 1) := dk_3 (dk_at dksX0_outputAt_0 1 rfl rfl)
theorem dX0_outputAt_2 : decode cX0_outputAt 2 = .ok (.aload_n 0, 1) := dk_42 (dk_at dksX0_outputAt_0 2 rfl rfl)
theorem dX0_outputAt_3 : decode cX0_outputAt 3 = .ok (.iload_n 1, 1) := dk_27 (dk_at dksX0_outputAt_0 3 rfl rfl)
theorem dX0_outputAt_4 : decode cX0_outputAt 4 = .ok (.invokevirtual 124, 3) := dk_182 0 124 (dk_at dksX0_outputAt_0 4 rfl rfl)
theorem dX0_outputAt_7 : decode cX0_outputAt 7 = .ok (.i2l, 1) := dk_133 (dk_at dksX0_outputAt_0 7 rfl rfl)
theorem dX0_outputAt_8 : decode cX0_outputAt 8 = .ok (.lastore, 1) := dk_80 (dk_at dksX0_outputAt_0 8 rfl rfl)
theorem dX0_outputAt_9 : decode cX0_outputAt 9 = .ok (.goto 6, 3) := dk_167 0 6 (dk_at dksX0_outputAt_0 9 rfl rfl)
theorem dX0_outputAt_12 : decode cX0_outputAt 12 = .ok (.astore_n 3, 1) := dk_78 (dk_at dksX0_outputAt_0 12 rfl rfl)
theorem dX0_outputAt_13 : decode cX0_outputAt 13 = .ok (.iconst 1, 1) := dk_4 (dk_at dksX0_outputAt_0 13 rfl rfl)
theorem dX0_outputAt_14 : decode cX0_outputAt 14 = .ok (.ireturn, 1) := dk_172 (dk_at dksX0_outputAt_0 14 rfl rfl)
theorem dX0_outputAt_15 : decode cX0_outputAt 15 = .ok (.iconst 0, 1) := dk_3 (dk_at dksX0_outputAt_0 15 rfl rfl)
theorem dX0_outputAt_16 : decode cX0_outputAt 16 = .ok (.ireturn, 1) := dk_172 (dk_at dksX0_outputAt_0 16 rfl rfl)
abbrev cX0_type : ByteArray := method_36_code
def yX0_type : MethodName := ⟨RX0, "type", "(LDoughLedger;C[J)I"⟩
def dkwX0_type_0 : List UInt8 := [44, 3, 42, 27, 182, 0, 128, 133, 80, 167, 0, 9, 78, 4, 172, 78, 5, 172, 3, 172]
abbrev dktX0_type_0 : List UInt8 := dkwX0_type_0 ++ []
theorem dksX0_type_0 : cX0_type.data.toList.drop 0 = dktX0_type_0 := by decide +kernel
theorem dX0_type_0 : decode cX0_type 0 = .ok (.aload_n 2, 1) := dk_44 (dk_at dksX0_type_0 0 rfl rfl)
theorem dX0_type_1 : decode cX0_type 1 = .ok (.iconst 0, 1) := dk_3 (dk_at dksX0_type_0 1 rfl rfl)
theorem dX0_type_2 : decode cX0_type 2 = .ok (.aload_n 0, 1) := dk_42 (dk_at dksX0_type_0 2 rfl rfl)
theorem dX0_type_3 : decode cX0_type 3 = .ok (.iload_n 1, 1) := dk_27 (dk_at dksX0_type_0 3 rfl rfl)
theorem dX0_type_4 : decode cX0_type 4 = .ok (.invokevirtual 128, 3) := dk_182 0 128 (dk_at dksX0_type_0 4 rfl rfl)
theorem dX0_type_7 : decode cX0_type 7 = .ok (.i2l, 1) := dk_133 (dk_at dksX0_type_0 7 rfl rfl)
theorem dX0_type_8 : decode cX0_type 8 = .ok (.lastore, 1) := dk_80 (dk_at dksX0_type_0 8 rfl rfl)
theorem dX0_type_9 : decode cX0_type 9 = .ok (.goto 9, 3) := dk_167 0 9 (dk_at dksX0_type_0 9 rfl rfl)
theorem dX0_type_12 : decode cX0_type 12 = .ok (.astore_n 3, 1) := dk_78 (dk_at dksX0_type_0 12 rfl rfl)
theorem dX0_type_13 : decode cX0_type 13 = .ok (.iconst 1, 1) := dk_4 (dk_at dksX0_type_0 13 rfl rfl)
theorem dX0_type_14 : decode cX0_type 14 = .ok (.ireturn, 1) := dk_172 (dk_at dksX0_type_0 14 rfl rfl)
theorem dX0_type_15 : decode cX0_type 15 = .ok (.astore_n 3, 1) := dk_78 (dk_at dksX0_type_0 15 rfl rfl)
theorem dX0_type_16 : decode cX0_type 16 = .ok (.iconst 2, 1) := dk_5 (dk_at dksX0_type_0 16 rfl rfl)
theorem dX0_type_17 : decode cX0_type 17 = .ok (.ireturn, 1) := dk_172 (dk_at dksX0_type_0 17 rfl rfl)
theorem dX0_type_18 : decode cX0_type 18 = .ok (.iconst 0, 1) := dk_3 (dk_at dksX0_type_0 18 rfl rfl)
theorem dX0_type_19 : decode cX0_type 19 = .ok (.ireturn, 1) := dk_172 (dk_at dksX0_type_0 19 rfl rfl)
abbrev cX0_runScript : ByteArray := method_37_code
def yX0_runScript : MethodName := ⟨RX0, "runScript", "(LDoughLedger;[J)I"⟩
def dkwX0_runScript_0 : List UInt8 := [43, 3, 42, 182, 0, 132, 133, 80, 167, 0, 9, 77, 4, 172, 77, 5, 172, 3, 172]
abbrev dktX0_runScript_0 : List UInt8 := dkwX0_runScript_0 ++ []
theorem dksX0_runScript_0 : cX0_runScript.data.toList.drop 0 = dktX0_runScript_0 := by decide +kernel
theorem dX0_runScript_0 : decode cX0_runScript 0 = .ok (.aload_n 1, 1) := dk_43 (dk_at dksX0_runScript_0 0 rfl rfl)
theorem dX0_runScript_1 : decode cX0_runScript 1 = .ok (.iconst 0, 1) := dk_3 (dk_at dksX0_runScript_0 1 rfl rfl)
theorem dX0_runScript_2 : decode cX0_runScript 2 = .ok (.aload_n 0, 1) := dk_42 (dk_at dksX0_runScript_0 2 rfl rfl)
theorem dX0_runScript_3 : decode cX0_runScript 3 = .ok (.invokevirtual 132, 3) := dk_182 0 132 (dk_at dksX0_runScript_0 3 rfl rfl)
theorem dX0_runScript_6 : decode cX0_runScript 6 = .ok (.i2l, 1) := dk_133 (dk_at dksX0_runScript_0 6 rfl rfl)
theorem dX0_runScript_7 : decode cX0_runScript 7 = .ok (.lastore, 1) := dk_80 (dk_at dksX0_runScript_0 7 rfl rfl)
theorem dX0_runScript_8 : decode cX0_runScript 8 = .ok (.goto 9, 3) := dk_167 0 9 (dk_at dksX0_runScript_0 8 rfl rfl)
theorem dX0_runScript_11 : decode cX0_runScript 11 = .ok (.astore_n 2, 1) := dk_77 (dk_at dksX0_runScript_0 11 rfl rfl)
theorem dX0_runScript_12 : decode cX0_runScript 12 = .ok (.iconst 1, 1) := dk_4 (dk_at dksX0_runScript_0 12 rfl rfl)
theorem dX0_runScript_13 : decode cX0_runScript 13 = .ok (.ireturn, 1) := dk_172 (dk_at dksX0_runScript_0 13 rfl rfl)
theorem dX0_runScript_14 : decode cX0_runScript 14 = .ok (.astore_n 2, 1) := dk_77 (dk_at dksX0_runScript_0 14 rfl rfl)
theorem dX0_runScript_15 : decode cX0_runScript 15 = .ok (.iconst 2, 1) := dk_5 (dk_at dksX0_runScript_0 15 rfl rfl)
theorem dX0_runScript_16 : decode cX0_runScript 16 = .ok (.ireturn, 1) := dk_172 (dk_at dksX0_runScript_0 16 rfl rfl)
theorem dX0_runScript_17 : decode cX0_runScript 17 = .ok (.iconst 0, 1) := dk_3 (dk_at dksX0_runScript_0 17 rfl rfl)
theorem dX0_runScript_18 : decode cX0_runScript 18 = .ok (.ireturn, 1) := dk_172 (dk_at dksX0_runScript_0 18 rfl rfl)
abbrev cX0_errorPosition : ByteArray := method_38_code
def yX0_errorPosition : MethodName := ⟨RX0, "errorPosition", "(LDoughLedger;[J)I"⟩
def dkwX0_errorPosition_0 : List UInt8 := [43, 3, 42, 182, 0, 135, 133, 80, 167, 0, 6, 77, 4, 172, 3, 172]
abbrev dktX0_errorPosition_0 : List UInt8 := dkwX0_errorPosition_0 ++ []
theorem dksX0_errorPosition_0 : cX0_errorPosition.data.toList.drop 0 = dktX0_errorPosition_0 := by decide +kernel
theorem dX0_errorPosition_0 : decode cX0_errorPosition 0 = .ok (.aload_n 1, 1) := dk_43 (dk_at dksX0_errorPosition_0 0 rfl rfl)
theorem dX0_errorPosition_1 : decode cX0_errorPosition 1 = .ok (.iconst 0, 1) := dk_3 (dk_at dksX0_errorPosition_0 1 rfl rfl)
theorem dX0_errorPosition_2 : decode cX0_errorPosition 2 = .ok (.aload_n 0, 1) := dk_42 (dk_at dksX0_errorPosition_0 2 rfl rfl)
theorem dX0_errorPosition_3 : decode cX0_errorPosition 3 = .ok (.invokevirtual 135, 3) := dk_182 0 135 (dk_at dksX0_errorPosition_0 3 rfl rfl)
theorem dX0_errorPosition_6 : decode cX0_errorPosition 6 = .ok (.i2l, 1) := dk_133 (dk_at dksX0_errorPosition_0 6 rfl rfl)
theorem dX0_errorPosition_7 : decode cX0_errorPosition 7 = .ok (.lastore, 1) := dk_80 (dk_at dksX0_errorPosition_0 7 rfl rfl)
theorem dX0_errorPosition_8 : decode cX0_errorPosition 8 = .ok (.goto 6, 3) := dk_167 0 6 (dk_at dksX0_errorPosition_0 8 rfl rfl)
theorem dX0_errorPosition_11 : decode cX0_errorPosition 11 = .ok (.astore_n 2, 1) := dk_77 (dk_at dksX0_errorPosition_0 11 rfl rfl)
theorem dX0_errorPosition_12 : decode cX0_errorPosition 12 = .ok (.iconst 1, 1) := dk_4 (dk_at dksX0_errorPosition_0 12 rfl rfl)
theorem dX0_errorPosition_13 : decode cX0_errorPosition 13 = .ok (.ireturn, 1) := dk_172 (dk_at dksX0_errorPosition_0 13 rfl rfl)
theorem dX0_errorPosition_14 : decode cX0_errorPosition 14 = .ok (.iconst 0, 1) := dk_3 (dk_at dksX0_errorPosition_0 14 rfl rfl)
theorem dX0_errorPosition_15 : decode cX0_errorPosition 15 = .ok (.ireturn, 1) := dk_172 (dk_at dksX0_errorPosition_0 15 rfl rfl)
abbrev cX0_failedCommand : ByteArray := method_39_code
def yX0_failedCommand : MethodName := ⟨RX0, "failedCommand", "(LDoughLedger;[J)I"⟩
def dkwX0_failedCommand_0 : List UInt8 := [43, 3, 42, 182, 0, 138, 133, 80, 167, 0, 6, 77, 4, 172, 3, 172]
abbrev dktX0_failedCommand_0 : List UInt8 := dkwX0_failedCommand_0 ++ []
theorem dksX0_failedCommand_0 : cX0_failedCommand.data.toList.drop 0 = dktX0_failedCommand_0 := by decide +kernel
theorem dX0_failedCommand_0 : decode cX0_failedCommand 0 = .ok (.aload_n 1, 1) := dk_43 (dk_at dksX0_failedCommand_0 0 rfl rfl)
theorem dX0_failedCommand_1 : decode cX0_failedCommand 1 = .ok (.iconst 0, 1) := dk_3 (dk_at dksX0_failedCommand_0 1 rfl rfl)
theorem dX0_failedCommand_2 : decode cX0_failedCommand 2 = .ok (.aload_n 0, 1) := dk_42 (dk_at dksX0_failedCommand_0 2 rfl rfl)
theorem dX0_failedCommand_3 : decode cX0_failedCommand 3 = .ok (.invokevirtual 138, 3) := dk_182 0 138 (dk_at dksX0_failedCommand_0 3 rfl rfl)
theorem dX0_failedCommand_6 : decode cX0_failedCommand 6 = .ok (.i2l, 1) := dk_133 (dk_at dksX0_failedCommand_0 6 rfl rfl)
theorem dX0_failedCommand_7 : decode cX0_failedCommand 7 = .ok (.lastore, 1) := dk_80 (dk_at dksX0_failedCommand_0 7 rfl rfl)
theorem dX0_failedCommand_8 : decode cX0_failedCommand 8 = .ok (.goto 6, 3) := dk_167 0 6 (dk_at dksX0_failedCommand_0 8 rfl rfl)
theorem dX0_failedCommand_11 : decode cX0_failedCommand 11 = .ok (.astore_n 2, 1) := dk_77 (dk_at dksX0_failedCommand_0 11 rfl rfl)
theorem dX0_failedCommand_12 : decode cX0_failedCommand 12 = .ok (.iconst 1, 1) := dk_4 (dk_at dksX0_failedCommand_0 12 rfl rfl)
theorem dX0_failedCommand_13 : decode cX0_failedCommand 13 = .ok (.ireturn, 1) := dk_172 (dk_at dksX0_failedCommand_0 13 rfl rfl)
theorem dX0_failedCommand_14 : decode cX0_failedCommand 14 = .ok (.iconst 0, 1) := dk_3 (dk_at dksX0_failedCommand_0 14 rfl rfl)
theorem dX0_failedCommand_15 : decode cX0_failedCommand 15 = .ok (.ireturn, 1) := dk_172 (dk_at dksX0_failedCommand_0 15 rfl rfl)
abbrev cX0_failureKind : ByteArray := method_40_code
def yX0_failureKind : MethodName := ⟨RX0, "failureKind", "(LDoughLedger;[J)I"⟩
def dkwX0_failureKind_0 : List UInt8 := [43, 3, 42, 182, 0, 141, 133, 80, 167, 0, 6, 77, 4, 172, 3, 172]
abbrev dktX0_failureKind_0 : List UInt8 := dkwX0_failureKind_0 ++ []
theorem dksX0_failureKind_0 : cX0_failureKind.data.toList.drop 0 = dktX0_failureKind_0 := by decide +kernel
theorem dX0_failureKind_0 : decode cX0_failureKind 0 = .ok (.aload_n 1, 1) := dk_43 (dk_at dksX0_failureKind_0 0 rfl rfl)
theorem dX0_failureKind_1 : decode cX0_failureKind 1 = .ok (.iconst 0, 1) := dk_3 (dk_at dksX0_failureKind_0 1 rfl rfl)
theorem dX0_failureKind_2 : decode cX0_failureKind 2 = .ok (.aload_n 0, 1) := dk_42 (dk_at dksX0_failureKind_0 2 rfl rfl)
theorem dX0_failureKind_3 : decode cX0_failureKind 3 = .ok (.invokevirtual 141, 3) := dk_182 0 141 (dk_at dksX0_failureKind_0 3 rfl rfl)
theorem dX0_failureKind_6 : decode cX0_failureKind 6 = .ok (.i2l, 1) := dk_133 (dk_at dksX0_failureKind_0 6 rfl rfl)
theorem dX0_failureKind_7 : decode cX0_failureKind 7 = .ok (.lastore, 1) := dk_80 (dk_at dksX0_failureKind_0 7 rfl rfl)
theorem dX0_failureKind_8 : decode cX0_failureKind 8 = .ok (.goto 6, 3) := dk_167 0 6 (dk_at dksX0_failureKind_0 8 rfl rfl)
theorem dX0_failureKind_11 : decode cX0_failureKind 11 = .ok (.astore_n 2, 1) := dk_77 (dk_at dksX0_failureKind_0 11 rfl rfl)
theorem dX0_failureKind_12 : decode cX0_failureKind 12 = .ok (.iconst 1, 1) := dk_4 (dk_at dksX0_failureKind_0 12 rfl rfl)
theorem dX0_failureKind_13 : decode cX0_failureKind 13 = .ok (.ireturn, 1) := dk_172 (dk_at dksX0_failureKind_0 13 rfl rfl)
theorem dX0_failureKind_14 : decode cX0_failureKind 14 = .ok (.iconst 0, 1) := dk_3 (dk_at dksX0_failureKind_0 14 rfl rfl)
theorem dX0_failureKind_15 : decode cX0_failureKind 15 = .ok (.ireturn, 1) := dk_172 (dk_at dksX0_failureKind_0 15 rfl rfl)
abbrev cX0_undo : ByteArray := method_41_code
def yX0_undo : MethodName := ⟨RX0, "undo", "(LDoughLedger;[J)I"⟩
def dkwX0_undo_0 : List UInt8 := [43, 3, 42, 182, 0, 145, 133, 80, 167, 0, 6, 77, 4, 172, 3, 172]
abbrev dktX0_undo_0 : List UInt8 := dkwX0_undo_0 ++ []
theorem dksX0_undo_0 : cX0_undo.data.toList.drop 0 = dktX0_undo_0 := by decide +kernel
theorem dX0_undo_0 : decode cX0_undo 0 = .ok (.aload_n 1, 1) := dk_43 (dk_at dksX0_undo_0 0 rfl rfl)
theorem dX0_undo_1 : decode cX0_undo 1 = .ok (.iconst 0, 1) := dk_3 (dk_at dksX0_undo_0 1 rfl rfl)
theorem dX0_undo_2 : decode cX0_undo 2 = .ok (.aload_n 0, 1) := dk_42 (dk_at dksX0_undo_0 2 rfl rfl)
theorem dX0_undo_3 : decode cX0_undo 3 = .ok (.invokevirtual 145, 3) := dk_182 0 145 (dk_at dksX0_undo_0 3 rfl rfl)
theorem dX0_undo_6 : decode cX0_undo 6 = .ok (.i2l, 1) := dk_133 (dk_at dksX0_undo_0 6 rfl rfl)
theorem dX0_undo_7 : decode cX0_undo 7 = .ok (.lastore, 1) := dk_80 (dk_at dksX0_undo_0 7 rfl rfl)
theorem dX0_undo_8 : decode cX0_undo 8 = .ok (.goto 6, 3) := dk_167 0 6 (dk_at dksX0_undo_0 8 rfl rfl)
theorem dX0_undo_11 : decode cX0_undo 11 = .ok (.astore_n 2, 1) := dk_77 (dk_at dksX0_undo_0 11 rfl rfl)
theorem dX0_undo_12 : decode cX0_undo 12 = .ok (.iconst 1, 1) := dk_4 (dk_at dksX0_undo_0 12 rfl rfl)
theorem dX0_undo_13 : decode cX0_undo 13 = .ok (.ireturn, 1) := dk_172 (dk_at dksX0_undo_0 13 rfl rfl)
theorem dX0_undo_14 : decode cX0_undo 14 = .ok (.iconst 0, 1) := dk_3 (dk_at dksX0_undo_0 14 rfl rfl)
theorem dX0_undo_15 : decode cX0_undo 15 = .ok (.ireturn, 1) := dk_172 (dk_at dksX0_undo_0 15 rfl rfl)
abbrev cX0_restore : ByteArray := method_42_code
def yX0_restore : MethodName := ⟨RX0, "restore", "(LDoughLedger;[J)I"⟩
def dkwX0_restore_0 : List UInt8 := [43, 3, 42, 182, 0, 148, 133, 80, 167, 0, 6, 77, 4, 172, 3, 172]
abbrev dktX0_restore_0 : List UInt8 := dkwX0_restore_0 ++ []
theorem dksX0_restore_0 : cX0_restore.data.toList.drop 0 = dktX0_restore_0 := by decide +kernel
theorem dX0_restore_0 : decode cX0_restore 0 = .ok (.aload_n 1, 1) := dk_43 (dk_at dksX0_restore_0 0 rfl rfl)
theorem dX0_restore_1 : decode cX0_restore 1 = .ok (.iconst 0, 1) := dk_3 (dk_at dksX0_restore_0 1 rfl rfl)
theorem dX0_restore_2 : decode cX0_restore 2 = .ok (.aload_n 0, 1) := dk_42 (dk_at dksX0_restore_0 2 rfl rfl)
theorem dX0_restore_3 : decode cX0_restore 3 = .ok (.invokevirtual 148, 3) := dk_182 0 148 (dk_at dksX0_restore_0 3 rfl rfl)
theorem dX0_restore_6 : decode cX0_restore 6 = .ok (.i2l, 1) := dk_133 (dk_at dksX0_restore_0 6 rfl rfl)
theorem dX0_restore_7 : decode cX0_restore 7 = .ok (.lastore, 1) := dk_80 (dk_at dksX0_restore_0 7 rfl rfl)
theorem dX0_restore_8 : decode cX0_restore 8 = .ok (.goto 6, 3) := dk_167 0 6 (dk_at dksX0_restore_0 8 rfl rfl)
theorem dX0_restore_11 : decode cX0_restore 11 = .ok (.astore_n 2, 1) := dk_77 (dk_at dksX0_restore_0 11 rfl rfl)
theorem dX0_restore_12 : decode cX0_restore 12 = .ok (.iconst 1, 1) := dk_4 (dk_at dksX0_restore_0 12 rfl rfl)
theorem dX0_restore_13 : decode cX0_restore 13 = .ok (.ireturn, 1) := dk_172 (dk_at dksX0_restore_0 13 rfl rfl)
theorem dX0_restore_14 : decode cX0_restore 14 = .ok (.iconst 0, 1) := dk_3 (dk_at dksX0_restore_0 14 rfl rfl)
theorem dX0_restore_15 : decode cX0_restore 15 = .ok (.ireturn, 1) := dk_172 (dk_at dksX0_restore_0 15 rfl rfl)
theorem q124 : (Jvm.Cond.initialized "DoughLedgerLaw") ∈ lw_all := lw_g (lw_at lw_m1 0 rfl) rfl
theorem q194 : (Jvm.Cond.classLink "DoughLedgerLaw" (8 : Nat) "DoughLedger") ∈ lw_all := lw_g (lw_at lw_m1 70 rfl) rfl
theorem q196 : (Jvm.Cond.methodLink "DoughLedgerLaw" (151 : Nat) ({ cls := "DoughLedger", name := "<init>", desc := "()V" } : Jvm.MethodName)) ∈ lw_all := lw_g (lw_at lw_m1 72 rfl) rfl
theorem q398 : (Jvm.Cond.methodLink "DoughLedgerLaw" (196 : Nat) ({ cls := "DoughLedger", name := "doughCount", desc := "()I" } : Jvm.MethodName)) ∈ lw_all := lw_g (lw_at lw_m2 34 rfl) rfl
theorem q406 : (Jvm.Cond.methodLink "DoughLedgerLaw" (225 : Nat) ({ cls := "DoughLedger", name := "bowlCount", desc := "()I" } : Jvm.MethodName)) ∈ lw_all := lw_g (lw_at lw_m2 42 rfl) rfl
theorem q426 : (Jvm.Cond.methodLink "DoughLedgerLaw" (242 : Nat) ({ cls := "DoughLedger", name := "loafCount", desc := "()I" } : Jvm.MethodName)) ∈ lw_all := lw_g (lw_at lw_m2 62 rfl) rfl
theorem q430 : (Jvm.Cond.methodLink "DoughLedgerLaw" (264 : Nat) ({ cls := "DoughLedger", name := "ovens", desc := "()I" } : Jvm.MethodName)) ∈ lw_all := lw_g (lw_at lw_m2 66 rfl) rfl
theorem q434 : (Jvm.Cond.methodLink "DoughLedgerLaw" (268 : Nat) ({ cls := "DoughLedger", name := "shortestTime", desc := "()I" } : Jvm.MethodName)) ∈ lw_all := lw_g (lw_at lw_m2 70 rfl) rfl
theorem q819 : (Jvm.Cond.methodLink "DoughLedgerLaw" (272 : Nat) ({ cls := "DoughLedger", name := "shortestTimeByDeciding", desc := "()I" } : Jvm.MethodName)) ∈ lw_all := lw_g (lw_at lw_m3 215 rfl) rfl
theorem q832 : (Jvm.Cond.methodLink "DoughLedgerLaw" (276 : Nat) ({ cls := "DoughLedger", name := "greedyTime", desc := "()I" } : Jvm.MethodName)) ∈ lw_all := lw_g (lw_at lw_m3 228 rfl) rfl
theorem q1621 : (Jvm.Cond.methodLink "DoughLedgerLaw" (280 : Nat) ({ cls := "DoughLedger", name := "pouredTotal", desc := "()J" } : Jvm.MethodName)) ∈ lw_all := lw_g (lw_at lw_m7 57 rfl) rfl
theorem q1625 : (Jvm.Cond.methodLink "DoughLedgerLaw" (285 : Nat) ({ cls := "DoughLedger", name := "spilledTotal", desc := "()J" } : Jvm.MethodName)) ∈ lw_all := lw_g (lw_at lw_m7 61 rfl) rfl
theorem q1629 : (Jvm.Cond.methodLink "DoughLedgerLaw" (289 : Nat) ({ cls := "DoughLedger", name := "goneTotal", desc := "()J" } : Jvm.MethodName)) ∈ lw_all := lw_g (lw_at lw_m7 65 rfl) rfl
theorem q1633 : (Jvm.Cond.methodLink "DoughLedgerLaw" (293 : Nat) ({ cls := "DoughLedger", name := "crumbsNow", desc := "()I" } : Jvm.MethodName)) ∈ lw_all := lw_g (lw_at lw_m7 69 rfl) rfl
theorem q1649 : (Jvm.Cond.methodLink "DoughLedgerLaw" (297 : Nat) ({ cls := "DoughLedger", name := "crumbsByAccounts", desc := "()J" } : Jvm.MethodName)) ∈ lw_all := lw_g (lw_at lw_m7 85 rfl) rfl
theorem q1657 : (Jvm.Cond.methodLink "DoughLedgerLaw" (301 : Nat) ({ cls := "DoughLedger", name := "errorTotal", desc := "()J" } : Jvm.MethodName)) ∈ lw_all := lw_g (lw_at lw_m7 93 rfl) rfl
theorem q1661 : (Jvm.Cond.methodLink "DoughLedgerLaw" (305 : Nat) ({ cls := "DoughLedger", name := "errorByAccounts", desc := "()J" } : Jvm.MethodName)) ∈ lw_all := lw_g (lw_at lw_m7 97 rfl) rfl
theorem q1666 : (Jvm.Cond.methodLink "DoughLedgerLaw" (316 : Nat) ({ cls := "DoughLedger", name := "isConsistent", desc := "()Z" } : Jvm.MethodName)) ∈ lw_all := lw_g (lw_at lw_m7 102 rfl) rfl
theorem q2101 : (Jvm.Cond.methodLink "DoughLedgerLaw" (324 : Nat) ({ cls := "DoughLedger", name := "renderBowls", desc := "()I" } : Jvm.MethodName)) ∈ lw_all := lw_g (lw_at lw_m9 57 rfl) rfl
theorem q2131 : (Jvm.Cond.methodLink "DoughLedgerLaw" (349 : Nat) ({ cls := "DoughLedger", name := "save", desc := "()I" } : Jvm.MethodName)) ∈ lw_all := lw_g (lw_at lw_m9 87 rfl) rfl
theorem q2136 : (Jvm.Cond.methodLink "DoughLedgerLaw" (155 : Nat) ({ cls := "DoughLedgerLaw", name := "addDough", desc := "(LDoughLedger;II[J)I" } : Jvm.MethodName)) ∈ lw_all := lw_g (lw_at lw_m9 92 rfl) rfl
theorem q2137 : (Jvm.Cond.static ({ cls := "DoughLedgerLaw", name := "addDough", desc := "(LDoughLedger;II[J)I" } : Jvm.MethodName)) ∈ lw_all := lw_g (lw_at lw_m9 93 rfl) rfl
theorem q2138 : (Jvm.Cond.codeWith ({ cls := "DoughLedgerLaw", name := "addDough", desc := "(LDoughLedger;II[J)I" } : Jvm.MethodName) method_3_code (5 : Nat) (Option.some Jvm.ClassFile.FieldType.int) [((0 : Nat), (10 : Nat), (13 : Nat), (13 : Nat)), ((0 : Nat), (10 : Nat), (17 : Nat), (15 : Nat))]) ∈ lw_all := lw_g (lw_at lw_m9 94 rfl) rfl
theorem q2139 : (Jvm.Cond.classLink "DoughLedgerLaw" (13 : Nat) "java/lang/IllegalArgumentException") ∈ lw_all := lw_g (lw_at lw_m9 95 rfl) rfl
theorem q2140 : (Jvm.Cond.classLink "DoughLedgerLaw" (15 : Nat) "java/lang/IllegalStateException") ∈ lw_all := lw_g (lw_at lw_m9 96 rfl) rfl
theorem q2141 : (Jvm.Cond.methodLink "DoughLedgerLaw" (7 : Nat) ({ cls := "DoughLedger", name := "addDough", desc := "(II)I" } : Jvm.MethodName)) ∈ lw_all := lw_g (lw_at lw_m9 97 rfl) rfl
theorem q2369 : (Jvm.Cond.methodLink "DoughLedgerLaw" (164 : Nat) ({ cls := "DoughLedgerLaw", name := "mix", desc := "(LDoughLedger;II[J)I" } : Jvm.MethodName)) ∈ lw_all := lw_g (lw_at lw_m10 85 rfl) rfl
theorem q2370 : (Jvm.Cond.static ({ cls := "DoughLedgerLaw", name := "mix", desc := "(LDoughLedger;II[J)I" } : Jvm.MethodName)) ∈ lw_all := lw_g (lw_at lw_m10 86 rfl) rfl
theorem q2371 : (Jvm.Cond.codeWith ({ cls := "DoughLedgerLaw", name := "mix", desc := "(LDoughLedger;II[J)I" } : Jvm.MethodName) method_4_code (5 : Nat) (Option.some Jvm.ClassFile.FieldType.int) [((0 : Nat), (10 : Nat), (13 : Nat), (20 : Nat)), ((0 : Nat), (10 : Nat), (17 : Nat), (13 : Nat)), ((0 : Nat), (10 : Nat), (21 : Nat), (22 : Nat))]) ∈ lw_all := lw_g (lw_at lw_m10 87 rfl) rfl
theorem q2372 : (Jvm.Cond.classLink "DoughLedgerLaw" (20 : Nat) "java/lang/IndexOutOfBoundsException") ∈ lw_all := lw_g (lw_at lw_m10 88 rfl) rfl
theorem q2388 : (Jvm.Cond.classLink "DoughLedgerLaw" (22 : Nat) "java/lang/UnsupportedOperationException") ∈ lw_all := lw_g (lw_at lw_m10 104 rfl) rfl
theorem q2389 : (Jvm.Cond.methodLink "DoughLedgerLaw" (17 : Nat) ({ cls := "DoughLedger", name := "mix", desc := "(II)I" } : Jvm.MethodName)) ∈ lw_all := lw_g (lw_at lw_m10 105 rfl) rfl
theorem q2412 : (Jvm.Cond.methodLink "DoughLedgerLaw" (167 : Nat) ({ cls := "DoughLedgerLaw", name := "addBowl", desc := "(LDoughLedger;I[J)I" } : Jvm.MethodName)) ∈ lw_all := lw_g (lw_at lw_m10 128 rfl) rfl
theorem q2413 : (Jvm.Cond.static ({ cls := "DoughLedgerLaw", name := "addBowl", desc := "(LDoughLedger;I[J)I" } : Jvm.MethodName)) ∈ lw_all := lw_g (lw_at lw_m10 129 rfl) rfl
theorem q2414 : (Jvm.Cond.codeWith ({ cls := "DoughLedgerLaw", name := "addBowl", desc := "(LDoughLedger;I[J)I" } : Jvm.MethodName) method_5_code (4 : Nat) (Option.some Jvm.ClassFile.FieldType.int) [((0 : Nat), (9 : Nat), (12 : Nat), (13 : Nat)), ((0 : Nat), (9 : Nat), (15 : Nat), (15 : Nat))]) ∈ lw_all := lw_g (lw_at lw_m10 130 rfl) rfl
theorem q2415 : (Jvm.Cond.methodLink "DoughLedgerLaw" (24 : Nat) ({ cls := "DoughLedger", name := "addBowl", desc := "(I)I" } : Jvm.MethodName)) ∈ lw_all := lw_g (lw_at lw_m10 131 rfl) rfl
theorem q2425 : (Jvm.Cond.methodLink "DoughLedgerLaw" (171 : Nat) ({ cls := "DoughLedgerLaw", name := "addLoaf", desc := "(LDoughLedger;II[J)I" } : Jvm.MethodName)) ∈ lw_all := lw_g (lw_at lw_m10 141 rfl) rfl
theorem q2426 : (Jvm.Cond.static ({ cls := "DoughLedgerLaw", name := "addLoaf", desc := "(LDoughLedger;II[J)I" } : Jvm.MethodName)) ∈ lw_all := lw_g (lw_at lw_m10 142 rfl) rfl
theorem q2427 : (Jvm.Cond.codeWith ({ cls := "DoughLedgerLaw", name := "addLoaf", desc := "(LDoughLedger;II[J)I" } : Jvm.MethodName) method_6_code (5 : Nat) (Option.some Jvm.ClassFile.FieldType.int) [((0 : Nat), (10 : Nat), (13 : Nat), (13 : Nat)), ((0 : Nat), (10 : Nat), (17 : Nat), (15 : Nat))]) ∈ lw_all := lw_g (lw_at lw_m10 143 rfl) rfl
theorem q2428 : (Jvm.Cond.methodLink "DoughLedgerLaw" (28 : Nat) ({ cls := "DoughLedger", name := "addLoaf", desc := "(II)I" } : Jvm.MethodName)) ∈ lw_all := lw_g (lw_at lw_m10 144 rfl) rfl
theorem q2439 : (Jvm.Cond.methodLink "DoughLedgerLaw" (174 : Nat) ({ cls := "DoughLedgerLaw", name := "sellLoaf", desc := "(LDoughLedger;I[J)I" } : Jvm.MethodName)) ∈ lw_all := lw_g (lw_at lw_m10 155 rfl) rfl
theorem q2440 : (Jvm.Cond.static ({ cls := "DoughLedgerLaw", name := "sellLoaf", desc := "(LDoughLedger;I[J)I" } : Jvm.MethodName)) ∈ lw_all := lw_g (lw_at lw_m10 156 rfl) rfl
theorem q2441 : (Jvm.Cond.codeWith ({ cls := "DoughLedgerLaw", name := "sellLoaf", desc := "(LDoughLedger;I[J)I" } : Jvm.MethodName) method_7_code (4 : Nat) (Option.some Jvm.ClassFile.FieldType.int) [((0 : Nat), (9 : Nat), (12 : Nat), (20 : Nat))]) ∈ lw_all := lw_g (lw_at lw_m10 157 rfl) rfl
theorem q2442 : (Jvm.Cond.methodLink "DoughLedgerLaw" (31 : Nat) ({ cls := "DoughLedger", name := "sellLoaf", desc := "(I)I" } : Jvm.MethodName)) ∈ lw_all := lw_g (lw_at lw_m10 158 rfl) rfl
theorem q2479 : (Jvm.Cond.methodLink "DoughLedgerLaw" (177 : Nat) ({ cls := "DoughLedgerLaw", name := "setScale", desc := "(LDoughLedger;I[J)I" } : Jvm.MethodName)) ∈ lw_all := lw_g (lw_at lw_m10 195 rfl) rfl
theorem q2480 : (Jvm.Cond.static ({ cls := "DoughLedgerLaw", name := "setScale", desc := "(LDoughLedger;I[J)I" } : Jvm.MethodName)) ∈ lw_all := lw_g (lw_at lw_m10 196 rfl) rfl
theorem q2481 : (Jvm.Cond.codeWith ({ cls := "DoughLedgerLaw", name := "setScale", desc := "(LDoughLedger;I[J)I" } : Jvm.MethodName) method_8_code (4 : Nat) (Option.some Jvm.ClassFile.FieldType.int) [((0 : Nat), (9 : Nat), (12 : Nat), (13 : Nat)), ((0 : Nat), (9 : Nat), (15 : Nat), (22 : Nat))]) ∈ lw_all := lw_g (lw_at lw_m10 197 rfl) rfl
theorem q2482 : (Jvm.Cond.methodLink "DoughLedgerLaw" (34 : Nat) ({ cls := "DoughLedger", name := "setScale", desc := "(I)I" } : Jvm.MethodName)) ∈ lw_all := lw_g (lw_at lw_m10 198 rfl) rfl
theorem q2492 : (Jvm.Cond.methodLink "DoughLedgerLaw" (180 : Nat) ({ cls := "DoughLedgerLaw", name := "setRounding", desc := "(LDoughLedger;C[J)I" } : Jvm.MethodName)) ∈ lw_all := lw_g (lw_at lw_m10 208 rfl) rfl
theorem q2493 : (Jvm.Cond.static ({ cls := "DoughLedgerLaw", name := "setRounding", desc := "(LDoughLedger;C[J)I" } : Jvm.MethodName)) ∈ lw_all := lw_g (lw_at lw_m10 209 rfl) rfl
theorem q2494 : (Jvm.Cond.codeWith ({ cls := "DoughLedgerLaw", name := "setRounding", desc := "(LDoughLedger;C[J)I" } : Jvm.MethodName) method_9_code (4 : Nat) (Option.some Jvm.ClassFile.FieldType.int) [((0 : Nat), (9 : Nat), (12 : Nat), (13 : Nat))]) ∈ lw_all := lw_g (lw_at lw_m10 210 rfl) rfl
theorem q2495 : (Jvm.Cond.methodLink "DoughLedgerLaw" (37 : Nat) ({ cls := "DoughLedger", name := "setRounding", desc := "(C)C" } : Jvm.MethodName)) ∈ lw_all := lw_g (lw_at lw_m10 211 rfl) rfl
theorem q2508 : (Jvm.Cond.methodLink "DoughLedgerLaw" (184 : Nat) ({ cls := "DoughLedgerLaw", name := "pour", desc := "(LDoughLedger;II[J)I" } : Jvm.MethodName)) ∈ lw_all := lw_g (lw_at lw_m10 224 rfl) rfl
theorem q2509 : (Jvm.Cond.static ({ cls := "DoughLedgerLaw", name := "pour", desc := "(LDoughLedger;II[J)I" } : Jvm.MethodName)) ∈ lw_all := lw_g (lw_at lw_m10 225 rfl) rfl
theorem q2510 : (Jvm.Cond.codeWith ({ cls := "DoughLedgerLaw", name := "pour", desc := "(LDoughLedger;II[J)I" } : Jvm.MethodName) method_10_code (5 : Nat) (Option.some Jvm.ClassFile.FieldType.int) [((0 : Nat), (10 : Nat), (13 : Nat), (20 : Nat))]) ∈ lw_all := lw_g (lw_at lw_m10 226 rfl) rfl
theorem q2511 : (Jvm.Cond.methodLink "DoughLedgerLaw" (41 : Nat) ({ cls := "DoughLedger", name := "pour", desc := "(II)I" } : Jvm.MethodName)) ∈ lw_all := lw_g (lw_at lw_m10 227 rfl) rfl
theorem q2535 : (Jvm.Cond.methodLink "DoughLedgerLaw" (187 : Nat) ({ cls := "DoughLedgerLaw", name := "empty", desc := "(LDoughLedger;I[J)I" } : Jvm.MethodName)) ∈ lw_all := lw_g (lw_at lw_m11 11 rfl) rfl
theorem q2536 : (Jvm.Cond.static ({ cls := "DoughLedgerLaw", name := "empty", desc := "(LDoughLedger;I[J)I" } : Jvm.MethodName)) ∈ lw_all := lw_g (lw_at lw_m11 12 rfl) rfl
theorem q2537 : (Jvm.Cond.codeWith ({ cls := "DoughLedgerLaw", name := "empty", desc := "(LDoughLedger;I[J)I" } : Jvm.MethodName) method_11_code (4 : Nat) (Option.some Jvm.ClassFile.FieldType.int) [((0 : Nat), (9 : Nat), (12 : Nat), (20 : Nat))]) ∈ lw_all := lw_g (lw_at lw_m11 13 rfl) rfl
theorem q2538 : (Jvm.Cond.methodLink "DoughLedgerLaw" (44 : Nat) ({ cls := "DoughLedger", name := "empty", desc := "(I)I" } : Jvm.MethodName)) ∈ lw_all := lw_g (lw_at lw_m11 14 rfl) rfl
theorem q2548 : (Jvm.Cond.methodLink "DoughLedgerLaw" (190 : Nat) ({ cls := "DoughLedgerLaw", name := "bake", desc := "(LDoughLedger;I[J)I" } : Jvm.MethodName)) ∈ lw_all := lw_g (lw_at lw_m11 24 rfl) rfl
theorem q2549 : (Jvm.Cond.static ({ cls := "DoughLedgerLaw", name := "bake", desc := "(LDoughLedger;I[J)I" } : Jvm.MethodName)) ∈ lw_all := lw_g (lw_at lw_m11 25 rfl) rfl
theorem q2550 : (Jvm.Cond.codeWith ({ cls := "DoughLedgerLaw", name := "bake", desc := "(LDoughLedger;I[J)I" } : Jvm.MethodName) method_12_code (4 : Nat) (Option.some Jvm.ClassFile.FieldType.int) [((0 : Nat), (9 : Nat), (12 : Nat), (20 : Nat)), ((0 : Nat), (9 : Nat), (15 : Nat), (50 : Nat)), ((0 : Nat), (9 : Nat), (18 : Nat), (22 : Nat))]) ∈ lw_all := lw_g (lw_at lw_m11 26 rfl) rfl
theorem q2551 : (Jvm.Cond.classLink "DoughLedgerLaw" (50 : Nat) "java/util/NoSuchElementException") ∈ lw_all := lw_g (lw_at lw_m11 27 rfl) rfl
theorem q2552 : (Jvm.Cond.methodLink "DoughLedgerLaw" (47 : Nat) ({ cls := "DoughLedger", name := "bake", desc := "(I)I" } : Jvm.MethodName)) ∈ lw_all := lw_g (lw_at lw_m11 28 rfl) rfl
theorem q2562 : (Jvm.Cond.methodLink "DoughLedgerLaw" (193 : Nat) ({ cls := "DoughLedgerLaw", name := "setOvens", desc := "(LDoughLedger;I[J)I" } : Jvm.MethodName)) ∈ lw_all := lw_g (lw_at lw_m11 38 rfl) rfl
theorem q2563 : (Jvm.Cond.static ({ cls := "DoughLedgerLaw", name := "setOvens", desc := "(LDoughLedger;I[J)I" } : Jvm.MethodName)) ∈ lw_all := lw_g (lw_at lw_m11 39 rfl) rfl
theorem q2564 : (Jvm.Cond.codeWith ({ cls := "DoughLedgerLaw", name := "setOvens", desc := "(LDoughLedger;I[J)I" } : Jvm.MethodName) method_13_code (4 : Nat) (Option.some Jvm.ClassFile.FieldType.int) [((0 : Nat), (9 : Nat), (12 : Nat), (13 : Nat))]) ∈ lw_all := lw_g (lw_at lw_m11 40 rfl) rfl
theorem q2565 : (Jvm.Cond.methodLink "DoughLedgerLaw" (52 : Nat) ({ cls := "DoughLedger", name := "setOvens", desc := "(I)I" } : Jvm.MethodName)) ∈ lw_all := lw_g (lw_at lw_m11 41 rfl) rfl
theorem q2575 : (Jvm.Cond.methodLink "DoughLedgerLaw" (200 : Nat) ({ cls := "DoughLedgerLaw", name := "numeratorOf", desc := "(LDoughLedger;I[J)I" } : Jvm.MethodName)) ∈ lw_all := lw_g (lw_at lw_m11 51 rfl) rfl
theorem q2576 : (Jvm.Cond.static ({ cls := "DoughLedgerLaw", name := "numeratorOf", desc := "(LDoughLedger;I[J)I" } : Jvm.MethodName)) ∈ lw_all := lw_g (lw_at lw_m11 52 rfl) rfl
theorem q2577 : (Jvm.Cond.codeWith ({ cls := "DoughLedgerLaw", name := "numeratorOf", desc := "(LDoughLedger;I[J)I" } : Jvm.MethodName) method_14_code (4 : Nat) (Option.some Jvm.ClassFile.FieldType.int) [((0 : Nat), (9 : Nat), (12 : Nat), (20 : Nat))]) ∈ lw_all := lw_g (lw_at lw_m11 53 rfl) rfl
theorem q2578 : (Jvm.Cond.methodLink "DoughLedgerLaw" (55 : Nat) ({ cls := "DoughLedger", name := "numeratorOf", desc := "(I)I" } : Jvm.MethodName)) ∈ lw_all := lw_g (lw_at lw_m11 54 rfl) rfl
theorem q2595 : (Jvm.Cond.methodLink "DoughLedgerLaw" (203 : Nat) ({ cls := "DoughLedgerLaw", name := "denominatorOf", desc := "(LDoughLedger;I[J)I" } : Jvm.MethodName)) ∈ lw_all := lw_g (lw_at lw_m11 71 rfl) rfl
theorem q2596 : (Jvm.Cond.static ({ cls := "DoughLedgerLaw", name := "denominatorOf", desc := "(LDoughLedger;I[J)I" } : Jvm.MethodName)) ∈ lw_all := lw_g (lw_at lw_m11 72 rfl) rfl
theorem q2597 : (Jvm.Cond.codeWith ({ cls := "DoughLedgerLaw", name := "denominatorOf", desc := "(LDoughLedger;I[J)I" } : Jvm.MethodName) method_15_code (4 : Nat) (Option.some Jvm.ClassFile.FieldType.int) [((0 : Nat), (9 : Nat), (12 : Nat), (20 : Nat))]) ∈ lw_all := lw_g (lw_at lw_m11 73 rfl) rfl
theorem q2598 : (Jvm.Cond.methodLink "DoughLedgerLaw" (58 : Nat) ({ cls := "DoughLedger", name := "denominatorOf", desc := "(I)I" } : Jvm.MethodName)) ∈ lw_all := lw_g (lw_at lw_m11 74 rfl) rfl
theorem q2602 : (Jvm.Cond.methodLink "DoughLedgerLaw" (206 : Nat) ({ cls := "DoughLedgerLaw", name := "crumbsIn", desc := "(LDoughLedger;I[J)I" } : Jvm.MethodName)) ∈ lw_all := lw_g (lw_at lw_m11 78 rfl) rfl
theorem q2603 : (Jvm.Cond.static ({ cls := "DoughLedgerLaw", name := "crumbsIn", desc := "(LDoughLedger;I[J)I" } : Jvm.MethodName)) ∈ lw_all := lw_g (lw_at lw_m11 79 rfl) rfl
theorem q2604 : (Jvm.Cond.codeWith ({ cls := "DoughLedgerLaw", name := "crumbsIn", desc := "(LDoughLedger;I[J)I" } : Jvm.MethodName) method_16_code (4 : Nat) (Option.some Jvm.ClassFile.FieldType.int) [((0 : Nat), (9 : Nat), (12 : Nat), (20 : Nat))]) ∈ lw_all := lw_g (lw_at lw_m11 80 rfl) rfl
theorem q2605 : (Jvm.Cond.methodLink "DoughLedgerLaw" (61 : Nat) ({ cls := "DoughLedger", name := "crumbsIn", desc := "(I)I" } : Jvm.MethodName)) ∈ lw_all := lw_g (lw_at lw_m11 81 rfl) rfl
theorem q2610 : (Jvm.Cond.methodLink "DoughLedgerLaw" (209 : Nat) ({ cls := "DoughLedgerLaw", name := "crumbsByDigits", desc := "(LDoughLedger;I[J)I" } : Jvm.MethodName)) ∈ lw_all := lw_g (lw_at lw_m11 86 rfl) rfl
theorem q2611 : (Jvm.Cond.static ({ cls := "DoughLedgerLaw", name := "crumbsByDigits", desc := "(LDoughLedger;I[J)I" } : Jvm.MethodName)) ∈ lw_all := lw_g (lw_at lw_m11 87 rfl) rfl
theorem q2612 : (Jvm.Cond.codeWith ({ cls := "DoughLedgerLaw", name := "crumbsByDigits", desc := "(LDoughLedger;I[J)I" } : Jvm.MethodName) method_17_code (4 : Nat) (Option.some Jvm.ClassFile.FieldType.int) [((0 : Nat), (9 : Nat), (12 : Nat), (20 : Nat))]) ∈ lw_all := lw_g (lw_at lw_m11 88 rfl) rfl
theorem q2613 : (Jvm.Cond.methodLink "DoughLedgerLaw" (64 : Nat) ({ cls := "DoughLedger", name := "crumbsByDigits", desc := "(I)I" } : Jvm.MethodName)) ∈ lw_all := lw_g (lw_at lw_m11 89 rfl) rfl
theorem q2618 : (Jvm.Cond.methodLink "DoughLedgerLaw" (212 : Nat) ({ cls := "DoughLedgerLaw", name := "doughByAmount", desc := "(LDoughLedger;I[J)I" } : Jvm.MethodName)) ∈ lw_all := lw_g (lw_at lw_m11 94 rfl) rfl
theorem q2619 : (Jvm.Cond.static ({ cls := "DoughLedgerLaw", name := "doughByAmount", desc := "(LDoughLedger;I[J)I" } : Jvm.MethodName)) ∈ lw_all := lw_g (lw_at lw_m11 95 rfl) rfl
theorem q2620 : (Jvm.Cond.codeWith ({ cls := "DoughLedgerLaw", name := "doughByAmount", desc := "(LDoughLedger;I[J)I" } : Jvm.MethodName) method_18_code (4 : Nat) (Option.some Jvm.ClassFile.FieldType.int) [((0 : Nat), (9 : Nat), (12 : Nat), (50 : Nat))]) ∈ lw_all := lw_g (lw_at lw_m11 96 rfl) rfl
theorem q2621 : (Jvm.Cond.methodLink "DoughLedgerLaw" (67 : Nat) ({ cls := "DoughLedger", name := "doughByAmount", desc := "(I)I" } : Jvm.MethodName)) ∈ lw_all := lw_g (lw_at lw_m11 97 rfl) rfl
theorem q2638 : (Jvm.Cond.methodLink "DoughLedgerLaw" (215 : Nat) ({ cls := "DoughLedgerLaw", name := "nearestNumerator", desc := "(LDoughLedger;III[J)I" } : Jvm.MethodName)) ∈ lw_all := lw_g (lw_at lw_m11 114 rfl) rfl
theorem q2639 : (Jvm.Cond.static ({ cls := "DoughLedgerLaw", name := "nearestNumerator", desc := "(LDoughLedger;III[J)I" } : Jvm.MethodName)) ∈ lw_all := lw_g (lw_at lw_m11 115 rfl) rfl
theorem q2640 : (Jvm.Cond.codeWith ({ cls := "DoughLedgerLaw", name := "nearestNumerator", desc := "(LDoughLedger;III[J)I" } : Jvm.MethodName) method_19_code (6 : Nat) (Option.some Jvm.ClassFile.FieldType.int) [((0 : Nat), (12 : Nat), (15 : Nat), (20 : Nat)), ((0 : Nat), (12 : Nat), (19 : Nat), (13 : Nat)), ((0 : Nat), (12 : Nat), (23 : Nat), (22 : Nat))]) ∈ lw_all := lw_g (lw_at lw_m11 116 rfl) rfl
theorem q2641 : (Jvm.Cond.methodLink "DoughLedgerLaw" (70 : Nat) ({ cls := "DoughLedger", name := "nearestNumerator", desc := "(III)I" } : Jvm.MethodName)) ∈ lw_all := lw_g (lw_at lw_m11 117 rfl) rfl
theorem q2659 : (Jvm.Cond.methodLink "DoughLedgerLaw" (219 : Nat) ({ cls := "DoughLedgerLaw", name := "nearestDenominator", desc := "(LDoughLedger;III[J)I" } : Jvm.MethodName)) ∈ lw_all := lw_g (lw_at lw_m11 135 rfl) rfl
theorem q2660 : (Jvm.Cond.static ({ cls := "DoughLedgerLaw", name := "nearestDenominator", desc := "(LDoughLedger;III[J)I" } : Jvm.MethodName)) ∈ lw_all := lw_g (lw_at lw_m11 136 rfl) rfl
theorem q2661 : (Jvm.Cond.codeWith ({ cls := "DoughLedgerLaw", name := "nearestDenominator", desc := "(LDoughLedger;III[J)I" } : Jvm.MethodName) method_20_code (6 : Nat) (Option.some Jvm.ClassFile.FieldType.int) [((0 : Nat), (12 : Nat), (15 : Nat), (20 : Nat)), ((0 : Nat), (12 : Nat), (19 : Nat), (13 : Nat)), ((0 : Nat), (12 : Nat), (23 : Nat), (22 : Nat))]) ∈ lw_all := lw_g (lw_at lw_m11 137 rfl) rfl
theorem q2662 : (Jvm.Cond.methodLink "DoughLedgerLaw" (74 : Nat) ({ cls := "DoughLedger", name := "nearestDenominator", desc := "(III)I" } : Jvm.MethodName)) ∈ lw_all := lw_g (lw_at lw_m11 138 rfl) rfl
theorem q2666 : (Jvm.Cond.methodLink "DoughLedgerLaw" (222 : Nat) ({ cls := "DoughLedgerLaw", name := "denominatorByTrying", desc := "(LDoughLedger;III[J)I" } : Jvm.MethodName)) ∈ lw_all := lw_g (lw_at lw_m11 142 rfl) rfl
theorem q2667 : (Jvm.Cond.static ({ cls := "DoughLedgerLaw", name := "denominatorByTrying", desc := "(LDoughLedger;III[J)I" } : Jvm.MethodName)) ∈ lw_all := lw_g (lw_at lw_m11 143 rfl) rfl
theorem q2668 : (Jvm.Cond.codeWith ({ cls := "DoughLedgerLaw", name := "denominatorByTrying", desc := "(LDoughLedger;III[J)I" } : Jvm.MethodName) method_21_code (6 : Nat) (Option.some Jvm.ClassFile.FieldType.int) [((0 : Nat), (12 : Nat), (15 : Nat), (20 : Nat)), ((0 : Nat), (12 : Nat), (19 : Nat), (13 : Nat)), ((0 : Nat), (12 : Nat), (23 : Nat), (22 : Nat))]) ∈ lw_all := lw_g (lw_at lw_m11 144 rfl) rfl
theorem q2669 : (Jvm.Cond.methodLink "DoughLedgerLaw" (77 : Nat) ({ cls := "DoughLedger", name := "denominatorByTrying", desc := "(III)I" } : Jvm.MethodName)) ∈ lw_all := lw_g (lw_at lw_m11 145 rfl) rfl
theorem q2674 : (Jvm.Cond.methodLink "DoughLedgerLaw" (229 : Nat) ({ cls := "DoughLedgerLaw", name := "capacityOf", desc := "(LDoughLedger;I[J)I" } : Jvm.MethodName)) ∈ lw_all := lw_g (lw_at lw_m11 150 rfl) rfl
theorem q2675 : (Jvm.Cond.static ({ cls := "DoughLedgerLaw", name := "capacityOf", desc := "(LDoughLedger;I[J)I" } : Jvm.MethodName)) ∈ lw_all := lw_g (lw_at lw_m11 151 rfl) rfl
theorem q2676 : (Jvm.Cond.codeWith ({ cls := "DoughLedgerLaw", name := "capacityOf", desc := "(LDoughLedger;I[J)I" } : Jvm.MethodName) method_22_code (4 : Nat) (Option.some Jvm.ClassFile.FieldType.int) [((0 : Nat), (9 : Nat), (12 : Nat), (20 : Nat))]) ∈ lw_all := lw_g (lw_at lw_m11 152 rfl) rfl
theorem q2677 : (Jvm.Cond.methodLink "DoughLedgerLaw" (80 : Nat) ({ cls := "DoughLedger", name := "capacityOf", desc := "(I)I" } : Jvm.MethodName)) ∈ lw_all := lw_g (lw_at lw_m11 153 rfl) rfl
theorem q2689 : (Jvm.Cond.methodLink "DoughLedgerLaw" (232 : Nat) ({ cls := "DoughLedgerLaw", name := "contentOf", desc := "(LDoughLedger;I[J)I" } : Jvm.MethodName)) ∈ lw_all := lw_g (lw_at lw_m11 165 rfl) rfl
theorem q2690 : (Jvm.Cond.static ({ cls := "DoughLedgerLaw", name := "contentOf", desc := "(LDoughLedger;I[J)I" } : Jvm.MethodName)) ∈ lw_all := lw_g (lw_at lw_m11 166 rfl) rfl
theorem q2691 : (Jvm.Cond.codeWith ({ cls := "DoughLedgerLaw", name := "contentOf", desc := "(LDoughLedger;I[J)I" } : Jvm.MethodName) method_23_code (4 : Nat) (Option.some Jvm.ClassFile.FieldType.int) [((0 : Nat), (9 : Nat), (12 : Nat), (20 : Nat))]) ∈ lw_all := lw_g (lw_at lw_m11 167 rfl) rfl
theorem q2692 : (Jvm.Cond.methodLink "DoughLedgerLaw" (83 : Nat) ({ cls := "DoughLedger", name := "contentOf", desc := "(I)I" } : Jvm.MethodName)) ∈ lw_all := lw_g (lw_at lw_m11 168 rfl) rfl
theorem q2696 : (Jvm.Cond.methodLink "DoughLedgerLaw" (235 : Nat) ({ cls := "DoughLedgerLaw", name := "roomFrom", desc := "(LDoughLedger;I[J)I" } : Jvm.MethodName)) ∈ lw_all := lw_g (lw_at lw_m11 172 rfl) rfl
theorem q2697 : (Jvm.Cond.static ({ cls := "DoughLedgerLaw", name := "roomFrom", desc := "(LDoughLedger;I[J)I" } : Jvm.MethodName)) ∈ lw_all := lw_g (lw_at lw_m11 173 rfl) rfl
theorem q2698 : (Jvm.Cond.codeWith ({ cls := "DoughLedgerLaw", name := "roomFrom", desc := "(LDoughLedger;I[J)I" } : Jvm.MethodName) method_24_code (4 : Nat) (Option.some Jvm.ClassFile.FieldType.int) [((0 : Nat), (9 : Nat), (12 : Nat), (20 : Nat))]) ∈ lw_all := lw_g (lw_at lw_m11 174 rfl) rfl
theorem q2699 : (Jvm.Cond.methodLink "DoughLedgerLaw" (86 : Nat) ({ cls := "DoughLedger", name := "roomFrom", desc := "(I)I" } : Jvm.MethodName)) ∈ lw_all := lw_g (lw_at lw_m11 175 rfl) rfl
theorem q2707 : (Jvm.Cond.methodLink "DoughLedgerLaw" (238 : Nat) ({ cls := "DoughLedgerLaw", name := "fullestBowl", desc := "(LDoughLedger;[J)I" } : Jvm.MethodName)) ∈ lw_all := lw_g (lw_at lw_m11 183 rfl) rfl
theorem q2708 : (Jvm.Cond.static ({ cls := "DoughLedgerLaw", name := "fullestBowl", desc := "(LDoughLedger;[J)I" } : Jvm.MethodName)) ∈ lw_all := lw_g (lw_at lw_m11 184 rfl) rfl
theorem q2709 : (Jvm.Cond.codeWith ({ cls := "DoughLedgerLaw", name := "fullestBowl", desc := "(LDoughLedger;[J)I" } : Jvm.MethodName) method_25_code (3 : Nat) (Option.some Jvm.ClassFile.FieldType.int) [((0 : Nat), (8 : Nat), (11 : Nat), (50 : Nat))]) ∈ lw_all := lw_g (lw_at lw_m11 185 rfl) rfl
theorem q2710 : (Jvm.Cond.methodLink "DoughLedgerLaw" (89 : Nat) ({ cls := "DoughLedger", name := "fullestBowl", desc := "()I" } : Jvm.MethodName)) ∈ lw_all := lw_g (lw_at lw_m11 186 rfl) rfl
theorem q2718 : (Jvm.Cond.methodLink "DoughLedgerLaw" (246 : Nat) ({ cls := "DoughLedgerLaw", name := "weightOf", desc := "(LDoughLedger;I[J)I" } : Jvm.MethodName)) ∈ lw_all := lw_g (lw_at lw_m11 194 rfl) rfl
theorem q2719 : (Jvm.Cond.static ({ cls := "DoughLedgerLaw", name := "weightOf", desc := "(LDoughLedger;I[J)I" } : Jvm.MethodName)) ∈ lw_all := lw_g (lw_at lw_m11 195 rfl) rfl
theorem q2720 : (Jvm.Cond.codeWith ({ cls := "DoughLedgerLaw", name := "weightOf", desc := "(LDoughLedger;I[J)I" } : Jvm.MethodName) method_26_code (4 : Nat) (Option.some Jvm.ClassFile.FieldType.int) [((0 : Nat), (9 : Nat), (12 : Nat), (20 : Nat))]) ∈ lw_all := lw_g (lw_at lw_m11 196 rfl) rfl
theorem q2721 : (Jvm.Cond.methodLink "DoughLedgerLaw" (93 : Nat) ({ cls := "DoughLedger", name := "weightOf", desc := "(I)I" } : Jvm.MethodName)) ∈ lw_all := lw_g (lw_at lw_m11 197 rfl) rfl
theorem q2731 : (Jvm.Cond.methodLink "DoughLedgerLaw" (249 : Nat) ({ cls := "DoughLedgerLaw", name := "minutesOf", desc := "(LDoughLedger;I[J)I" } : Jvm.MethodName)) ∈ lw_all := lw_g (lw_at lw_m11 207 rfl) rfl
theorem q2732 : (Jvm.Cond.static ({ cls := "DoughLedgerLaw", name := "minutesOf", desc := "(LDoughLedger;I[J)I" } : Jvm.MethodName)) ∈ lw_all := lw_g (lw_at lw_m11 208 rfl) rfl
theorem q2733 : (Jvm.Cond.codeWith ({ cls := "DoughLedgerLaw", name := "minutesOf", desc := "(LDoughLedger;I[J)I" } : Jvm.MethodName) method_27_code (4 : Nat) (Option.some Jvm.ClassFile.FieldType.int) [((0 : Nat), (9 : Nat), (12 : Nat), (20 : Nat))]) ∈ lw_all := lw_g (lw_at lw_m11 209 rfl) rfl
theorem q2734 : (Jvm.Cond.methodLink "DoughLedgerLaw" (96 : Nat) ({ cls := "DoughLedger", name := "minutesOf", desc := "(I)I" } : Jvm.MethodName)) ∈ lw_all := lw_g (lw_at lw_m11 210 rfl) rfl
theorem q2738 : (Jvm.Cond.methodLink "DoughLedgerLaw" (252 : Nat) ({ cls := "DoughLedgerLaw", name := "crumbsOf", desc := "(LDoughLedger;I[J)I" } : Jvm.MethodName)) ∈ lw_all := lw_g (lw_at lw_m11 214 rfl) rfl
theorem q2739 : (Jvm.Cond.static ({ cls := "DoughLedgerLaw", name := "crumbsOf", desc := "(LDoughLedger;I[J)I" } : Jvm.MethodName)) ∈ lw_all := lw_g (lw_at lw_m11 215 rfl) rfl
theorem q2740 : (Jvm.Cond.codeWith ({ cls := "DoughLedgerLaw", name := "crumbsOf", desc := "(LDoughLedger;I[J)I" } : Jvm.MethodName) method_28_code (4 : Nat) (Option.some Jvm.ClassFile.FieldType.int) [((0 : Nat), (9 : Nat), (12 : Nat), (20 : Nat))]) ∈ lw_all := lw_g (lw_at lw_m11 216 rfl) rfl
theorem q2741 : (Jvm.Cond.methodLink "DoughLedgerLaw" (99 : Nat) ({ cls := "DoughLedger", name := "crumbsOf", desc := "(I)I" } : Jvm.MethodName)) ∈ lw_all := lw_g (lw_at lw_m11 217 rfl) rfl
theorem q2745 : (Jvm.Cond.methodLink "DoughLedgerLaw" (255 : Nat) ({ cls := "DoughLedgerLaw", name := "share", desc := "(LDoughLedger;II[J)I" } : Jvm.MethodName)) ∈ lw_all := lw_g (lw_at lw_m11 221 rfl) rfl
theorem q2746 : (Jvm.Cond.static ({ cls := "DoughLedgerLaw", name := "share", desc := "(LDoughLedger;II[J)I" } : Jvm.MethodName)) ∈ lw_all := lw_g (lw_at lw_m11 222 rfl) rfl
theorem q2747 : (Jvm.Cond.codeWith ({ cls := "DoughLedgerLaw", name := "share", desc := "(LDoughLedger;II[J)I" } : Jvm.MethodName) method_29_code (5 : Nat) (Option.some Jvm.ClassFile.FieldType.int) [((0 : Nat), (10 : Nat), (13 : Nat), (20 : Nat))]) ∈ lw_all := lw_g (lw_at lw_m11 223 rfl) rfl
theorem q2748 : (Jvm.Cond.methodLink "DoughLedgerLaw" (102 : Nat) ({ cls := "DoughLedger", name := "share", desc := "(II)I" } : Jvm.MethodName)) ∈ lw_all := lw_g (lw_at lw_m11 224 rfl) rfl
theorem q2758 : (Jvm.Cond.methodLink "DoughLedgerLaw" (258 : Nat) ({ cls := "DoughLedgerLaw", name := "shareByRanks", desc := "(LDoughLedger;II[J)I" } : Jvm.MethodName)) ∈ lw_all := lw_g (lw_at lw_m11 234 rfl) rfl
theorem q2759 : (Jvm.Cond.static ({ cls := "DoughLedgerLaw", name := "shareByRanks", desc := "(LDoughLedger;II[J)I" } : Jvm.MethodName)) ∈ lw_all := lw_g (lw_at lw_m11 235 rfl) rfl
theorem q2760 : (Jvm.Cond.codeWith ({ cls := "DoughLedgerLaw", name := "shareByRanks", desc := "(LDoughLedger;II[J)I" } : Jvm.MethodName) method_30_code (5 : Nat) (Option.some Jvm.ClassFile.FieldType.int) [((0 : Nat), (10 : Nat), (13 : Nat), (20 : Nat))]) ∈ lw_all := lw_g (lw_at lw_m11 236 rfl) rfl
theorem q2761 : (Jvm.Cond.methodLink "DoughLedgerLaw" (105 : Nat) ({ cls := "DoughLedger", name := "shareByRanks", desc := "(II)I" } : Jvm.MethodName)) ∈ lw_all := lw_g (lw_at lw_m11 237 rfl) rfl
theorem q2766 : (Jvm.Cond.methodLink "DoughLedgerLaw" (261 : Nat) ({ cls := "DoughLedgerLaw", name := "loafByCrumbs", desc := "(LDoughLedger;I[J)I" } : Jvm.MethodName)) ∈ lw_all := lw_g (lw_at lw_m12 2 rfl) rfl
theorem q2767 : (Jvm.Cond.static ({ cls := "DoughLedgerLaw", name := "loafByCrumbs", desc := "(LDoughLedger;I[J)I" } : Jvm.MethodName)) ∈ lw_all := lw_g (lw_at lw_m12 3 rfl) rfl
theorem q2768 : (Jvm.Cond.codeWith ({ cls := "DoughLedgerLaw", name := "loafByCrumbs", desc := "(LDoughLedger;I[J)I" } : Jvm.MethodName) method_31_code (4 : Nat) (Option.some Jvm.ClassFile.FieldType.int) [((0 : Nat), (9 : Nat), (12 : Nat), (50 : Nat))]) ∈ lw_all := lw_g (lw_at lw_m12 4 rfl) rfl
theorem q2769 : (Jvm.Cond.methodLink "DoughLedgerLaw" (108 : Nat) ({ cls := "DoughLedger", name := "loafByCrumbs", desc := "(I)I" } : Jvm.MethodName)) ∈ lw_all := lw_g (lw_at lw_m12 5 rfl) rfl
theorem q2777 : (Jvm.Cond.methodLink "DoughLedgerLaw" (309 : Nat) ({ cls := "DoughLedgerLaw", name := "meanCrumbs", desc := "(LDoughLedger;[D)I" } : Jvm.MethodName)) ∈ lw_all := lw_g (lw_at lw_m12 13 rfl) rfl
theorem q2778 : (Jvm.Cond.static ({ cls := "DoughLedgerLaw", name := "meanCrumbs", desc := "(LDoughLedger;[D)I" } : Jvm.MethodName)) ∈ lw_all := lw_g (lw_at lw_m12 14 rfl) rfl
theorem q2779 : (Jvm.Cond.codeWith ({ cls := "DoughLedgerLaw", name := "meanCrumbs", desc := "(LDoughLedger;[D)I" } : Jvm.MethodName) method_32_code (3 : Nat) (Option.some Jvm.ClassFile.FieldType.int) [((0 : Nat), (7 : Nat), (10 : Nat), (115 : Nat))]) ∈ lw_all := lw_g (lw_at lw_m12 15 rfl) rfl
theorem q2780 : (Jvm.Cond.classLink "DoughLedgerLaw" (115 : Nat) "java/lang/ArithmeticException") ∈ lw_all := lw_g (lw_at lw_m12 16 rfl) rfl
theorem q2794 : (Jvm.Cond.methodLink "DoughLedgerLaw" (111 : Nat) ({ cls := "DoughLedger", name := "meanCrumbs", desc := "()D" } : Jvm.MethodName)) ∈ lw_all := lw_g (lw_at lw_m12 30 rfl) rfl
theorem q2813 : (Jvm.Cond.methodLink "DoughLedgerLaw" (313 : Nat) ({ cls := "DoughLedgerLaw", name := "fullShare", desc := "(LDoughLedger;[D)I" } : Jvm.MethodName)) ∈ lw_all := lw_g (lw_at lw_m12 49 rfl) rfl
theorem q2814 : (Jvm.Cond.static ({ cls := "DoughLedgerLaw", name := "fullShare", desc := "(LDoughLedger;[D)I" } : Jvm.MethodName)) ∈ lw_all := lw_g (lw_at lw_m12 50 rfl) rfl
theorem q2815 : (Jvm.Cond.codeWith ({ cls := "DoughLedgerLaw", name := "fullShare", desc := "(LDoughLedger;[D)I" } : Jvm.MethodName) method_33_code (3 : Nat) (Option.some Jvm.ClassFile.FieldType.int) [((0 : Nat), (8 : Nat), (11 : Nat), (115 : Nat))]) ∈ lw_all := lw_g (lw_at lw_m12 51 rfl) rfl
theorem q2816 : (Jvm.Cond.methodLink "DoughLedgerLaw" (117 : Nat) ({ cls := "DoughLedger", name := "fullShare", desc := "()F" } : Jvm.MethodName)) ∈ lw_all := lw_g (lw_at lw_m12 52 rfl) rfl
theorem q2821 : (Jvm.Cond.methodLink "DoughLedgerLaw" (321 : Nat) ({ cls := "DoughLedgerLaw", name := "renderDough", desc := "(LDoughLedger;I[J)I" } : Jvm.MethodName)) ∈ lw_all := lw_g (lw_at lw_m12 57 rfl) rfl
theorem q2822 : (Jvm.Cond.static ({ cls := "DoughLedgerLaw", name := "renderDough", desc := "(LDoughLedger;I[J)I" } : Jvm.MethodName)) ∈ lw_all := lw_g (lw_at lw_m12 58 rfl) rfl
theorem q2823 : (Jvm.Cond.codeWith ({ cls := "DoughLedgerLaw", name := "renderDough", desc := "(LDoughLedger;I[J)I" } : Jvm.MethodName) method_34_code (4 : Nat) (Option.some Jvm.ClassFile.FieldType.int) [((0 : Nat), (9 : Nat), (12 : Nat), (20 : Nat))]) ∈ lw_all := lw_g (lw_at lw_m12 59 rfl) rfl
theorem q2824 : (Jvm.Cond.methodLink "DoughLedgerLaw" (121 : Nat) ({ cls := "DoughLedger", name := "renderDough", desc := "(I)I" } : Jvm.MethodName)) ∈ lw_all := lw_g (lw_at lw_m12 60 rfl) rfl
theorem q2922 : (Jvm.Cond.methodLink "DoughLedgerLaw" (328 : Nat) ({ cls := "DoughLedgerLaw", name := "outputAt", desc := "(LDoughLedger;I[J)I" } : Jvm.MethodName)) ∈ lw_all := lw_g (lw_at lw_m12 158 rfl) rfl
theorem q2923 : (Jvm.Cond.static ({ cls := "DoughLedgerLaw", name := "outputAt", desc := "(LDoughLedger;I[J)I" } : Jvm.MethodName)) ∈ lw_all := lw_g (lw_at lw_m12 159 rfl) rfl
theorem q2924 : (Jvm.Cond.codeWith ({ cls := "DoughLedgerLaw", name := "outputAt", desc := "(LDoughLedger;I[J)I" } : Jvm.MethodName) method_35_code (4 : Nat) (Option.some Jvm.ClassFile.FieldType.int) [((0 : Nat), (9 : Nat), (12 : Nat), (20 : Nat))]) ∈ lw_all := lw_g (lw_at lw_m12 160 rfl) rfl
theorem q2925 : (Jvm.Cond.methodLink "DoughLedgerLaw" (124 : Nat) ({ cls := "DoughLedger", name := "outputAt", desc := "(I)C" } : Jvm.MethodName)) ∈ lw_all := lw_g (lw_at lw_m12 161 rfl) rfl
theorem q2944 : (Jvm.Cond.methodLink "DoughLedgerLaw" (331 : Nat) ({ cls := "DoughLedgerLaw", name := "type", desc := "(LDoughLedger;C[J)I" } : Jvm.MethodName)) ∈ lw_all := lw_g (lw_at lw_m12 180 rfl) rfl
theorem q2945 : (Jvm.Cond.static ({ cls := "DoughLedgerLaw", name := "type", desc := "(LDoughLedger;C[J)I" } : Jvm.MethodName)) ∈ lw_all := lw_g (lw_at lw_m12 181 rfl) rfl
theorem q2946 : (Jvm.Cond.codeWith ({ cls := "DoughLedgerLaw", name := "type", desc := "(LDoughLedger;C[J)I" } : Jvm.MethodName) method_36_code (4 : Nat) (Option.some Jvm.ClassFile.FieldType.int) [((0 : Nat), (9 : Nat), (12 : Nat), (13 : Nat)), ((0 : Nat), (9 : Nat), (15 : Nat), (15 : Nat))]) ∈ lw_all := lw_g (lw_at lw_m12 182 rfl) rfl
theorem q2947 : (Jvm.Cond.methodLink "DoughLedgerLaw" (128 : Nat) ({ cls := "DoughLedger", name := "type", desc := "(C)I" } : Jvm.MethodName)) ∈ lw_all := lw_g (lw_at lw_m12 183 rfl) rfl
theorem q2958 : (Jvm.Cond.methodLink "DoughLedgerLaw" (334 : Nat) ({ cls := "DoughLedgerLaw", name := "runScript", desc := "(LDoughLedger;[J)I" } : Jvm.MethodName)) ∈ lw_all := lw_g (lw_at lw_m12 194 rfl) rfl
theorem q2959 : (Jvm.Cond.static ({ cls := "DoughLedgerLaw", name := "runScript", desc := "(LDoughLedger;[J)I" } : Jvm.MethodName)) ∈ lw_all := lw_g (lw_at lw_m12 195 rfl) rfl
theorem q2960 : (Jvm.Cond.codeWith ({ cls := "DoughLedgerLaw", name := "runScript", desc := "(LDoughLedger;[J)I" } : Jvm.MethodName) method_37_code (3 : Nat) (Option.some Jvm.ClassFile.FieldType.int) [((0 : Nat), (8 : Nat), (11 : Nat), (13 : Nat)), ((0 : Nat), (8 : Nat), (14 : Nat), (15 : Nat))]) ∈ lw_all := lw_g (lw_at lw_m12 196 rfl) rfl
theorem q2961 : (Jvm.Cond.methodLink "DoughLedgerLaw" (132 : Nat) ({ cls := "DoughLedger", name := "runScript", desc := "()I" } : Jvm.MethodName)) ∈ lw_all := lw_g (lw_at lw_m12 197 rfl) rfl
theorem q3339 : (Jvm.Cond.methodLink "DoughLedgerLaw" (337 : Nat) ({ cls := "DoughLedgerLaw", name := "errorPosition", desc := "(LDoughLedger;[J)I" } : Jvm.MethodName)) ∈ lw_all := lw_g (lw_at lw_m14 95 rfl) rfl
theorem q3340 : (Jvm.Cond.static ({ cls := "DoughLedgerLaw", name := "errorPosition", desc := "(LDoughLedger;[J)I" } : Jvm.MethodName)) ∈ lw_all := lw_g (lw_at lw_m14 96 rfl) rfl
theorem q3341 : (Jvm.Cond.codeWith ({ cls := "DoughLedgerLaw", name := "errorPosition", desc := "(LDoughLedger;[J)I" } : Jvm.MethodName) method_38_code (3 : Nat) (Option.some Jvm.ClassFile.FieldType.int) [((0 : Nat), (8 : Nat), (11 : Nat), (50 : Nat))]) ∈ lw_all := lw_g (lw_at lw_m14 97 rfl) rfl
theorem q3342 : (Jvm.Cond.methodLink "DoughLedgerLaw" (135 : Nat) ({ cls := "DoughLedger", name := "errorPosition", desc := "()I" } : Jvm.MethodName)) ∈ lw_all := lw_g (lw_at lw_m14 98 rfl) rfl
theorem q3346 : (Jvm.Cond.methodLink "DoughLedgerLaw" (340 : Nat) ({ cls := "DoughLedgerLaw", name := "failedCommand", desc := "(LDoughLedger;[J)I" } : Jvm.MethodName)) ∈ lw_all := lw_g (lw_at lw_m14 102 rfl) rfl
theorem q3347 : (Jvm.Cond.static ({ cls := "DoughLedgerLaw", name := "failedCommand", desc := "(LDoughLedger;[J)I" } : Jvm.MethodName)) ∈ lw_all := lw_g (lw_at lw_m14 103 rfl) rfl
theorem q3348 : (Jvm.Cond.codeWith ({ cls := "DoughLedgerLaw", name := "failedCommand", desc := "(LDoughLedger;[J)I" } : Jvm.MethodName) method_39_code (3 : Nat) (Option.some Jvm.ClassFile.FieldType.int) [((0 : Nat), (8 : Nat), (11 : Nat), (50 : Nat))]) ∈ lw_all := lw_g (lw_at lw_m14 104 rfl) rfl
theorem q3349 : (Jvm.Cond.methodLink "DoughLedgerLaw" (138 : Nat) ({ cls := "DoughLedger", name := "failedCommand", desc := "()I" } : Jvm.MethodName)) ∈ lw_all := lw_g (lw_at lw_m14 105 rfl) rfl
theorem q3353 : (Jvm.Cond.methodLink "DoughLedgerLaw" (343 : Nat) ({ cls := "DoughLedgerLaw", name := "failureKind", desc := "(LDoughLedger;[J)I" } : Jvm.MethodName)) ∈ lw_all := lw_g (lw_at lw_m14 109 rfl) rfl
theorem q3354 : (Jvm.Cond.static ({ cls := "DoughLedgerLaw", name := "failureKind", desc := "(LDoughLedger;[J)I" } : Jvm.MethodName)) ∈ lw_all := lw_g (lw_at lw_m14 110 rfl) rfl
theorem q3355 : (Jvm.Cond.codeWith ({ cls := "DoughLedgerLaw", name := "failureKind", desc := "(LDoughLedger;[J)I" } : Jvm.MethodName) method_40_code (3 : Nat) (Option.some Jvm.ClassFile.FieldType.int) [((0 : Nat), (8 : Nat), (11 : Nat), (50 : Nat))]) ∈ lw_all := lw_g (lw_at lw_m14 111 rfl) rfl
theorem q3356 : (Jvm.Cond.methodLink "DoughLedgerLaw" (141 : Nat) ({ cls := "DoughLedger", name := "failureKind", desc := "()C" } : Jvm.MethodName)) ∈ lw_all := lw_g (lw_at lw_m14 112 rfl) rfl
theorem q3360 : (Jvm.Cond.methodLink "DoughLedgerLaw" (346 : Nat) ({ cls := "DoughLedgerLaw", name := "undo", desc := "(LDoughLedger;[J)I" } : Jvm.MethodName)) ∈ lw_all := lw_g (lw_at lw_m14 116 rfl) rfl
theorem q3361 : (Jvm.Cond.static ({ cls := "DoughLedgerLaw", name := "undo", desc := "(LDoughLedger;[J)I" } : Jvm.MethodName)) ∈ lw_all := lw_g (lw_at lw_m14 117 rfl) rfl
theorem q3362 : (Jvm.Cond.codeWith ({ cls := "DoughLedgerLaw", name := "undo", desc := "(LDoughLedger;[J)I" } : Jvm.MethodName) method_41_code (3 : Nat) (Option.some Jvm.ClassFile.FieldType.int) [((0 : Nat), (8 : Nat), (11 : Nat), (50 : Nat))]) ∈ lw_all := lw_g (lw_at lw_m14 118 rfl) rfl
theorem q3363 : (Jvm.Cond.methodLink "DoughLedgerLaw" (145 : Nat) ({ cls := "DoughLedger", name := "undo", desc := "()I" } : Jvm.MethodName)) ∈ lw_all := lw_g (lw_at lw_m14 119 rfl) rfl
theorem q3379 : (Jvm.Cond.methodLink "DoughLedgerLaw" (353 : Nat) ({ cls := "DoughLedgerLaw", name := "restore", desc := "(LDoughLedger;[J)I" } : Jvm.MethodName)) ∈ lw_all := lw_g (lw_at lw_m14 135 rfl) rfl
theorem q3380 : (Jvm.Cond.static ({ cls := "DoughLedgerLaw", name := "restore", desc := "(LDoughLedger;[J)I" } : Jvm.MethodName)) ∈ lw_all := lw_g (lw_at lw_m14 136 rfl) rfl
theorem q3381 : (Jvm.Cond.codeWith ({ cls := "DoughLedgerLaw", name := "restore", desc := "(LDoughLedger;[J)I" } : Jvm.MethodName) method_42_code (3 : Nat) (Option.some Jvm.ClassFile.FieldType.int) [((0 : Nat), (8 : Nat), (11 : Nat), (15 : Nat))]) ∈ lw_all := lw_g (lw_at lw_m14 137 rfl) rfl
theorem q3382 : (Jvm.Cond.methodLink "DoughLedgerLaw" (148 : Nat) ({ cls := "DoughLedger", name := "restore", desc := "()I" } : Jvm.MethodName)) ∈ lw_all := lw_g (lw_at lw_m14 138 rfl) rfl
theorem q3390 : (Jvm.Cond.methodLink "DoughLedgerLaw" (161 : Nat) ({ cls := "DoughLedgerModel", name := "thrown", desc := "()I" } : Jvm.MethodName)) ∈ lw_all := lw_g (lw_at lw_m14 146 rfl) rfl
theorem q3394 : (Jvm.Cond.classLink "DoughLedgerLaw" (152 : Nat) "DoughLedgerModel") ∈ lw_all := lw_g (lw_at lw_m14 150 rfl) rfl
theorem q3396 : (Jvm.Cond.methodLink "DoughLedgerLaw" (154 : Nat) ({ cls := "DoughLedgerModel", name := "<init>", desc := "()V" } : Jvm.MethodName)) ∈ lw_all := lw_g (lw_at lw_m14 152 rfl) rfl
theorem q3474 : (Jvm.Cond.methodLink "DoughLedgerLaw" (160 : Nat) ({ cls := "DoughLedgerModel", name := "addDough", desc := "(II)I" } : Jvm.MethodName)) ∈ lw_all := lw_g (lw_at lw_m14 230 rfl) rfl
theorem q3516 : (Jvm.Cond.methodLink "DoughLedgerLaw" (166 : Nat) ({ cls := "DoughLedgerModel", name := "mix", desc := "(II)I" } : Jvm.MethodName)) ∈ lw_all := lw_g (lw_at lw_m15 32 rfl) rfl
theorem q3544 : (Jvm.Cond.methodLink "DoughLedgerLaw" (170 : Nat) ({ cls := "DoughLedgerModel", name := "addBowl", desc := "(I)I" } : Jvm.MethodName)) ∈ lw_all := lw_g (lw_at lw_m15 60 rfl) rfl
theorem q3556 : (Jvm.Cond.methodLink "DoughLedgerLaw" (173 : Nat) ({ cls := "DoughLedgerModel", name := "addLoaf", desc := "(II)I" } : Jvm.MethodName)) ∈ lw_all := lw_g (lw_at lw_m15 72 rfl) rfl
theorem q3568 : (Jvm.Cond.methodLink "DoughLedgerLaw" (176 : Nat) ({ cls := "DoughLedgerModel", name := "sellLoaf", desc := "(I)I" } : Jvm.MethodName)) ∈ lw_all := lw_g (lw_at lw_m15 84 rfl) rfl
theorem q3584 : (Jvm.Cond.methodLink "DoughLedgerLaw" (179 : Nat) ({ cls := "DoughLedgerModel", name := "setScale", desc := "(I)I" } : Jvm.MethodName)) ∈ lw_all := lw_g (lw_at lw_m15 100 rfl) rfl
theorem q3608 : (Jvm.Cond.methodLink "DoughLedgerLaw" (183 : Nat) ({ cls := "DoughLedgerModel", name := "setRounding", desc := "(C)C" } : Jvm.MethodName)) ∈ lw_all := lw_g (lw_at lw_m15 124 rfl) rfl
theorem q3615 : (Jvm.Cond.methodLink "DoughLedgerLaw" (186 : Nat) ({ cls := "DoughLedgerModel", name := "pour", desc := "(II)I" } : Jvm.MethodName)) ∈ lw_all := lw_g (lw_at lw_m15 131 rfl) rfl
theorem q3644 : (Jvm.Cond.methodLink "DoughLedgerLaw" (189 : Nat) ({ cls := "DoughLedgerModel", name := "empty", desc := "(I)I" } : Jvm.MethodName)) ∈ lw_all := lw_g (lw_at lw_m15 160 rfl) rfl
theorem q3652 : (Jvm.Cond.methodLink "DoughLedgerLaw" (192 : Nat) ({ cls := "DoughLedgerModel", name := "bake", desc := "(I)I" } : Jvm.MethodName)) ∈ lw_all := lw_g (lw_at lw_m15 168 rfl) rfl
theorem q3680 : (Jvm.Cond.methodLink "DoughLedgerLaw" (195 : Nat) ({ cls := "DoughLedgerModel", name := "setOvens", desc := "(I)I" } : Jvm.MethodName)) ∈ lw_all := lw_g (lw_at lw_m15 196 rfl) rfl
theorem q3687 : (Jvm.Cond.methodLink "DoughLedgerLaw" (199 : Nat) ({ cls := "DoughLedgerModel", name := "doughCount", desc := "()I" } : Jvm.MethodName)) ∈ lw_all := lw_g (lw_at lw_m15 203 rfl) rfl
theorem q3695 : (Jvm.Cond.methodLink "DoughLedgerLaw" (202 : Nat) ({ cls := "DoughLedgerModel", name := "numeratorOf", desc := "(I)I" } : Jvm.MethodName)) ∈ lw_all := lw_g (lw_at lw_m15 211 rfl) rfl
theorem q3703 : (Jvm.Cond.methodLink "DoughLedgerLaw" (205 : Nat) ({ cls := "DoughLedgerModel", name := "denominatorOf", desc := "(I)I" } : Jvm.MethodName)) ∈ lw_all := lw_g (lw_at lw_m15 219 rfl) rfl
theorem q3707 : (Jvm.Cond.methodLink "DoughLedgerLaw" (208 : Nat) ({ cls := "DoughLedgerModel", name := "crumbsIn", desc := "(I)I" } : Jvm.MethodName)) ∈ lw_all := lw_g (lw_at lw_m15 223 rfl) rfl
theorem q3711 : (Jvm.Cond.methodLink "DoughLedgerLaw" (211 : Nat) ({ cls := "DoughLedgerModel", name := "crumbsByDigits", desc := "(I)I" } : Jvm.MethodName)) ∈ lw_all := lw_g (lw_at lw_m15 227 rfl) rfl
theorem q3716 : (Jvm.Cond.methodLink "DoughLedgerLaw" (214 : Nat) ({ cls := "DoughLedgerModel", name := "doughByAmount", desc := "(I)I" } : Jvm.MethodName)) ∈ lw_all := lw_g (lw_at lw_m15 232 rfl) rfl
theorem q3724 : (Jvm.Cond.methodLink "DoughLedgerLaw" (218 : Nat) ({ cls := "DoughLedgerModel", name := "nearestNumerator", desc := "(III)I" } : Jvm.MethodName)) ∈ lw_all := lw_g (lw_at lw_m16 0 rfl) rfl
theorem q3740 : (Jvm.Cond.methodLink "DoughLedgerLaw" (221 : Nat) ({ cls := "DoughLedgerModel", name := "nearestDenominator", desc := "(III)I" } : Jvm.MethodName)) ∈ lw_all := lw_g (lw_at lw_m16 16 rfl) rfl
theorem q3744 : (Jvm.Cond.methodLink "DoughLedgerLaw" (224 : Nat) ({ cls := "DoughLedgerModel", name := "denominatorByTrying", desc := "(III)I" } : Jvm.MethodName)) ∈ lw_all := lw_g (lw_at lw_m16 20 rfl) rfl
theorem q3749 : (Jvm.Cond.methodLink "DoughLedgerLaw" (228 : Nat) ({ cls := "DoughLedgerModel", name := "bowlCount", desc := "()I" } : Jvm.MethodName)) ∈ lw_all := lw_g (lw_at lw_m16 25 rfl) rfl
theorem q3753 : (Jvm.Cond.methodLink "DoughLedgerLaw" (231 : Nat) ({ cls := "DoughLedgerModel", name := "capacityOf", desc := "(I)I" } : Jvm.MethodName)) ∈ lw_all := lw_g (lw_at lw_m16 29 rfl) rfl
theorem q3761 : (Jvm.Cond.methodLink "DoughLedgerLaw" (234 : Nat) ({ cls := "DoughLedgerModel", name := "contentOf", desc := "(I)I" } : Jvm.MethodName)) ∈ lw_all := lw_g (lw_at lw_m16 37 rfl) rfl
theorem q3765 : (Jvm.Cond.methodLink "DoughLedgerLaw" (237 : Nat) ({ cls := "DoughLedgerModel", name := "roomFrom", desc := "(I)I" } : Jvm.MethodName)) ∈ lw_all := lw_g (lw_at lw_m16 41 rfl) rfl
theorem q3769 : (Jvm.Cond.methodLink "DoughLedgerLaw" (241 : Nat) ({ cls := "DoughLedgerModel", name := "fullestBowl", desc := "()I" } : Jvm.MethodName)) ∈ lw_all := lw_g (lw_at lw_m16 45 rfl) rfl
theorem q3773 : (Jvm.Cond.methodLink "DoughLedgerLaw" (245 : Nat) ({ cls := "DoughLedgerModel", name := "loafCount", desc := "()I" } : Jvm.MethodName)) ∈ lw_all := lw_g (lw_at lw_m16 49 rfl) rfl
theorem q3777 : (Jvm.Cond.methodLink "DoughLedgerLaw" (248 : Nat) ({ cls := "DoughLedgerModel", name := "weightOf", desc := "(I)I" } : Jvm.MethodName)) ∈ lw_all := lw_g (lw_at lw_m16 53 rfl) rfl
theorem q3785 : (Jvm.Cond.methodLink "DoughLedgerLaw" (251 : Nat) ({ cls := "DoughLedgerModel", name := "minutesOf", desc := "(I)I" } : Jvm.MethodName)) ∈ lw_all := lw_g (lw_at lw_m16 61 rfl) rfl
theorem q3789 : (Jvm.Cond.methodLink "DoughLedgerLaw" (254 : Nat) ({ cls := "DoughLedgerModel", name := "crumbsOf", desc := "(I)I" } : Jvm.MethodName)) ∈ lw_all := lw_g (lw_at lw_m16 65 rfl) rfl
theorem q3793 : (Jvm.Cond.methodLink "DoughLedgerLaw" (257 : Nat) ({ cls := "DoughLedgerModel", name := "share", desc := "(II)I" } : Jvm.MethodName)) ∈ lw_all := lw_g (lw_at lw_m16 69 rfl) rfl
theorem q3797 : (Jvm.Cond.methodLink "DoughLedgerLaw" (260 : Nat) ({ cls := "DoughLedgerModel", name := "shareByRanks", desc := "(II)I" } : Jvm.MethodName)) ∈ lw_all := lw_g (lw_at lw_m16 73 rfl) rfl
theorem q3802 : (Jvm.Cond.methodLink "DoughLedgerLaw" (263 : Nat) ({ cls := "DoughLedgerModel", name := "loafByCrumbs", desc := "(I)I" } : Jvm.MethodName)) ∈ lw_all := lw_g (lw_at lw_m16 78 rfl) rfl
theorem q3810 : (Jvm.Cond.methodLink "DoughLedgerLaw" (267 : Nat) ({ cls := "DoughLedgerModel", name := "ovens", desc := "()I" } : Jvm.MethodName)) ∈ lw_all := lw_g (lw_at lw_m16 86 rfl) rfl
theorem q3814 : (Jvm.Cond.methodLink "DoughLedgerLaw" (271 : Nat) ({ cls := "DoughLedgerModel", name := "shortestTime", desc := "()I" } : Jvm.MethodName)) ∈ lw_all := lw_g (lw_at lw_m16 90 rfl) rfl
theorem q3830 : (Jvm.Cond.methodLink "DoughLedgerLaw" (275 : Nat) ({ cls := "DoughLedgerModel", name := "shortestTimeByDeciding", desc := "()I" } : Jvm.MethodName)) ∈ lw_all := lw_g (lw_at lw_m16 106 rfl) rfl
theorem q3835 : (Jvm.Cond.methodLink "DoughLedgerLaw" (279 : Nat) ({ cls := "DoughLedgerModel", name := "greedyTime", desc := "()I" } : Jvm.MethodName)) ∈ lw_all := lw_g (lw_at lw_m16 111 rfl) rfl
theorem q3839 : (Jvm.Cond.methodLink "DoughLedgerLaw" (284 : Nat) ({ cls := "DoughLedgerModel", name := "pouredTotal", desc := "()J" } : Jvm.MethodName)) ∈ lw_all := lw_g (lw_at lw_m16 115 rfl) rfl
theorem q3847 : (Jvm.Cond.methodLink "DoughLedgerLaw" (288 : Nat) ({ cls := "DoughLedgerModel", name := "spilledTotal", desc := "()J" } : Jvm.MethodName)) ∈ lw_all := lw_g (lw_at lw_m16 123 rfl) rfl
theorem q3851 : (Jvm.Cond.methodLink "DoughLedgerLaw" (292 : Nat) ({ cls := "DoughLedgerModel", name := "goneTotal", desc := "()J" } : Jvm.MethodName)) ∈ lw_all := lw_g (lw_at lw_m16 127 rfl) rfl
theorem q3855 : (Jvm.Cond.methodLink "DoughLedgerLaw" (296 : Nat) ({ cls := "DoughLedgerModel", name := "crumbsNow", desc := "()I" } : Jvm.MethodName)) ∈ lw_all := lw_g (lw_at lw_m16 131 rfl) rfl
theorem q3859 : (Jvm.Cond.methodLink "DoughLedgerLaw" (300 : Nat) ({ cls := "DoughLedgerModel", name := "crumbsByAccounts", desc := "()J" } : Jvm.MethodName)) ∈ lw_all := lw_g (lw_at lw_m16 135 rfl) rfl
theorem q3864 : (Jvm.Cond.methodLink "DoughLedgerLaw" (304 : Nat) ({ cls := "DoughLedgerModel", name := "errorTotal", desc := "()J" } : Jvm.MethodName)) ∈ lw_all := lw_g (lw_at lw_m16 140 rfl) rfl
theorem q3868 : (Jvm.Cond.methodLink "DoughLedgerLaw" (308 : Nat) ({ cls := "DoughLedgerModel", name := "errorByAccounts", desc := "()J" } : Jvm.MethodName)) ∈ lw_all := lw_g (lw_at lw_m16 144 rfl) rfl
theorem q3872 : (Jvm.Cond.methodLink "DoughLedgerLaw" (312 : Nat) ({ cls := "DoughLedgerModel", name := "meanCrumbs", desc := "()D" } : Jvm.MethodName)) ∈ lw_all := lw_g (lw_at lw_m16 148 rfl) rfl
theorem q3876 : (Jvm.Cond.methodLink "DoughLedgerLaw" (315 : Nat) ({ cls := "DoughLedgerModel", name := "fullShare", desc := "()F" } : Jvm.MethodName)) ∈ lw_all := lw_g (lw_at lw_m16 152 rfl) rfl
theorem q3880 : (Jvm.Cond.methodLink "DoughLedgerLaw" (320 : Nat) ({ cls := "DoughLedgerModel", name := "isConsistent", desc := "()Z" } : Jvm.MethodName)) ∈ lw_all := lw_g (lw_at lw_m16 156 rfl) rfl
theorem q3884 : (Jvm.Cond.methodLink "DoughLedgerLaw" (323 : Nat) ({ cls := "DoughLedgerModel", name := "renderDough", desc := "(I)I" } : Jvm.MethodName)) ∈ lw_all := lw_g (lw_at lw_m16 160 rfl) rfl
theorem q3900 : (Jvm.Cond.methodLink "DoughLedgerLaw" (327 : Nat) ({ cls := "DoughLedgerModel", name := "renderBowls", desc := "()I" } : Jvm.MethodName)) ∈ lw_all := lw_g (lw_at lw_m16 176 rfl) rfl
theorem q3904 : (Jvm.Cond.methodLink "DoughLedgerLaw" (330 : Nat) ({ cls := "DoughLedgerModel", name := "outputAt", desc := "(I)C" } : Jvm.MethodName)) ∈ lw_all := lw_g (lw_at lw_m16 180 rfl) rfl
theorem q3908 : (Jvm.Cond.methodLink "DoughLedgerLaw" (333 : Nat) ({ cls := "DoughLedgerModel", name := "type", desc := "(C)I" } : Jvm.MethodName)) ∈ lw_all := lw_g (lw_at lw_m16 184 rfl) rfl
theorem q3912 : (Jvm.Cond.methodLink "DoughLedgerLaw" (336 : Nat) ({ cls := "DoughLedgerModel", name := "runScript", desc := "()I" } : Jvm.MethodName)) ∈ lw_all := lw_g (lw_at lw_m16 188 rfl) rfl
theorem q3975 : (Jvm.Cond.methodLink "DoughLedgerLaw" (339 : Nat) ({ cls := "DoughLedgerModel", name := "errorPosition", desc := "()I" } : Jvm.MethodName)) ∈ lw_all := lw_g (lw_at lw_m17 11 rfl) rfl
theorem q3979 : (Jvm.Cond.methodLink "DoughLedgerLaw" (342 : Nat) ({ cls := "DoughLedgerModel", name := "failedCommand", desc := "()I" } : Jvm.MethodName)) ∈ lw_all := lw_g (lw_at lw_m17 15 rfl) rfl
theorem q3983 : (Jvm.Cond.methodLink "DoughLedgerLaw" (345 : Nat) ({ cls := "DoughLedgerModel", name := "failureKind", desc := "()C" } : Jvm.MethodName)) ∈ lw_all := lw_g (lw_at lw_m17 19 rfl) rfl
theorem q3987 : (Jvm.Cond.methodLink "DoughLedgerLaw" (348 : Nat) ({ cls := "DoughLedgerModel", name := "undo", desc := "()I" } : Jvm.MethodName)) ∈ lw_all := lw_g (lw_at lw_m17 23 rfl) rfl
theorem q3991 : (Jvm.Cond.methodLink "DoughLedgerLaw" (352 : Nat) ({ cls := "DoughLedgerModel", name := "save", desc := "()I" } : Jvm.MethodName)) ∈ lw_all := lw_g (lw_at lw_m17 27 rfl) rfl
theorem q3995 : (Jvm.Cond.methodLink "DoughLedgerLaw" (355 : Nat) ({ cls := "DoughLedgerModel", name := "restore", desc := "()I" } : Jvm.MethodName)) ∈ lw_all := lw_g (lw_at lw_m17 31 rfl) rfl

theorem q1840 : (Jvm.Cond.interfaceMethod "DoughLedger$Rounding" "DoughLedger$Rounding" "round" "(II)I") ∈ lw_tbl := lw_at lw_m8 36 rfl
set_option maxRecDepth 100000
theorem q1841 : (Jvm.Cond.declares ({ cls := "DoughLedger$Rounding", name := "round", desc := "(II)I" } : Jvm.MethodName)) ∈ lw_tbl := lw_at lw_m8 37 rfl

theorem q2315 : (Jvm.Cond.interfaceMethod "DoughLedger$Step" "DoughLedger$Step" "apply" "(LDoughLedger$Bakery;)I") ∈ lw_tbl := lw_at lw_m10 31 rfl
set_option maxRecDepth 100000
theorem q2316 : (Jvm.Cond.declares ({ cls := "DoughLedger$Step", name := "apply", desc := "(LDoughLedger$Bakery;)I" } : Jvm.MethodName)) ∈ lw_tbl := lw_at lw_m10 32 rfl

theorem q587 : (Jvm.Cond.sameMethod "[B" "java/lang/Object" "clone" "()Ljava/lang/Object;") ∈ lw_all := lw_g (lw_at lw_m2 223 rfl) rfl
set_option maxRecDepth 100000
theorem q590 : (Jvm.Cond.selects "[B" ({ cls := "[B", name := "clone", desc := "()Ljava/lang/Object;" } : Jvm.MethodName) ({ cls := "java/lang/Object", name := "clone", desc := "()Ljava/lang/Object;" } : Jvm.MethodName)) ∈ lw_all := lw_g (lw_at lw_m2 226 rfl) rfl
theorem q591 : (Jvm.Cond.castable "[B" "java/lang/Cloneable") ∈ lw_tbl := lw_at lw_m2 227 rfl
theorem q4077 : (Jvm.Cond.castable "[B" "java/lang/Object") ∈ lw_tbl := lw_at lw_m17 113 rfl

theorem q4081 : (Jvm.Cond.castable "[C" "java/lang/Object") ∈ lw_tbl := lw_at lw_m17 117 rfl
set_option maxRecDepth 100000

theorem q4082 : (Jvm.Cond.castable "[D" "java/lang/Object") ∈ lw_tbl := lw_at lw_m17 118 rfl
set_option maxRecDepth 100000

theorem q4078 : (Jvm.Cond.castable "[I" "java/lang/Object") ∈ lw_tbl := lw_at lw_m17 114 rfl
set_option maxRecDepth 100000

theorem q4080 : (Jvm.Cond.castable "[J" "java/lang/Object") ∈ lw_tbl := lw_at lw_m17 116 rfl
set_option maxRecDepth 100000

theorem q4074 : (Jvm.Cond.sameMethod "[Ljava/lang/Object;" "java/lang/Object" "getClass" "()Ljava/lang/Class;") ∈ lw_all := lw_g (lw_at lw_m17 110 rfl) rfl
set_option maxRecDepth 100000
theorem q4075 : (Jvm.Cond.selects "[Ljava/lang/Object;" ({ cls := "java/lang/Object", name := "getClass", desc := "()Ljava/lang/Class;" } : Jvm.MethodName) ({ cls := "java/lang/Object", name := "getClass", desc := "()Ljava/lang/Class;" } : Jvm.MethodName)) ∈ lw_all := lw_g (lw_at lw_m17 111 rfl) rfl
theorem q4079 : (Jvm.Cond.castable "[Ljava/lang/Object;" "java/lang/Object") ∈ lw_tbl := lw_at lw_m17 115 rfl

theorem q3014 : (Jvm.Cond.interfaceMethod "java/lang/CharSequence" "java/lang/CharSequence" "toString" "()Ljava/lang/String;") ∈ lw_tbl := lw_at lw_m13 10 rfl
set_option maxRecDepth 100000
theorem q3015 : (Jvm.Cond.declares ({ cls := "java/lang/CharSequence", name := "toString", desc := "()Ljava/lang/String;" } : Jvm.MethodName)) ∈ lw_tbl := lw_at lw_m13 11 rfl

theorem q1001 : (Jvm.Cond.interfaceMethod "java/lang/Comparable" "java/lang/Comparable" "compareTo" "(Ljava/lang/Object;)I") ∈ lw_tbl := lw_at lw_m4 157 rfl
set_option maxRecDepth 100000
theorem q1002 : (Jvm.Cond.declares ({ cls := "java/lang/Comparable", name := "compareTo", desc := "(Ljava/lang/Object;)I" } : Jvm.MethodName)) ∈ lw_tbl := lw_at lw_m4 158 rfl

theorem q145 : (Jvm.Cond.initialized "java/lang/Integer$IntegerCache") ∈ lw_all := lw_g (lw_at lw_m1 21 rfl) rfl
set_option maxRecDepth 100000
theorem q1781 : (Jvm.Cond.laysStatic "java/lang/Integer$IntegerCache" "high" "I") ∈ lw_tbl := lw_at lw_m7 217 rfl
theorem q1783 : (Jvm.Cond.laysStatic "java/lang/Integer$IntegerCache" "cache" "[Ljava/lang/Integer;") ∈ lw_tbl := lw_at lw_m7 219 rfl

theorem q163 : (Jvm.Cond.initialized "java/lang/System") ∈ lw_all := lw_g (lw_at lw_m1 39 rfl) rfl
set_option maxRecDepth 100000
theorem q597 : (Jvm.Cond.static ({ cls := "java/lang/System", name := "arraycopy", desc := "(Ljava/lang/Object;ILjava/lang/Object;II)V" } : Jvm.MethodName)) ∈ lw_all := lw_g (lw_at lw_m2 233 rfl) rfl
theorem q598 : (Jvm.Cond.native ({ cls := "java/lang/System", name := "arraycopy", desc := "(Ljava/lang/Object;ILjava/lang/Object;II)V" } : Jvm.MethodName)) ∈ lw_all := lw_g (lw_at lw_m2 234 rfl) rfl

theorem q169 : (Jvm.Cond.initialized "java/util/AbstractList$ListItr") ∈ lw_all := lw_g (lw_at lw_m1 45 rfl) rfl
set_option maxRecDepth 100000
theorem q947 : (Jvm.Cond.selects "java/util/AbstractList$ListItr" ({ cls := "java/lang/Object", name := "getClass", desc := "()Ljava/lang/Class;" } : Jvm.MethodName) ({ cls := "java/lang/Object", name := "getClass", desc := "()Ljava/lang/Class;" } : Jvm.MethodName)) ∈ lw_all := lw_g (lw_at lw_m4 103 rfl) rfl
theorem q1358 : (Jvm.Cond.castable "java/util/AbstractList$ListItr" "java/util/Iterator") ∈ lw_tbl := lw_at lw_m6 34 rfl
theorem q1359 : (Jvm.Cond.selects "java/util/AbstractList$ListItr" ({ cls := "java/util/Iterator", name := "hasNext", desc := "()Z" } : Jvm.MethodName) ({ cls := "java/util/AbstractList$Itr", name := "hasNext", desc := "()Z" } : Jvm.MethodName)) ∈ lw_all := lw_g (lw_at lw_m6 35 rfl) rfl
theorem q1360 : (Jvm.Cond.unhidden "java/util/AbstractList$ListItr" "hasNext" "()Z") ∈ lw_tbl := lw_at lw_m6 36 rfl
theorem q1400 : (Jvm.Cond.selects "java/util/AbstractList$ListItr" ({ cls := "java/util/Iterator", name := "next", desc := "()Ljava/lang/Object;" } : Jvm.MethodName) ({ cls := "java/util/AbstractList$Itr", name := "next", desc := "()Ljava/lang/Object;" } : Jvm.MethodName)) ∈ lw_all := lw_g (lw_at lw_m6 76 rfl) rfl
theorem q1401 : (Jvm.Cond.unhidden "java/util/AbstractList$ListItr" "next" "()Ljava/lang/Object;") ∈ lw_tbl := lw_at lw_m6 77 rfl
theorem q1408 : (Jvm.Cond.selects "java/util/AbstractList$ListItr" ({ cls := "java/util/AbstractList$Itr", name := "checkForComodification", desc := "()V" } : Jvm.MethodName) ({ cls := "java/util/AbstractList$Itr", name := "checkForComodification", desc := "()V" } : Jvm.MethodName)) ∈ lw_all := lw_g (lw_at lw_m6 84 rfl) rfl
theorem q4047 : (Jvm.Cond.castable "java/util/AbstractList$ListItr" "java/lang/Object") ∈ lw_tbl := lw_at lw_m17 83 rfl
theorem q4088 : (Jvm.Cond.fieldLink "java/util/AbstractList$ListItr" (1 : Nat) "java/util/AbstractList$ListItr" "this$0" "Ljava/util/AbstractList;") ∈ lw_all := lw_g (lw_at lw_m17 124 rfl) rfl
theorem q4089 : (Jvm.Cond.fieldLink "java/util/AbstractList$ListItr" (13 : Nat) "java/util/AbstractList$ListItr" "cursor" "I") ∈ lw_all := lw_g (lw_at lw_m17 125 rfl) rfl
theorem q4090 : (Jvm.Cond.sameField "java/util/AbstractList$ListItr" "java/util/AbstractList$Itr" "cursor" "I") ∈ lw_all := lw_g (lw_at lw_m17 126 rfl) rfl

theorem q979 : (Jvm.Cond.interfaceMethod "java/util/Comparator" "java/util/Comparator" "compare" "(Ljava/lang/Object;Ljava/lang/Object;)I") ∈ lw_tbl := lw_at lw_m4 135 rfl
set_option maxRecDepth 100000
theorem q980 : (Jvm.Cond.declares ({ cls := "java/util/Comparator", name := "compare", desc := "(Ljava/lang/Object;Ljava/lang/Object;)I" } : Jvm.MethodName)) ∈ lw_tbl := lw_at lw_m4 136 rfl

theorem q1356 : (Jvm.Cond.interfaceMethod "java/util/Iterator" "java/util/Iterator" "hasNext" "()Z") ∈ lw_tbl := lw_at lw_m6 32 rfl
set_option maxRecDepth 100000
theorem q1357 : (Jvm.Cond.declares ({ cls := "java/util/Iterator", name := "hasNext", desc := "()Z" } : Jvm.MethodName)) ∈ lw_tbl := lw_at lw_m6 33 rfl
theorem q1398 : (Jvm.Cond.interfaceMethod "java/util/Iterator" "java/util/Iterator" "next" "()Ljava/lang/Object;") ∈ lw_tbl := lw_at lw_m6 74 rfl
theorem q1399 : (Jvm.Cond.declares ({ cls := "java/util/Iterator", name := "next", desc := "()Ljava/lang/Object;" } : Jvm.MethodName)) ∈ lw_tbl := lw_at lw_m6 75 rfl

theorem q412 : (Jvm.Cond.interfaceMethod "java/util/List" "java/util/List" "size" "()I") ∈ lw_tbl := lw_at lw_m2 48 rfl
set_option maxRecDepth 100000
theorem q413 : (Jvm.Cond.declares ({ cls := "java/util/List", name := "size", desc := "()I" } : Jvm.MethodName)) ∈ lw_tbl := lw_at lw_m2 49 rfl
theorem q467 : (Jvm.Cond.interfaceMethod "java/util/List" "java/util/List" "get" "(I)Ljava/lang/Object;") ∈ lw_tbl := lw_at lw_m2 103 rfl
theorem q468 : (Jvm.Cond.declares ({ cls := "java/util/List", name := "get", desc := "(I)Ljava/lang/Object;" } : Jvm.MethodName)) ∈ lw_tbl := lw_at lw_m2 104 rfl
theorem q1243 : (Jvm.Cond.interfaceMethod "java/util/List" "java/util/List" "iterator" "()Ljava/util/Iterator;") ∈ lw_tbl := lw_at lw_m5 159 rfl
theorem q1244 : (Jvm.Cond.declares ({ cls := "java/util/List", name := "iterator", desc := "()Ljava/util/Iterator;" } : Jvm.MethodName)) ∈ lw_tbl := lw_at lw_m5 160 rfl
theorem q2072 : (Jvm.Cond.interfaceMethod "java/util/List" "java/util/List" "isEmpty" "()Z") ∈ lw_tbl := lw_at lw_m9 28 rfl
theorem q2073 : (Jvm.Cond.declares ({ cls := "java/util/List", name := "isEmpty", desc := "()Z" } : Jvm.MethodName)) ∈ lw_tbl := lw_at lw_m9 29 rfl
theorem q2234 : (Jvm.Cond.interfaceMethod "java/util/List" "java/util/List" "add" "(Ljava/lang/Object;)Z") ∈ lw_tbl := lw_at lw_m9 190 rfl
theorem q2235 : (Jvm.Cond.declares ({ cls := "java/util/List", name := "add", desc := "(Ljava/lang/Object;)Z" } : Jvm.MethodName)) ∈ lw_tbl := lw_at lw_m9 191 rfl
theorem q2458 : (Jvm.Cond.interfaceMethod "java/util/List" "java/util/List" "remove" "(I)Ljava/lang/Object;") ∈ lw_tbl := lw_at lw_m10 174 rfl
theorem q2459 : (Jvm.Cond.declares ({ cls := "java/util/List", name := "remove", desc := "(I)Ljava/lang/Object;" } : Jvm.MethodName)) ∈ lw_tbl := lw_at lw_m10 175 rfl

theorem q1981 : (Jvm.Cond.publicMethod ({ cls := "java/util/Map", name := "put", desc := "(Ljava/lang/Object;Ljava/lang/Object;)Ljava/lang/Object;" } : Jvm.MethodName)) ∈ lw_tbl := lw_at lw_m8 177 rfl
set_option maxRecDepth 100000
theorem q1982 : (Jvm.Cond.declares ({ cls := "java/util/Map", name := "put", desc := "(Ljava/lang/Object;Ljava/lang/Object;)Ljava/lang/Object;" } : Jvm.MethodName)) ∈ lw_tbl := lw_at lw_m8 178 rfl
theorem q2090 : (Jvm.Cond.publicMethod ({ cls := "java/util/Map", name := "size", desc := "()I" } : Jvm.MethodName)) ∈ lw_tbl := lw_at lw_m9 46 rfl
theorem q2091 : (Jvm.Cond.declares ({ cls := "java/util/Map", name := "size", desc := "()I" } : Jvm.MethodName)) ∈ lw_tbl := lw_at lw_m9 47 rfl

theorem q1754 : (Jvm.Cond.interfaceMethod "java/util/NavigableMap" "java/util/NavigableMap" "navigableKeySet" "()Ljava/util/NavigableSet;") ∈ lw_tbl := lw_at lw_m7 190 rfl
set_option maxRecDepth 100000
theorem q1755 : (Jvm.Cond.declares ({ cls := "java/util/NavigableMap", name := "navigableKeySet", desc := "()Ljava/util/NavigableSet;" } : Jvm.MethodName)) ∈ lw_tbl := lw_at lw_m7 191 rfl

theorem q1762 : (Jvm.Cond.interfaceMethod "java/util/NavigableSet" "java/util/NavigableSet" "iterator" "()Ljava/util/Iterator;") ∈ lw_tbl := lw_at lw_m7 198 rfl
set_option maxRecDepth 100000
theorem q1763 : (Jvm.Cond.declares ({ cls := "java/util/NavigableSet", name := "iterator", desc := "()Ljava/util/Iterator;" } : Jvm.MethodName)) ∈ lw_tbl := lw_at lw_m7 199 rfl

theorem q1703 : (Jvm.Cond.interfaceMethod "java/util/Set" "java/util/Set" "iterator" "()Ljava/util/Iterator;") ∈ lw_tbl := lw_at lw_m7 139 rfl
set_option maxRecDepth 100000
theorem q1704 : (Jvm.Cond.declares ({ cls := "java/util/Set", name := "iterator", desc := "()Ljava/util/Iterator;" } : Jvm.MethodName)) ∈ lw_tbl := lw_at lw_m7 140 rfl

theorem q1744 : (Jvm.Cond.declares ({ cls := "java/util/TreeMap$NavigableSubMap", name := "keyIterator", desc := "()Ljava/util/Iterator;" } : Jvm.MethodName)) ∈ lw_tbl := lw_at lw_m7 180 rfl
set_option maxRecDepth 100000
theorem q1745 : (Jvm.Cond.selects "java/util/TreeMap$NavigableSubMap" ({ cls := "java/util/TreeMap$NavigableSubMap", name := "keyIterator", desc := "()Ljava/util/Iterator;" } : Jvm.MethodName) ({ cls := "java/util/TreeMap$NavigableSubMap", name := "keyIterator", desc := "()Ljava/util/Iterator;" } : Jvm.MethodName)) ∈ lw_all := lw_g (lw_at lw_m7 181 rfl) rfl

theorem q3090 : (Jvm.Cond.interfaceMethod "jdk/internal/access/JavaLangAccess" "jdk/internal/access/JavaLangAccess" "getUTF16Char" "([BI)C") ∈ lw_tbl := lw_at lw_m13 86 rfl
set_option maxRecDepth 100000
theorem q3091 : (Jvm.Cond.declares ({ cls := "jdk/internal/access/JavaLangAccess", name := "getUTF16Char", desc := "([BI)C" } : Jvm.MethodName)) ∈ lw_tbl := lw_at lw_m13 87 rfl

theorem q151 : (Jvm.Cond.initialized "jdk/internal/misc/UnsafeConstants") ∈ lw_all := lw_g (lw_at lw_m1 27 rfl) rfl
set_option maxRecDepth 100000
theorem q1097 : (Jvm.Cond.laysStatic "jdk/internal/misc/UnsafeConstants" "BIG_ENDIAN" "Z") ∈ lw_tbl := lw_at lw_m5 13 rfl

theorem q371 : (Jvm.Cond.arrayClass Jvm.ClassFile.FieldType.byte) ∈ lw_all := lw_g (lw_at lw_m2 7 rfl) rfl
set_option maxRecDepth 100000
theorem q775 : (Jvm.Cond.arrayClass Jvm.ClassFile.FieldType.int) ∈ lw_all := lw_g (lw_at lw_m3 171 rfl) rfl
theorem q871 : (Jvm.Cond.arrayOver (Jvm.ClassFile.FieldType.object "java/lang/Object")) ∈ lw_tbl := lw_at lw_m4 27 rfl
theorem q3472 : (Jvm.Cond.arrayClass Jvm.ClassFile.FieldType.long) ∈ lw_all := lw_g (lw_at lw_m14 228 rfl) rfl
theorem q3473 : (Jvm.Cond.arrayClass Jvm.ClassFile.FieldType.char) ∈ lw_all := lw_g (lw_at lw_m14 229 rfl) rfl
theorem q3999 : (Jvm.Cond.arrayClass Jvm.ClassFile.FieldType.double) ∈ lw_all := lw_g (lw_at lw_m17 35 rfl) rfl
theorem q4083 : (Jvm.Cond.arrayClass Jvm.ClassFile.FieldType.short) ∈ lw_all := lw_g (lw_at lw_m17 119 rfl) rfl

/-! the law's own entry -/
set_option maxRecDepth 100000
abbrev cL_law : ByteArray := code
def dkwL_law_113 : List UInt8 := [4, 172]
abbrev dktL_law_113 : List UInt8 := dkwL_law_113 ++ []
def dkwL_law_112 : List UInt8 := [154, 0, 15, 45, 3, 47, 21, 7, 133, 148, 153, 0, 5, 3, 172, 167, 0, 3, 132, 5, 4, 167, 245, 3]
abbrev dktL_law_112 : List UInt8 := dkwL_law_112 ++ dktL_law_113
def dkwL_law_111 : List UInt8 := [184, 1, 97, 54, 6, 44, 182, 1, 99, 54, 7, 44, 182, 0, 161, 21, 6, 159, 0, 5, 3, 172, 21, 6]
abbrev dktL_law_111 : List UInt8 := dkwL_law_111 ++ dktL_law_112
def dkwL_law_110 : List UInt8 := [153, 0, 5, 3, 172, 167, 0, 60, 43, 182, 1, 93, 44, 182, 1, 96, 159, 0, 49, 3, 172, 43, 45]
abbrev dktL_law_110 : List UInt8 := dkwL_law_110 ++ dktL_law_111
def dkwL_law_109 : List UInt8 := [182, 0, 161, 21, 6, 159, 0, 5, 3, 172, 21, 6, 154, 0, 15, 45, 3, 47, 21, 7, 133, 148]
abbrev dktL_law_109 : List UInt8 := dkwL_law_109 ++ dktL_law_110
def dkwL_law_108 : List UInt8 := [153, 0, 5, 3, 172, 167, 0, 104, 43, 45, 184, 1, 90, 54, 6, 44, 182, 1, 92, 54, 7, 44]
abbrev dktL_law_108 : List UInt8 := dkwL_law_108 ++ dktL_law_109
def dkwL_law_107 : List UInt8 := [182, 0, 161, 21, 6, 159, 0, 5, 3, 172, 21, 6, 154, 0, 15, 45, 3, 47, 21, 7, 133, 148]
abbrev dktL_law_107 : List UInt8 := dkwL_law_107 ++ dktL_law_108
def dkwL_law_106 : List UInt8 := [153, 0, 5, 3, 172, 167, 0, 148, 43, 45, 184, 1, 87, 54, 6, 44, 182, 1, 89, 54, 7, 44]
abbrev dktL_law_106 : List UInt8 := dkwL_law_106 ++ dktL_law_107
def dkwL_law_105 : List UInt8 := [182, 0, 161, 21, 6, 159, 0, 5, 3, 172, 21, 6, 154, 0, 15, 45, 3, 47, 21, 7, 133, 148]
abbrev dktL_law_105 : List UInt8 := dkwL_law_105 ++ dktL_law_106
def dkwL_law_104 : List UInt8 := [153, 0, 5, 3, 172, 167, 0, 192, 43, 45, 184, 1, 84, 54, 6, 44, 182, 1, 86, 54, 7, 44]
abbrev dktL_law_104 : List UInt8 := dkwL_law_104 ++ dktL_law_105
def dkwL_law_103 : List UInt8 := [182, 0, 161, 21, 6, 159, 0, 5, 3, 172, 21, 6, 154, 0, 15, 45, 3, 47, 21, 7, 133, 148]
abbrev dktL_law_103 : List UInt8 := dkwL_law_103 ++ dktL_law_104
def dkwL_law_102 : List UInt8 := [153, 0, 5, 3, 172, 167, 0, 236, 43, 45, 184, 1, 81, 54, 6, 44, 182, 1, 83, 54, 7, 44]
abbrev dktL_law_102 : List UInt8 := dkwL_law_102 ++ dktL_law_103
def dkwL_law_101 : List UInt8 := [182, 0, 161, 21, 6, 159, 0, 5, 3, 172, 21, 6, 154, 0, 15, 45, 3, 47, 21, 7, 133, 148]
abbrev dktL_law_101 : List UInt8 := dkwL_law_101 ++ dktL_law_102
def dkwL_law_100 : List UInt8 := [153, 0, 5, 3, 172, 167, 1, 24, 43, 45, 184, 1, 78, 54, 6, 44, 182, 1, 80, 54, 7, 44]
abbrev dktL_law_100 : List UInt8 := dkwL_law_100 ++ dktL_law_101
def dkwL_law_99 : List UInt8 := [182, 0, 161, 21, 6, 159, 0, 5, 3, 172, 21, 6, 154, 0, 15, 45, 3, 47, 21, 7, 133, 148]
abbrev dktL_law_99 : List UInt8 := dkwL_law_99 ++ dktL_law_100
def dkwL_law_98 : List UInt8 := [46, 146, 45, 184, 1, 75, 54, 6, 44, 42, 21, 5, 4, 96, 46, 146, 182, 1, 77, 54, 7, 44]
abbrev dktL_law_98 : List UInt8 := dkwL_law_98 ++ dktL_law_99
def dkwL_law_97 : List UInt8 := [154, 0, 15, 45, 3, 47, 21, 7, 133, 148, 153, 0, 5, 3, 172, 167, 1, 82, 43, 42, 21, 5, 4, 96]
abbrev dktL_law_97 : List UInt8 := dkwL_law_97 ++ dktL_law_98
def dkwL_law_96 : List UInt8 := [21, 5, 4, 96, 46, 182, 1, 74, 54, 7, 44, 182, 0, 161, 21, 6, 159, 0, 5, 3, 172, 21, 6]
abbrev dktL_law_96 : List UInt8 := dkwL_law_96 ++ dktL_law_97
def dkwL_law_95 : List UInt8 := [182, 1, 71, 159, 1, 140, 3, 172, 43, 42, 21, 5, 4, 96, 46, 45, 184, 1, 72, 54, 6, 44, 42]
abbrev dktL_law_95 : List UInt8 := dkwL_law_95 ++ dktL_law_96
def dkwL_law_94 : List UInt8 := [154, 0, 15, 45, 3, 47, 21, 7, 133, 148, 153, 0, 5, 3, 172, 167, 1, 151, 43, 182, 1, 68, 44]
abbrev dktL_law_94 : List UInt8 := dkwL_law_94 ++ dktL_law_95
def dkwL_law_93 : List UInt8 := [21, 5, 4, 96, 46, 182, 1, 67, 54, 7, 44, 182, 0, 161, 21, 6, 159, 0, 5, 3, 172, 21, 6]
abbrev dktL_law_93 : List UInt8 := dkwL_law_93 ++ dktL_law_94
def dkwL_law_92 : List UInt8 := [182, 1, 64, 159, 1, 209, 3, 172, 43, 42, 21, 5, 4, 96, 46, 45, 184, 1, 65, 54, 6, 44, 42]
abbrev dktL_law_92 : List UInt8 := dkwL_law_92 ++ dktL_law_93
def dkwL_law_91 : List UInt8 := [151, 153, 0, 11, 23, 7, 23, 7, 149, 154, 0, 5, 3, 172, 167, 1, 220, 43, 182, 1, 60, 44]
abbrev dktL_law_91 : List UInt8 := dkwL_law_91 ++ dktL_law_92
def dkwL_law_90 : List UInt8 := [21, 6, 154, 0, 36, 25, 4, 3, 49, 23, 7, 141, 151, 153, 0, 25, 25, 4, 3, 49, 25, 4, 3, 49]
abbrev dktL_law_90 : List UInt8 := dkwL_law_90 ++ dktL_law_91
def dkwL_law_89 : List UInt8 := [25, 4, 184, 1, 57, 54, 6, 44, 182, 1, 59, 56, 7, 44, 182, 0, 161, 21, 6, 159, 0, 5, 3, 172]
abbrev dktL_law_89 : List UInt8 := dkwL_law_89 ++ dktL_law_90
def dkwL_law_88 : List UInt8 := [3, 49, 25, 4, 3, 49, 151, 153, 0, 11, 24, 7, 24, 7, 151, 154, 0, 5, 3, 172, 167, 2, 30, 43]
abbrev dktL_law_88 : List UInt8 := dkwL_law_88 ++ dktL_law_89
def dkwL_law_87 : List UInt8 := [21, 6, 159, 0, 5, 3, 172, 21, 6, 154, 0, 35, 25, 4, 3, 49, 24, 7, 151, 153, 0, 25, 25, 4]
abbrev dktL_law_87 : List UInt8 := dkwL_law_87 ++ dktL_law_88
def dkwL_law_86 : List UInt8 := [153, 2, 97, 3, 172, 43, 25, 4, 184, 1, 53, 54, 6, 44, 182, 1, 56, 57, 7, 44, 182, 0, 161]
abbrev dktL_law_86 : List UInt8 := dkwL_law_86 ++ dktL_law_87
def dkwL_law_85 : List UInt8 := [182, 1, 45, 44, 182, 1, 48, 148, 153, 2, 111, 3, 172, 43, 182, 1, 49, 44, 182, 1, 52, 148]
abbrev dktL_law_85 : List UInt8 := dkwL_law_85 ++ dktL_law_86
def dkwL_law_84 : List UInt8 := [182, 1, 40, 159, 2, 139, 3, 172, 43, 182, 1, 41, 44, 182, 1, 44, 148, 153, 2, 125, 3, 172, 43]
abbrev dktL_law_84 : List UInt8 := dkwL_law_84 ++ dktL_law_85
def dkwL_law_83 : List UInt8 := [153, 2, 166, 3, 172, 43, 182, 1, 33, 44, 182, 1, 36, 148, 153, 2, 152, 3, 172, 43, 182, 1, 37, 44]
abbrev dktL_law_83 : List UInt8 := dkwL_law_83 ++ dktL_law_84
def dkwL_law_82 : List UInt8 := [172, 43, 182, 1, 24, 44, 182, 1, 28, 148, 153, 2, 180, 3, 172, 43, 182, 1, 29, 44, 182, 1, 32, 148]
abbrev dktL_law_82 : List UInt8 := dkwL_law_82 ++ dktL_law_83
def dkwL_law_81 : List UInt8 := [182, 1, 16, 44, 182, 1, 19, 159, 2, 207, 3, 172, 43, 182, 1, 20, 44, 182, 1, 23, 159, 2, 194, 3]
abbrev dktL_law_81 : List UInt8 := dkwL_law_81 ++ dktL_law_82
def dkwL_law_80 : List UInt8 := [182, 1, 11, 159, 2, 233, 3, 172, 43, 182, 1, 12, 44, 182, 1, 15, 159, 2, 220, 3, 172, 43]
abbrev dktL_law_80 : List UInt8 := dkwL_law_80 ++ dktL_law_81
def dkwL_law_79 : List UInt8 := [154, 0, 15, 45, 3, 47, 21, 7, 133, 148, 153, 0, 5, 3, 172, 167, 2, 244, 43, 182, 1, 8, 44]
abbrev dktL_law_79 : List UInt8 := dkwL_law_79 ++ dktL_law_80
def dkwL_law_78 : List UInt8 := [21, 5, 4, 96, 46, 182, 1, 7, 54, 7, 44, 182, 0, 161, 21, 6, 159, 0, 5, 3, 172, 21, 6]
abbrev dktL_law_78 : List UInt8 := dkwL_law_78 ++ dktL_law_79
def dkwL_law_77 : List UInt8 := [153, 0, 5, 3, 172, 167, 3, 44, 43, 42, 21, 5, 4, 96, 46, 45, 184, 1, 5, 54, 6, 44, 42]
abbrev dktL_law_77 : List UInt8 := dkwL_law_77 ++ dktL_law_78
def dkwL_law_76 : List UInt8 := [182, 0, 161, 21, 6, 159, 0, 5, 3, 172, 21, 6, 154, 0, 15, 45, 3, 47, 21, 7, 133, 148]
abbrev dktL_law_76 : List UInt8 := dkwL_law_76 ++ dktL_law_77
def dkwL_law_75 : List UInt8 := [184, 1, 2, 54, 6, 44, 42, 21, 5, 4, 96, 46, 42, 21, 5, 5, 96, 46, 182, 1, 4, 54, 7, 44]
abbrev dktL_law_75 : List UInt8 := dkwL_law_75 ++ dktL_law_76
def dkwL_law_74 : List UInt8 := [148, 153, 0, 5, 3, 172, 167, 3, 112, 43, 42, 21, 5, 4, 96, 46, 42, 21, 5, 5, 96, 46, 45]
abbrev dktL_law_74 : List UInt8 := dkwL_law_74 ++ dktL_law_75
def dkwL_law_73 : List UInt8 := [54, 7, 44, 182, 0, 161, 21, 6, 159, 0, 5, 3, 172, 21, 6, 154, 0, 15, 45, 3, 47, 21, 7, 133]
abbrev dktL_law_73 : List UInt8 := dkwL_law_73 ++ dktL_law_74
def dkwL_law_72 : List UInt8 := [46, 45, 184, 0, 255, 54, 6, 44, 42, 21, 5, 4, 96, 46, 42, 21, 5, 5, 96, 46, 182, 1, 1]
abbrev dktL_law_72 : List UInt8 := dkwL_law_72 ++ dktL_law_73
def dkwL_law_71 : List UInt8 := [21, 7, 133, 148, 153, 0, 5, 3, 172, 167, 3, 180, 43, 42, 21, 5, 4, 96, 46, 42, 21, 5, 5, 96]
abbrev dktL_law_71 : List UInt8 := dkwL_law_71 ++ dktL_law_72
def dkwL_law_70 : List UInt8 := [182, 0, 254, 54, 7, 44, 182, 0, 161, 21, 6, 159, 0, 5, 3, 172, 21, 6, 154, 0, 15, 45, 3, 47]
abbrev dktL_law_70 : List UInt8 := dkwL_law_70 ++ dktL_law_71
def dkwL_law_69 : List UInt8 := [167, 3, 236, 43, 42, 21, 5, 4, 96, 46, 45, 184, 0, 252, 54, 6, 44, 42, 21, 5, 4, 96, 46]
abbrev dktL_law_69 : List UInt8 := dkwL_law_69 ++ dktL_law_70
def dkwL_law_68 : List UInt8 := [21, 6, 159, 0, 5, 3, 172, 21, 6, 154, 0, 15, 45, 3, 47, 21, 7, 133, 148, 153, 0, 5, 3, 172]
abbrev dktL_law_68 : List UInt8 := dkwL_law_68 ++ dktL_law_69
def dkwL_law_67 : List UInt8 := [46, 45, 184, 0, 249, 54, 6, 44, 42, 21, 5, 4, 96, 46, 182, 0, 251, 54, 7, 44, 182, 0, 161]
abbrev dktL_law_67 : List UInt8 := dkwL_law_67 ++ dktL_law_68
def dkwL_law_66 : List UInt8 := [154, 0, 15, 45, 3, 47, 21, 7, 133, 148, 153, 0, 5, 3, 172, 167, 4, 36, 43, 42, 21, 5, 4, 96]
abbrev dktL_law_66 : List UInt8 := dkwL_law_66 ++ dktL_law_67
def dkwL_law_65 : List UInt8 := [21, 5, 4, 96, 46, 182, 0, 248, 54, 7, 44, 182, 0, 161, 21, 6, 159, 0, 5, 3, 172, 21, 6]
abbrev dktL_law_65 : List UInt8 := dkwL_law_65 ++ dktL_law_66
def dkwL_law_64 : List UInt8 := [182, 0, 245, 159, 4, 94, 3, 172, 43, 42, 21, 5, 4, 96, 46, 45, 184, 0, 246, 54, 6, 44, 42]
abbrev dktL_law_64 : List UInt8 := dkwL_law_64 ++ dktL_law_65
def dkwL_law_63 : List UInt8 := [154, 0, 15, 45, 3, 47, 21, 7, 133, 148, 153, 0, 5, 3, 172, 167, 4, 105, 43, 182, 0, 242, 44]
abbrev dktL_law_63 : List UInt8 := dkwL_law_63 ++ dktL_law_64
def dkwL_law_62 : List UInt8 := [184, 0, 238, 54, 6, 44, 182, 0, 241, 54, 7, 44, 182, 0, 161, 21, 6, 159, 0, 5, 3, 172, 21, 6]
abbrev dktL_law_62 : List UInt8 := dkwL_law_62 ++ dktL_law_63
def dkwL_law_61 : List UInt8 := [172, 21, 6, 154, 0, 15, 45, 3, 47, 21, 7, 133, 148, 153, 0, 5, 3, 172, 167, 4, 149, 43, 45]
abbrev dktL_law_61 : List UInt8 := dkwL_law_61 ++ dktL_law_62
def dkwL_law_60 : List UInt8 := [54, 6, 44, 42, 21, 5, 4, 96, 46, 182, 0, 237, 54, 7, 44, 182, 0, 161, 21, 6, 159, 0, 5, 3]
abbrev dktL_law_60 : List UInt8 := dkwL_law_60 ++ dktL_law_61
def dkwL_law_59 : List UInt8 := [21, 7, 133, 148, 153, 0, 5, 3, 172, 167, 4, 205, 43, 42, 21, 5, 4, 96, 46, 45, 184, 0, 235]
abbrev dktL_law_59 : List UInt8 := dkwL_law_59 ++ dktL_law_60
def dkwL_law_58 : List UInt8 := [182, 0, 234, 54, 7, 44, 182, 0, 161, 21, 6, 159, 0, 5, 3, 172, 21, 6, 154, 0, 15, 45, 3, 47]
abbrev dktL_law_58 : List UInt8 := dkwL_law_58 ++ dktL_law_59
def dkwL_law_57 : List UInt8 := [167, 5, 5, 43, 42, 21, 5, 4, 96, 46, 45, 184, 0, 232, 54, 6, 44, 42, 21, 5, 4, 96, 46]
abbrev dktL_law_57 : List UInt8 := dkwL_law_57 ++ dktL_law_58
def dkwL_law_56 : List UInt8 := [159, 0, 5, 3, 172, 21, 6, 154, 0, 15, 45, 3, 47, 21, 7, 133, 148, 153, 0, 5, 3, 172]
abbrev dktL_law_56 : List UInt8 := dkwL_law_56 ++ dktL_law_57
def dkwL_law_55 : List UInt8 := [184, 0, 229, 54, 6, 44, 42, 21, 5, 4, 96, 46, 182, 0, 231, 54, 7, 44, 182, 0, 161, 21, 6]
abbrev dktL_law_55 : List UInt8 := dkwL_law_55 ++ dktL_law_56
def dkwL_law_54 : List UInt8 := [167, 5, 74, 43, 182, 0, 225, 44, 182, 0, 228, 159, 5, 63, 3, 172, 43, 42, 21, 5, 4, 96, 46, 45]
abbrev dktL_law_54 : List UInt8 := dkwL_law_54 ++ dktL_law_55
def dkwL_law_53 : List UInt8 := [21, 6, 159, 0, 5, 3, 172, 21, 6, 154, 0, 15, 45, 3, 47, 21, 7, 133, 148, 153, 0, 5, 3, 172]
abbrev dktL_law_53 : List UInt8 := dkwL_law_53 ++ dktL_law_54
def dkwL_law_52 : List UInt8 := [96, 46, 42, 21, 5, 5, 96, 46, 42, 21, 5, 6, 96, 46, 182, 0, 224, 54, 7, 44, 182, 0, 161]
abbrev dktL_law_52 : List UInt8 := dkwL_law_52 ++ dktL_law_53
def dkwL_law_51 : List UInt8 := [46, 42, 21, 5, 5, 96, 46, 42, 21, 5, 6, 96, 46, 45, 184, 0, 222, 54, 6, 44, 42, 21, 5, 4]
abbrev dktL_law_51 : List UInt8 := dkwL_law_51 ++ dktL_law_52
def dkwL_law_50 : List UInt8 := [154, 0, 15, 45, 3, 47, 21, 7, 133, 148, 153, 0, 5, 3, 172, 167, 5, 154, 43, 42, 21, 5, 4, 96]
abbrev dktL_law_50 : List UInt8 := dkwL_law_50 ++ dktL_law_51
def dkwL_law_49 : List UInt8 := [21, 5, 6, 96, 46, 182, 0, 221, 54, 7, 44, 182, 0, 161, 21, 6, 159, 0, 5, 3, 172, 21, 6]
abbrev dktL_law_49 : List UInt8 := dkwL_law_49 ++ dktL_law_50
def dkwL_law_48 : List UInt8 := [6, 96, 46, 45, 184, 0, 219, 54, 6, 44, 42, 21, 5, 4, 96, 46, 42, 21, 5, 5, 96, 46, 42]
abbrev dktL_law_48 : List UInt8 := dkwL_law_48 ++ dktL_law_49
def dkwL_law_47 : List UInt8 := [153, 0, 5, 3, 172, 167, 5, 234, 43, 42, 21, 5, 4, 96, 46, 42, 21, 5, 5, 96, 46, 42, 21, 5]
abbrev dktL_law_47 : List UInt8 := dkwL_law_47 ++ dktL_law_48
def dkwL_law_46 : List UInt8 := [182, 0, 161, 21, 6, 159, 0, 5, 3, 172, 21, 6, 154, 0, 15, 45, 3, 47, 21, 7, 133, 148]
abbrev dktL_law_46 : List UInt8 := dkwL_law_46 ++ dktL_law_47
def dkwL_law_45 : List UInt8 := [42, 21, 5, 4, 96, 46, 42, 21, 5, 5, 96, 46, 42, 21, 5, 6, 96, 46, 182, 0, 218, 54, 7, 44]
abbrev dktL_law_45 : List UInt8 := dkwL_law_45 ++ dktL_law_46
def dkwL_law_44 : List UInt8 := [21, 5, 4, 96, 46, 42, 21, 5, 5, 96, 46, 42, 21, 5, 6, 96, 46, 45, 184, 0, 215, 54, 6, 44]
abbrev dktL_law_44 : List UInt8 := dkwL_law_44 ++ dktL_law_45
def dkwL_law_43 : List UInt8 := [172, 21, 6, 154, 0, 15, 45, 3, 47, 21, 7, 133, 148, 153, 0, 5, 3, 172, 167, 6, 58, 43, 42]
abbrev dktL_law_43 : List UInt8 := dkwL_law_43 ++ dktL_law_44
def dkwL_law_42 : List UInt8 := [54, 6, 44, 42, 21, 5, 4, 96, 46, 182, 0, 214, 54, 7, 44, 182, 0, 161, 21, 6, 159, 0, 5, 3]
abbrev dktL_law_42 : List UInt8 := dkwL_law_42 ++ dktL_law_43
def dkwL_law_41 : List UInt8 := [21, 7, 133, 148, 153, 0, 5, 3, 172, 167, 6, 114, 43, 42, 21, 5, 4, 96, 46, 45, 184, 0, 212]
abbrev dktL_law_41 : List UInt8 := dkwL_law_41 ++ dktL_law_42
def dkwL_law_40 : List UInt8 := [182, 0, 211, 54, 7, 44, 182, 0, 161, 21, 6, 159, 0, 5, 3, 172, 21, 6, 154, 0, 15, 45, 3, 47]
abbrev dktL_law_40 : List UInt8 := dkwL_law_40 ++ dktL_law_41
def dkwL_law_39 : List UInt8 := [167, 6, 170, 43, 42, 21, 5, 4, 96, 46, 45, 184, 0, 209, 54, 6, 44, 42, 21, 5, 4, 96, 46]
abbrev dktL_law_39 : List UInt8 := dkwL_law_39 ++ dktL_law_40
def dkwL_law_38 : List UInt8 := [21, 6, 159, 0, 5, 3, 172, 21, 6, 154, 0, 15, 45, 3, 47, 21, 7, 133, 148, 153, 0, 5, 3, 172]
abbrev dktL_law_38 : List UInt8 := dkwL_law_38 ++ dktL_law_39
def dkwL_law_37 : List UInt8 := [46, 45, 184, 0, 206, 54, 6, 44, 42, 21, 5, 4, 96, 46, 182, 0, 208, 54, 7, 44, 182, 0, 161]
abbrev dktL_law_37 : List UInt8 := dkwL_law_37 ++ dktL_law_38
def dkwL_law_36 : List UInt8 := [154, 0, 15, 45, 3, 47, 21, 7, 133, 148, 153, 0, 5, 3, 172, 167, 6, 226, 43, 42, 21, 5, 4, 96]
abbrev dktL_law_36 : List UInt8 := dkwL_law_36 ++ dktL_law_37
def dkwL_law_35 : List UInt8 := [21, 5, 4, 96, 46, 182, 0, 205, 54, 7, 44, 182, 0, 161, 21, 6, 159, 0, 5, 3, 172, 21, 6]
abbrev dktL_law_35 : List UInt8 := dkwL_law_35 ++ dktL_law_36
def dkwL_law_34 : List UInt8 := [148, 153, 0, 5, 3, 172, 167, 7, 26, 43, 42, 21, 5, 4, 96, 46, 45, 184, 0, 203, 54, 6, 44, 42]
abbrev dktL_law_34 : List UInt8 := dkwL_law_34 ++ dktL_law_35
def dkwL_law_33 : List UInt8 := [54, 7, 44, 182, 0, 161, 21, 6, 159, 0, 5, 3, 172, 21, 6, 154, 0, 15, 45, 3, 47, 21, 7, 133]
abbrev dktL_law_33 : List UInt8 := dkwL_law_33 ++ dktL_law_34
def dkwL_law_32 : List UInt8 := [172, 43, 42, 21, 5, 4, 96, 46, 45, 184, 0, 200, 54, 6, 44, 42, 21, 5, 4, 96, 46, 182, 0, 202]
abbrev dktL_law_32 : List UInt8 := dkwL_law_32 ++ dktL_law_33
def dkwL_law_31 : List UInt8 := [21, 7, 133, 148, 153, 0, 5, 3, 172, 167, 7, 95, 43, 182, 0, 196, 44, 182, 0, 199, 159, 7, 84, 3]
abbrev dktL_law_31 : List UInt8 := dkwL_law_31 ++ dktL_law_32
def dkwL_law_30 : List UInt8 := [182, 0, 195, 54, 7, 44, 182, 0, 161, 21, 6, 159, 0, 5, 3, 172, 21, 6, 154, 0, 15, 45, 3, 47]
abbrev dktL_law_30 : List UInt8 := dkwL_law_30 ++ dktL_law_31
def dkwL_law_29 : List UInt8 := [167, 7, 151, 43, 42, 21, 5, 4, 96, 46, 45, 184, 0, 193, 54, 6, 44, 42, 21, 5, 4, 96, 46]
abbrev dktL_law_29 : List UInt8 := dkwL_law_29 ++ dktL_law_30
def dkwL_law_28 : List UInt8 := [21, 6, 159, 0, 5, 3, 172, 21, 6, 154, 0, 15, 45, 3, 47, 21, 7, 133, 148, 153, 0, 5, 3, 172]
abbrev dktL_law_28 : List UInt8 := dkwL_law_28 ++ dktL_law_29
def dkwL_law_27 : List UInt8 := [46, 45, 184, 0, 190, 54, 6, 44, 42, 21, 5, 4, 96, 46, 182, 0, 192, 54, 7, 44, 182, 0, 161]
abbrev dktL_law_27 : List UInt8 := dkwL_law_27 ++ dktL_law_28
def dkwL_law_26 : List UInt8 := [154, 0, 15, 45, 3, 47, 21, 7, 133, 148, 153, 0, 5, 3, 172, 167, 7, 207, 43, 42, 21, 5, 4, 96]
abbrev dktL_law_26 : List UInt8 := dkwL_law_26 ++ dktL_law_27
def dkwL_law_25 : List UInt8 := [21, 5, 4, 96, 46, 182, 0, 189, 54, 7, 44, 182, 0, 161, 21, 6, 159, 0, 5, 3, 172, 21, 6]
abbrev dktL_law_25 : List UInt8 := dkwL_law_25 ++ dktL_law_26
def dkwL_law_24 : List UInt8 := [153, 0, 5, 3, 172, 167, 8, 7, 43, 42, 21, 5, 4, 96, 46, 45, 184, 0, 187, 54, 6, 44, 42]
abbrev dktL_law_24 : List UInt8 := dkwL_law_24 ++ dktL_law_25
def dkwL_law_23 : List UInt8 := [182, 0, 161, 21, 6, 159, 0, 5, 3, 172, 21, 6, 154, 0, 15, 45, 3, 47, 21, 7, 133, 148]
abbrev dktL_law_23 : List UInt8 := dkwL_law_23 ++ dktL_law_24
def dkwL_law_22 : List UInt8 := [184, 0, 184, 54, 6, 44, 42, 21, 5, 4, 96, 46, 42, 21, 5, 5, 96, 46, 182, 0, 186, 54, 7, 44]
abbrev dktL_law_22 : List UInt8 := dkwL_law_22 ++ dktL_law_23
def dkwL_law_21 : List UInt8 := [148, 153, 0, 5, 3, 172, 167, 8, 75, 43, 42, 21, 5, 4, 96, 46, 42, 21, 5, 5, 96, 46, 45]
abbrev dktL_law_21 : List UInt8 := dkwL_law_21 ++ dktL_law_22
def dkwL_law_20 : List UInt8 := [54, 7, 44, 182, 0, 161, 21, 6, 159, 0, 5, 3, 172, 21, 6, 154, 0, 15, 45, 3, 47, 21, 7, 133]
abbrev dktL_law_20 : List UInt8 := dkwL_law_20 ++ dktL_law_21
def dkwL_law_19 : List UInt8 := [21, 5, 4, 96, 46, 146, 45, 184, 0, 180, 54, 6, 44, 42, 21, 5, 4, 96, 46, 146, 182, 0, 183]
abbrev dktL_law_19 : List UInt8 := dkwL_law_19 ++ dktL_law_20
def dkwL_law_18 : List UInt8 := [172, 21, 6, 154, 0, 15, 45, 3, 47, 21, 7, 133, 148, 153, 0, 5, 3, 172, 167, 8, 133, 43, 42]
abbrev dktL_law_18 : List UInt8 := dkwL_law_18 ++ dktL_law_19
def dkwL_law_17 : List UInt8 := [54, 6, 44, 42, 21, 5, 4, 96, 46, 182, 0, 179, 54, 7, 44, 182, 0, 161, 21, 6, 159, 0, 5, 3]
abbrev dktL_law_17 : List UInt8 := dkwL_law_17 ++ dktL_law_18
def dkwL_law_16 : List UInt8 := [21, 7, 133, 148, 153, 0, 5, 3, 172, 167, 8, 189, 43, 42, 21, 5, 4, 96, 46, 45, 184, 0, 177]
abbrev dktL_law_16 : List UInt8 := dkwL_law_16 ++ dktL_law_17
def dkwL_law_15 : List UInt8 := [182, 0, 176, 54, 7, 44, 182, 0, 161, 21, 6, 159, 0, 5, 3, 172, 21, 6, 154, 0, 15, 45, 3, 47]
abbrev dktL_law_15 : List UInt8 := dkwL_law_15 ++ dktL_law_16
def dkwL_law_14 : List UInt8 := [167, 8, 245, 43, 42, 21, 5, 4, 96, 46, 45, 184, 0, 174, 54, 6, 44, 42, 21, 5, 4, 96, 46]
abbrev dktL_law_14 : List UInt8 := dkwL_law_14 ++ dktL_law_15
def dkwL_law_13 : List UInt8 := [159, 0, 5, 3, 172, 21, 6, 154, 0, 15, 45, 3, 47, 21, 7, 133, 148, 153, 0, 5, 3, 172]
abbrev dktL_law_13 : List UInt8 := dkwL_law_13 ++ dktL_law_14
def dkwL_law_12 : List UInt8 := [21, 5, 4, 96, 46, 42, 21, 5, 5, 96, 46, 182, 0, 173, 54, 7, 44, 182, 0, 161, 21, 6]
abbrev dktL_law_12 : List UInt8 := dkwL_law_12 ++ dktL_law_13
def dkwL_law_11 : List UInt8 := [167, 9, 57, 43, 42, 21, 5, 4, 96, 46, 42, 21, 5, 5, 96, 46, 45, 184, 0, 171, 54, 6, 44, 42]
abbrev dktL_law_11 : List UInt8 := dkwL_law_11 ++ dktL_law_12
def dkwL_law_10 : List UInt8 := [21, 6, 159, 0, 5, 3, 172, 21, 6, 154, 0, 15, 45, 3, 47, 21, 7, 133, 148, 153, 0, 5, 3, 172]
abbrev dktL_law_10 : List UInt8 := dkwL_law_10 ++ dktL_law_11
def dkwL_law_9 : List UInt8 := [46, 45, 184, 0, 167, 54, 6, 44, 42, 21, 5, 4, 96, 46, 182, 0, 170, 54, 7, 44, 182, 0, 161]
abbrev dktL_law_9 : List UInt8 := dkwL_law_9 ++ dktL_law_10
def dkwL_law_8 : List UInt8 := [154, 0, 15, 45, 3, 47, 21, 7, 133, 148, 153, 0, 5, 3, 172, 167, 9, 113, 43, 42, 21, 5, 4, 96]
abbrev dktL_law_8 : List UInt8 := dkwL_law_8 ++ dktL_law_9
def dkwL_law_7 : List UInt8 := [21, 5, 5, 96, 46, 182, 0, 166, 54, 7, 44, 182, 0, 161, 21, 6, 159, 0, 5, 3, 172, 21, 6]
abbrev dktL_law_7 : List UInt8 := dkwL_law_7 ++ dktL_law_8
def dkwL_law_6 : List UInt8 := [4, 96, 46, 42, 21, 5, 5, 96, 46, 45, 184, 0, 164, 54, 6, 44, 42, 21, 5, 4, 96, 46, 42]
abbrev dktL_law_6 : List UInt8 := dkwL_law_6 ++ dktL_law_7
def dkwL_law_5 : List UInt8 := [21, 6, 154, 0, 15, 45, 3, 47, 21, 7, 133, 148, 153, 0, 5, 3, 172, 167, 9, 181, 43, 42, 21, 5]
abbrev dktL_law_5 : List UInt8 := dkwL_law_5 ++ dktL_law_6
def dkwL_law_4 : List UInt8 := [96, 46, 42, 21, 5, 5, 96, 46, 182, 0, 160, 54, 7, 44, 182, 0, 161, 21, 6, 159, 0, 5, 3, 172]
abbrev dktL_law_4 : List UInt8 := dkwL_law_4 ++ dktL_law_5
def dkwL_law_3 : List UInt8 := [43, 42, 21, 5, 4, 96, 46, 42, 21, 5, 5, 96, 46, 45, 184, 0, 155, 54, 6, 44, 42, 21, 5, 4]
abbrev dktL_law_3 : List UInt8 := dkwL_law_3 ++ dktL_law_4
def dkwL_law_2 : List UInt8 := [170, 0, 0, 0, 0, 0, 10, 234, 0, 0, 0, 0, 0, 0, 0, 56, 0, 0, 0, 244, 0, 0, 1, 56, 0, 0, 1, 124, 0, 0, 1, 180, 0, 0, 1, 248, 0, 0, 2, 48, 0, 0, 2, 104, 0, 0, 2, 162, 0, 0, 2, 230, 0, 0, 3, 30, 0, 0, 3, 86, 0, 0, 3, 142, 0, 0, 3, 155, 0, 0, 3, 211, 0, 0, 4, 11, 0, 0, 4, 67, 0, 0, 4, 123, 0, 0, 4, 179, 0, 0, 5, 3, 0, 0, 5, 83, 0, 0, 5, 163, 0, 0, 5, 176, 0, 0, 5, 232, 0, 0, 6, 32, 0, 0, 6, 88, 0, 0, 6, 132, 0, 0, 6, 145, 0, 0, 6, 201, 0, 0, 7, 1, 0, 0, 7, 57, 0, 0, 7, 125, 0, 0, 7, 193, 0, 0, 7, 249, 0, 0, 8, 6, 0, 0, 8, 19, 0, 0, 8, 32, 0, 0, 8, 45, 0, 0, 8, 59, 0, 0, 8, 73, 0, 0, 8, 87, 0, 0, 8, 100, 0, 0, 8, 114, 0, 0, 8, 128, 0, 0, 8, 142, 0, 0, 8, 207, 0, 0, 9, 17, 0, 0, 9, 30, 0, 0, 9, 86, 0, 0, 9, 99, 0, 0, 9, 155, 0, 0, 9, 213, 0, 0, 10, 1, 0, 0, 10, 45, 0, 0, 10, 89, 0, 0, 10, 133, 0, 0, 10, 177, 0, 0, 10, 190]
abbrev dktL_law_2 : List UInt8 := dkwL_law_2 ++ dktL_law_3
def dkwL_law_1 : List UInt8 := [58, 4, 3, 54, 5, 21, 5, 42, 190, 7, 100, 163, 10, 250, 42, 21, 5, 46, 16, 63, 126]
abbrev dktL_law_1 : List UInt8 := dkwL_law_1 ++ dktL_law_2
def dkwL_law_0 : List UInt8 := [187, 0, 8, 89, 183, 0, 151, 76, 187, 0, 152, 89, 183, 0, 154, 77, 4, 188, 11, 78, 4, 188, 7]
abbrev dktL_law_0 : List UInt8 := dkwL_law_0 ++ dktL_law_1
theorem dksL_law_0 : cL_law.data.toList.drop 0 = dktL_law_0 := by decide +kernel
theorem dksL_law_1 : cL_law.data.toList.drop 23 = dktL_law_1 := dk_seg dksL_law_0 23 rfl rfl
theorem dksL_law_2 : cL_law.data.toList.drop 44 = dktL_law_2 := dk_seg dksL_law_1 21 rfl rfl
theorem dksL_law_3 : cL_law.data.toList.drop 288 = dktL_law_3 := dk_seg dksL_law_2 244 rfl rfl
theorem dksL_law_4 : cL_law.data.toList.drop 312 = dktL_law_4 := dk_seg dksL_law_3 24 rfl rfl
theorem dksL_law_5 : cL_law.data.toList.drop 336 = dktL_law_5 := dk_seg dksL_law_4 24 rfl rfl
theorem dksL_law_6 : cL_law.data.toList.drop 360 = dktL_law_6 := dk_seg dksL_law_5 24 rfl rfl
theorem dksL_law_7 : cL_law.data.toList.drop 383 = dktL_law_7 := dk_seg dksL_law_6 23 rfl rfl
theorem dksL_law_8 : cL_law.data.toList.drop 406 = dktL_law_8 := dk_seg dksL_law_7 23 rfl rfl
theorem dksL_law_9 : cL_law.data.toList.drop 430 = dktL_law_9 := dk_seg dksL_law_8 24 rfl rfl
theorem dksL_law_10 : cL_law.data.toList.drop 453 = dktL_law_10 := dk_seg dksL_law_9 23 rfl rfl
theorem dksL_law_11 : cL_law.data.toList.drop 477 = dktL_law_11 := dk_seg dksL_law_10 24 rfl rfl
theorem dksL_law_12 : cL_law.data.toList.drop 501 = dktL_law_12 := dk_seg dksL_law_11 24 rfl rfl
theorem dksL_law_13 : cL_law.data.toList.drop 523 = dktL_law_13 := dk_seg dksL_law_12 22 rfl rfl
theorem dksL_law_14 : cL_law.data.toList.drop 545 = dktL_law_14 := dk_seg dksL_law_13 22 rfl rfl
theorem dksL_law_15 : cL_law.data.toList.drop 568 = dktL_law_15 := dk_seg dksL_law_14 23 rfl rfl
theorem dksL_law_16 : cL_law.data.toList.drop 592 = dktL_law_16 := dk_seg dksL_law_15 24 rfl rfl
theorem dksL_law_17 : cL_law.data.toList.drop 615 = dktL_law_17 := dk_seg dksL_law_16 23 rfl rfl
theorem dksL_law_18 : cL_law.data.toList.drop 639 = dktL_law_18 := dk_seg dksL_law_17 24 rfl rfl
theorem dksL_law_19 : cL_law.data.toList.drop 662 = dktL_law_19 := dk_seg dksL_law_18 23 rfl rfl
theorem dksL_law_20 : cL_law.data.toList.drop 685 = dktL_law_20 := dk_seg dksL_law_19 23 rfl rfl
theorem dksL_law_21 : cL_law.data.toList.drop 709 = dktL_law_21 := dk_seg dksL_law_20 24 rfl rfl
theorem dksL_law_22 : cL_law.data.toList.drop 732 = dktL_law_22 := dk_seg dksL_law_21 23 rfl rfl
theorem dksL_law_23 : cL_law.data.toList.drop 756 = dktL_law_23 := dk_seg dksL_law_22 24 rfl rfl
theorem dksL_law_24 : cL_law.data.toList.drop 778 = dktL_law_24 := dk_seg dksL_law_23 22 rfl rfl
theorem dksL_law_25 : cL_law.data.toList.drop 801 = dktL_law_25 := dk_seg dksL_law_24 23 rfl rfl
theorem dksL_law_26 : cL_law.data.toList.drop 824 = dktL_law_26 := dk_seg dksL_law_25 23 rfl rfl
theorem dksL_law_27 : cL_law.data.toList.drop 848 = dktL_law_27 := dk_seg dksL_law_26 24 rfl rfl
theorem dksL_law_28 : cL_law.data.toList.drop 871 = dktL_law_28 := dk_seg dksL_law_27 23 rfl rfl
theorem dksL_law_29 : cL_law.data.toList.drop 895 = dktL_law_29 := dk_seg dksL_law_28 24 rfl rfl
theorem dksL_law_30 : cL_law.data.toList.drop 918 = dktL_law_30 := dk_seg dksL_law_29 23 rfl rfl
theorem dksL_law_31 : cL_law.data.toList.drop 942 = dktL_law_31 := dk_seg dksL_law_30 24 rfl rfl
theorem dksL_law_32 : cL_law.data.toList.drop 966 = dktL_law_32 := dk_seg dksL_law_31 24 rfl rfl
theorem dksL_law_33 : cL_law.data.toList.drop 990 = dktL_law_33 := dk_seg dksL_law_32 24 rfl rfl
theorem dksL_law_34 : cL_law.data.toList.drop 1014 = dktL_law_34 := dk_seg dksL_law_33 24 rfl rfl
theorem dksL_law_35 : cL_law.data.toList.drop 1038 = dktL_law_35 := dk_seg dksL_law_34 24 rfl rfl
theorem dksL_law_36 : cL_law.data.toList.drop 1061 = dktL_law_36 := dk_seg dksL_law_35 23 rfl rfl
theorem dksL_law_37 : cL_law.data.toList.drop 1085 = dktL_law_37 := dk_seg dksL_law_36 24 rfl rfl
theorem dksL_law_38 : cL_law.data.toList.drop 1108 = dktL_law_38 := dk_seg dksL_law_37 23 rfl rfl
theorem dksL_law_39 : cL_law.data.toList.drop 1132 = dktL_law_39 := dk_seg dksL_law_38 24 rfl rfl
theorem dksL_law_40 : cL_law.data.toList.drop 1155 = dktL_law_40 := dk_seg dksL_law_39 23 rfl rfl
theorem dksL_law_41 : cL_law.data.toList.drop 1179 = dktL_law_41 := dk_seg dksL_law_40 24 rfl rfl
theorem dksL_law_42 : cL_law.data.toList.drop 1202 = dktL_law_42 := dk_seg dksL_law_41 23 rfl rfl
theorem dksL_law_43 : cL_law.data.toList.drop 1226 = dktL_law_43 := dk_seg dksL_law_42 24 rfl rfl
theorem dksL_law_44 : cL_law.data.toList.drop 1249 = dktL_law_44 := dk_seg dksL_law_43 23 rfl rfl
theorem dksL_law_45 : cL_law.data.toList.drop 1273 = dktL_law_45 := dk_seg dksL_law_44 24 rfl rfl
theorem dksL_law_46 : cL_law.data.toList.drop 1297 = dktL_law_46 := dk_seg dksL_law_45 24 rfl rfl
theorem dksL_law_47 : cL_law.data.toList.drop 1319 = dktL_law_47 := dk_seg dksL_law_46 22 rfl rfl
theorem dksL_law_48 : cL_law.data.toList.drop 1343 = dktL_law_48 := dk_seg dksL_law_47 24 rfl rfl
theorem dksL_law_49 : cL_law.data.toList.drop 1366 = dktL_law_49 := dk_seg dksL_law_48 23 rfl rfl
theorem dksL_law_50 : cL_law.data.toList.drop 1389 = dktL_law_50 := dk_seg dksL_law_49 23 rfl rfl
theorem dksL_law_51 : cL_law.data.toList.drop 1413 = dktL_law_51 := dk_seg dksL_law_50 24 rfl rfl
theorem dksL_law_52 : cL_law.data.toList.drop 1437 = dktL_law_52 := dk_seg dksL_law_51 24 rfl rfl
theorem dksL_law_53 : cL_law.data.toList.drop 1460 = dktL_law_53 := dk_seg dksL_law_52 23 rfl rfl
theorem dksL_law_54 : cL_law.data.toList.drop 1484 = dktL_law_54 := dk_seg dksL_law_53 24 rfl rfl
theorem dksL_law_55 : cL_law.data.toList.drop 1508 = dktL_law_55 := dk_seg dksL_law_54 24 rfl rfl
theorem dksL_law_56 : cL_law.data.toList.drop 1531 = dktL_law_56 := dk_seg dksL_law_55 23 rfl rfl
theorem dksL_law_57 : cL_law.data.toList.drop 1553 = dktL_law_57 := dk_seg dksL_law_56 22 rfl rfl
theorem dksL_law_58 : cL_law.data.toList.drop 1576 = dktL_law_58 := dk_seg dksL_law_57 23 rfl rfl
theorem dksL_law_59 : cL_law.data.toList.drop 1600 = dktL_law_59 := dk_seg dksL_law_58 24 rfl rfl
theorem dksL_law_60 : cL_law.data.toList.drop 1623 = dktL_law_60 := dk_seg dksL_law_59 23 rfl rfl
theorem dksL_law_61 : cL_law.data.toList.drop 1647 = dktL_law_61 := dk_seg dksL_law_60 24 rfl rfl
theorem dksL_law_62 : cL_law.data.toList.drop 1670 = dktL_law_62 := dk_seg dksL_law_61 23 rfl rfl
theorem dksL_law_63 : cL_law.data.toList.drop 1694 = dktL_law_63 := dk_seg dksL_law_62 24 rfl rfl
theorem dksL_law_64 : cL_law.data.toList.drop 1717 = dktL_law_64 := dk_seg dksL_law_63 23 rfl rfl
theorem dksL_law_65 : cL_law.data.toList.drop 1740 = dktL_law_65 := dk_seg dksL_law_64 23 rfl rfl
theorem dksL_law_66 : cL_law.data.toList.drop 1763 = dktL_law_66 := dk_seg dksL_law_65 23 rfl rfl
theorem dksL_law_67 : cL_law.data.toList.drop 1787 = dktL_law_67 := dk_seg dksL_law_66 24 rfl rfl
theorem dksL_law_68 : cL_law.data.toList.drop 1810 = dktL_law_68 := dk_seg dksL_law_67 23 rfl rfl
theorem dksL_law_69 : cL_law.data.toList.drop 1834 = dktL_law_69 := dk_seg dksL_law_68 24 rfl rfl
theorem dksL_law_70 : cL_law.data.toList.drop 1857 = dktL_law_70 := dk_seg dksL_law_69 23 rfl rfl
theorem dksL_law_71 : cL_law.data.toList.drop 1881 = dktL_law_71 := dk_seg dksL_law_70 24 rfl rfl
theorem dksL_law_72 : cL_law.data.toList.drop 1905 = dktL_law_72 := dk_seg dksL_law_71 24 rfl rfl
theorem dksL_law_73 : cL_law.data.toList.drop 1928 = dktL_law_73 := dk_seg dksL_law_72 23 rfl rfl
theorem dksL_law_74 : cL_law.data.toList.drop 1952 = dktL_law_74 := dk_seg dksL_law_73 24 rfl rfl
theorem dksL_law_75 : cL_law.data.toList.drop 1975 = dktL_law_75 := dk_seg dksL_law_74 23 rfl rfl
theorem dksL_law_76 : cL_law.data.toList.drop 1999 = dktL_law_76 := dk_seg dksL_law_75 24 rfl rfl
theorem dksL_law_77 : cL_law.data.toList.drop 2021 = dktL_law_77 := dk_seg dksL_law_76 22 rfl rfl
theorem dksL_law_78 : cL_law.data.toList.drop 2044 = dktL_law_78 := dk_seg dksL_law_77 23 rfl rfl
theorem dksL_law_79 : cL_law.data.toList.drop 2067 = dktL_law_79 := dk_seg dksL_law_78 23 rfl rfl
theorem dksL_law_80 : cL_law.data.toList.drop 2090 = dktL_law_80 := dk_seg dksL_law_79 23 rfl rfl
theorem dksL_law_81 : cL_law.data.toList.drop 2112 = dktL_law_81 := dk_seg dksL_law_80 22 rfl rfl
theorem dksL_law_82 : cL_law.data.toList.drop 2136 = dktL_law_82 := dk_seg dksL_law_81 24 rfl rfl
theorem dksL_law_83 : cL_law.data.toList.drop 2160 = dktL_law_83 := dk_seg dksL_law_82 24 rfl rfl
theorem dksL_law_84 : cL_law.data.toList.drop 2184 = dktL_law_84 := dk_seg dksL_law_83 24 rfl rfl
theorem dksL_law_85 : cL_law.data.toList.drop 2207 = dktL_law_85 := dk_seg dksL_law_84 23 rfl rfl
theorem dksL_law_86 : cL_law.data.toList.drop 2229 = dktL_law_86 := dk_seg dksL_law_85 22 rfl rfl
theorem dksL_law_87 : cL_law.data.toList.drop 2252 = dktL_law_87 := dk_seg dksL_law_86 23 rfl rfl
theorem dksL_law_88 : cL_law.data.toList.drop 2276 = dktL_law_88 := dk_seg dksL_law_87 24 rfl rfl
theorem dksL_law_89 : cL_law.data.toList.drop 2300 = dktL_law_89 := dk_seg dksL_law_88 24 rfl rfl
theorem dksL_law_90 : cL_law.data.toList.drop 2324 = dktL_law_90 := dk_seg dksL_law_89 24 rfl rfl
theorem dksL_law_91 : cL_law.data.toList.drop 2348 = dktL_law_91 := dk_seg dksL_law_90 24 rfl rfl
theorem dksL_law_92 : cL_law.data.toList.drop 2370 = dktL_law_92 := dk_seg dksL_law_91 22 rfl rfl
theorem dksL_law_93 : cL_law.data.toList.drop 2393 = dktL_law_93 := dk_seg dksL_law_92 23 rfl rfl
theorem dksL_law_94 : cL_law.data.toList.drop 2416 = dktL_law_94 := dk_seg dksL_law_93 23 rfl rfl
theorem dksL_law_95 : cL_law.data.toList.drop 2439 = dktL_law_95 := dk_seg dksL_law_94 23 rfl rfl
theorem dksL_law_96 : cL_law.data.toList.drop 2462 = dktL_law_96 := dk_seg dksL_law_95 23 rfl rfl
theorem dksL_law_97 : cL_law.data.toList.drop 2485 = dktL_law_97 := dk_seg dksL_law_96 23 rfl rfl
theorem dksL_law_98 : cL_law.data.toList.drop 2509 = dktL_law_98 := dk_seg dksL_law_97 24 rfl rfl
theorem dksL_law_99 : cL_law.data.toList.drop 2531 = dktL_law_99 := dk_seg dksL_law_98 22 rfl rfl
theorem dksL_law_100 : cL_law.data.toList.drop 2553 = dktL_law_100 := dk_seg dksL_law_99 22 rfl rfl
theorem dksL_law_101 : cL_law.data.toList.drop 2575 = dktL_law_101 := dk_seg dksL_law_100 22 rfl rfl
theorem dksL_law_102 : cL_law.data.toList.drop 2597 = dktL_law_102 := dk_seg dksL_law_101 22 rfl rfl
theorem dksL_law_103 : cL_law.data.toList.drop 2619 = dktL_law_103 := dk_seg dksL_law_102 22 rfl rfl
theorem dksL_law_104 : cL_law.data.toList.drop 2641 = dktL_law_104 := dk_seg dksL_law_103 22 rfl rfl
theorem dksL_law_105 : cL_law.data.toList.drop 2663 = dktL_law_105 := dk_seg dksL_law_104 22 rfl rfl
theorem dksL_law_106 : cL_law.data.toList.drop 2685 = dktL_law_106 := dk_seg dksL_law_105 22 rfl rfl
theorem dksL_law_107 : cL_law.data.toList.drop 2707 = dktL_law_107 := dk_seg dksL_law_106 22 rfl rfl
theorem dksL_law_108 : cL_law.data.toList.drop 2729 = dktL_law_108 := dk_seg dksL_law_107 22 rfl rfl
theorem dksL_law_109 : cL_law.data.toList.drop 2751 = dktL_law_109 := dk_seg dksL_law_108 22 rfl rfl
theorem dksL_law_110 : cL_law.data.toList.drop 2773 = dktL_law_110 := dk_seg dksL_law_109 22 rfl rfl
theorem dksL_law_111 : cL_law.data.toList.drop 2796 = dktL_law_111 := dk_seg dksL_law_110 23 rfl rfl
theorem dksL_law_112 : cL_law.data.toList.drop 2820 = dktL_law_112 := dk_seg dksL_law_111 24 rfl rfl
theorem dksL_law_113 : cL_law.data.toList.drop 2844 = dktL_law_113 := dk_seg dksL_law_112 24 rfl rfl
theorem dL_law_0 : decode cL_law 0 = .ok (.new 8, 3) := dk_187 0 8 (dk_at dksL_law_0 0 rfl rfl)
theorem dL_law_3 : decode cL_law 3 = .ok (.dup, 1) := dk_89 (dk_at dksL_law_0 3 rfl rfl)
theorem dL_law_4 : decode cL_law 4 = .ok (.invokespecial 151, 3) := dk_183 0 151 (dk_at dksL_law_0 4 rfl rfl)
theorem dL_law_7 : decode cL_law 7 = .ok (.astore_n 1, 1) := dk_76 (dk_at dksL_law_0 7 rfl rfl)
theorem dL_law_8 : decode cL_law 8 = .ok (.new 152, 3) := dk_187 0 152 (dk_at dksL_law_0 8 rfl rfl)
theorem dL_law_11 : decode cL_law 11 = .ok (.dup, 1) := dk_89 (dk_at dksL_law_0 11 rfl rfl)
theorem dL_law_12 : decode cL_law 12 = .ok (.invokespecial 154, 3) := dk_183 0 154 (dk_at dksL_law_0 12 rfl rfl)
theorem dL_law_15 : decode cL_law 15 = .ok (.astore_n 2, 1) := dk_77 (dk_at dksL_law_0 15 rfl rfl)
theorem dL_law_16 : decode cL_law 16 = .ok (.iconst 1, 1) := dk_4 (dk_at dksL_law_0 16 rfl rfl)
theorem dL_law_17 : decode cL_law 17 = .ok (.newarray .long, 2) := dk_188_11 (dk_at dksL_law_0 17 rfl rfl)
theorem dL_law_19 : decode cL_law 19 = .ok (.astore_n 3, 1) := dk_78 (dk_at dksL_law_0 19 rfl rfl)
theorem dL_law_20 : decode cL_law 20 = .ok (.iconst 1, 1) := dk_4 (dk_at dksL_law_0 20 rfl rfl)
theorem dL_law_21 : decode cL_law 21 = .ok (.newarray .double, 2) := dk_188_7 (dk_at dksL_law_0 21 rfl rfl)
theorem dL_law_23 : decode cL_law 23 = .ok (.astore 4, 2) := dk_58 4 (dk_at dksL_law_1 0 rfl rfl)
theorem dL_law_25 : decode cL_law 25 = .ok (.iconst 0, 1) := dk_3 (dk_at dksL_law_1 2 rfl rfl)
theorem dL_law_26 : decode cL_law 26 = .ok (.istore 5, 2) := dk_54 5 (dk_at dksL_law_1 3 rfl rfl)
theorem dL_law_28 : decode cL_law 28 = .ok (.iload 5, 2) := dk_21 5 (dk_at dksL_law_1 5 rfl rfl)
theorem dL_law_30 : decode cL_law 30 = .ok (.aload_n 0, 1) := dk_42 (dk_at dksL_law_1 7 rfl rfl)
theorem dL_law_31 : decode cL_law 31 = .ok (.arraylength, 1) := dk_190 (dk_at dksL_law_1 8 rfl rfl)
theorem dL_law_32 : decode cL_law 32 = .ok (.iconst 4, 1) := dk_7 (dk_at dksL_law_1 9 rfl rfl)
theorem dL_law_33 : decode cL_law 33 = .ok (.isub, 1) := dk_100 (dk_at dksL_law_1 10 rfl rfl)
theorem dL_law_34 : decode cL_law 34 = .ok (.if_icmp .gt 2810, 3) := dk_163 10 250 (dk_at dksL_law_1 11 rfl rfl)
theorem dL_law_37 : decode cL_law 37 = .ok (.aload_n 0, 1) := dk_42 (dk_at dksL_law_1 14 rfl rfl)
theorem dL_law_38 : decode cL_law 38 = .ok (.iload 5, 2) := dk_21 5 (dk_at dksL_law_1 15 rfl rfl)
theorem dL_law_40 : decode cL_law 40 = .ok (.iaload, 1) := dk_46 (dk_at dksL_law_1 17 rfl rfl)
theorem dL_law_41 : decode cL_law 41 = .ok (.bipush 63, 2) := dk_16 63 (dk_at dksL_law_1 18 rfl rfl)
theorem dL_law_43 : decode cL_law 43 = .ok (.iand, 1) := dk_126 (dk_at dksL_law_1 20 rfl rfl)
theorem dL_law_44 : decode cL_law 44 = .ok (.tableswitch 2794 0 56 #[244, 312, 380, 436, 504, 560, 616, 674, 742, 798, 854, 910, 923, 979, 1035, 1091, 1147, 1203, 1283, 1363, 1443, 1456, 1512, 1568, 1624, 1668, 1681, 1737, 1793, 1849, 1917, 1985, 2041, 2054, 2067, 2080, 2093, 2107, 2121, 2135, 2148, 2162, 2176, 2190, 2255, 2321, 2334, 2390, 2403, 2459, 2517, 2561, 2605, 2649, 2693, 2737, 2750], 244) := by decide +kernel
theorem dL_law_288 : decode cL_law 288 = .ok (.aload_n 1, 1) := dk_43 (dk_at dksL_law_3 0 rfl rfl)
theorem dL_law_289 : decode cL_law 289 = .ok (.aload_n 0, 1) := dk_42 (dk_at dksL_law_3 1 rfl rfl)
theorem dL_law_290 : decode cL_law 290 = .ok (.iload 5, 2) := dk_21 5 (dk_at dksL_law_3 2 rfl rfl)
theorem dL_law_292 : decode cL_law 292 = .ok (.iconst 1, 1) := dk_4 (dk_at dksL_law_3 4 rfl rfl)
theorem dL_law_293 : decode cL_law 293 = .ok (.iadd, 1) := dk_96 (dk_at dksL_law_3 5 rfl rfl)
theorem dL_law_294 : decode cL_law 294 = .ok (.iaload, 1) := dk_46 (dk_at dksL_law_3 6 rfl rfl)
theorem dL_law_295 : decode cL_law 295 = .ok (.aload_n 0, 1) := dk_42 (dk_at dksL_law_3 7 rfl rfl)
theorem dL_law_296 : decode cL_law 296 = .ok (.iload 5, 2) := dk_21 5 (dk_at dksL_law_3 8 rfl rfl)
theorem dL_law_298 : decode cL_law 298 = .ok (.iconst 2, 1) := dk_5 (dk_at dksL_law_3 10 rfl rfl)
theorem dL_law_299 : decode cL_law 299 = .ok (.iadd, 1) := dk_96 (dk_at dksL_law_3 11 rfl rfl)
theorem dL_law_300 : decode cL_law 300 = .ok (.iaload, 1) := dk_46 (dk_at dksL_law_3 12 rfl rfl)
theorem dL_law_301 : decode cL_law 301 = .ok (.aload_n 3, 1) := dk_45 (dk_at dksL_law_3 13 rfl rfl)
theorem dL_law_302 : decode cL_law 302 = .ok (.invokestatic 155, 3) := dk_184 0 155 (dk_at dksL_law_3 14 rfl rfl)
theorem dL_law_305 : decode cL_law 305 = .ok (.istore 6, 2) := dk_54 6 (dk_at dksL_law_3 17 rfl rfl)
theorem dL_law_307 : decode cL_law 307 = .ok (.aload_n 2, 1) := dk_44 (dk_at dksL_law_3 19 rfl rfl)
theorem dL_law_308 : decode cL_law 308 = .ok (.aload_n 0, 1) := dk_42 (dk_at dksL_law_3 20 rfl rfl)
theorem dL_law_309 : decode cL_law 309 = .ok (.iload 5, 2) := dk_21 5 (dk_at dksL_law_3 21 rfl rfl)
theorem dL_law_311 : decode cL_law 311 = .ok (.iconst 1, 1) := dk_4 (dk_at dksL_law_3 23 rfl rfl)
theorem dL_law_312 : decode cL_law 312 = .ok (.iadd, 1) := dk_96 (dk_at dksL_law_4 0 rfl rfl)
theorem dL_law_313 : decode cL_law 313 = .ok (.iaload, 1) := dk_46 (dk_at dksL_law_4 1 rfl rfl)
theorem dL_law_314 : decode cL_law 314 = .ok (.aload_n 0, 1) := dk_42 (dk_at dksL_law_4 2 rfl rfl)
theorem dL_law_315 : decode cL_law 315 = .ok (.iload 5, 2) := dk_21 5 (dk_at dksL_law_4 3 rfl rfl)
theorem dL_law_317 : decode cL_law 317 = .ok (.iconst 2, 1) := dk_5 (dk_at dksL_law_4 5 rfl rfl)
theorem dL_law_318 : decode cL_law 318 = .ok (.iadd, 1) := dk_96 (dk_at dksL_law_4 6 rfl rfl)
theorem dL_law_319 : decode cL_law 319 = .ok (.iaload, 1) := dk_46 (dk_at dksL_law_4 7 rfl rfl)
theorem dL_law_320 : decode cL_law 320 = .ok (.invokevirtual 160, 3) := dk_182 0 160 (dk_at dksL_law_4 8 rfl rfl)
theorem dL_law_323 : decode cL_law 323 = .ok (.istore 7, 2) := dk_54 7 (dk_at dksL_law_4 11 rfl rfl)
theorem dL_law_325 : decode cL_law 325 = .ok (.aload_n 2, 1) := dk_44 (dk_at dksL_law_4 13 rfl rfl)
theorem dL_law_326 : decode cL_law 326 = .ok (.invokevirtual 161, 3) := dk_182 0 161 (dk_at dksL_law_4 14 rfl rfl)
theorem dL_law_329 : decode cL_law 329 = .ok (.iload 6, 2) := dk_21 6 (dk_at dksL_law_4 17 rfl rfl)
theorem dL_law_331 : decode cL_law 331 = .ok (.if_icmp .eq 5, 3) := dk_159 0 5 (dk_at dksL_law_4 19 rfl rfl)
theorem dL_law_334 : decode cL_law 334 = .ok (.iconst 0, 1) := dk_3 (dk_at dksL_law_4 22 rfl rfl)
theorem dL_law_335 : decode cL_law 335 = .ok (.ireturn, 1) := dk_172 (dk_at dksL_law_4 23 rfl rfl)
theorem dL_law_336 : decode cL_law 336 = .ok (.iload 6, 2) := dk_21 6 (dk_at dksL_law_5 0 rfl rfl)
theorem dL_law_338 : decode cL_law 338 = .ok (.ifCond .ne 15, 3) := dk_154 0 15 (dk_at dksL_law_5 2 rfl rfl)
theorem dL_law_341 : decode cL_law 341 = .ok (.aload_n 3, 1) := dk_45 (dk_at dksL_law_5 5 rfl rfl)
theorem dL_law_342 : decode cL_law 342 = .ok (.iconst 0, 1) := dk_3 (dk_at dksL_law_5 6 rfl rfl)
theorem dL_law_343 : decode cL_law 343 = .ok (.laload, 1) := dk_47 (dk_at dksL_law_5 7 rfl rfl)
theorem dL_law_344 : decode cL_law 344 = .ok (.iload 7, 2) := dk_21 7 (dk_at dksL_law_5 8 rfl rfl)
theorem dL_law_346 : decode cL_law 346 = .ok (.i2l, 1) := dk_133 (dk_at dksL_law_5 10 rfl rfl)
theorem dL_law_347 : decode cL_law 347 = .ok (.lcmp, 1) := dk_148 (dk_at dksL_law_5 11 rfl rfl)
theorem dL_law_348 : decode cL_law 348 = .ok (.ifCond .eq 5, 3) := dk_153 0 5 (dk_at dksL_law_5 12 rfl rfl)
theorem dL_law_351 : decode cL_law 351 = .ok (.iconst 0, 1) := dk_3 (dk_at dksL_law_5 15 rfl rfl)
theorem dL_law_352 : decode cL_law 352 = .ok (.ireturn, 1) := dk_172 (dk_at dksL_law_5 16 rfl rfl)
theorem dL_law_353 : decode cL_law 353 = .ok (.goto 2485, 3) := dk_167 9 181 (dk_at dksL_law_5 17 rfl rfl)
theorem dL_law_356 : decode cL_law 356 = .ok (.aload_n 1, 1) := dk_43 (dk_at dksL_law_5 20 rfl rfl)
theorem dL_law_357 : decode cL_law 357 = .ok (.aload_n 0, 1) := dk_42 (dk_at dksL_law_5 21 rfl rfl)
theorem dL_law_358 : decode cL_law 358 = .ok (.iload 5, 2) := dk_21 5 (dk_at dksL_law_5 22 rfl rfl)
theorem dL_law_360 : decode cL_law 360 = .ok (.iconst 1, 1) := dk_4 (dk_at dksL_law_6 0 rfl rfl)
theorem dL_law_361 : decode cL_law 361 = .ok (.iadd, 1) := dk_96 (dk_at dksL_law_6 1 rfl rfl)
theorem dL_law_362 : decode cL_law 362 = .ok (.iaload, 1) := dk_46 (dk_at dksL_law_6 2 rfl rfl)
theorem dL_law_363 : decode cL_law 363 = .ok (.aload_n 0, 1) := dk_42 (dk_at dksL_law_6 3 rfl rfl)
theorem dL_law_364 : decode cL_law 364 = .ok (.iload 5, 2) := dk_21 5 (dk_at dksL_law_6 4 rfl rfl)
theorem dL_law_366 : decode cL_law 366 = .ok (.iconst 2, 1) := dk_5 (dk_at dksL_law_6 6 rfl rfl)
theorem dL_law_367 : decode cL_law 367 = .ok (.iadd, 1) := dk_96 (dk_at dksL_law_6 7 rfl rfl)
theorem dL_law_368 : decode cL_law 368 = .ok (.iaload, 1) := dk_46 (dk_at dksL_law_6 8 rfl rfl)
theorem dL_law_369 : decode cL_law 369 = .ok (.aload_n 3, 1) := dk_45 (dk_at dksL_law_6 9 rfl rfl)
theorem dL_law_370 : decode cL_law 370 = .ok (.invokestatic 164, 3) := dk_184 0 164 (dk_at dksL_law_6 10 rfl rfl)
theorem dL_law_373 : decode cL_law 373 = .ok (.istore 6, 2) := dk_54 6 (dk_at dksL_law_6 13 rfl rfl)
theorem dL_law_375 : decode cL_law 375 = .ok (.aload_n 2, 1) := dk_44 (dk_at dksL_law_6 15 rfl rfl)
theorem dL_law_376 : decode cL_law 376 = .ok (.aload_n 0, 1) := dk_42 (dk_at dksL_law_6 16 rfl rfl)
theorem dL_law_377 : decode cL_law 377 = .ok (.iload 5, 2) := dk_21 5 (dk_at dksL_law_6 17 rfl rfl)
theorem dL_law_379 : decode cL_law 379 = .ok (.iconst 1, 1) := dk_4 (dk_at dksL_law_6 19 rfl rfl)
theorem dL_law_380 : decode cL_law 380 = .ok (.iadd, 1) := dk_96 (dk_at dksL_law_6 20 rfl rfl)
theorem dL_law_381 : decode cL_law 381 = .ok (.iaload, 1) := dk_46 (dk_at dksL_law_6 21 rfl rfl)
theorem dL_law_382 : decode cL_law 382 = .ok (.aload_n 0, 1) := dk_42 (dk_at dksL_law_6 22 rfl rfl)
theorem dL_law_383 : decode cL_law 383 = .ok (.iload 5, 2) := dk_21 5 (dk_at dksL_law_7 0 rfl rfl)
theorem dL_law_385 : decode cL_law 385 = .ok (.iconst 2, 1) := dk_5 (dk_at dksL_law_7 2 rfl rfl)
theorem dL_law_386 : decode cL_law 386 = .ok (.iadd, 1) := dk_96 (dk_at dksL_law_7 3 rfl rfl)
theorem dL_law_387 : decode cL_law 387 = .ok (.iaload, 1) := dk_46 (dk_at dksL_law_7 4 rfl rfl)
theorem dL_law_388 : decode cL_law 388 = .ok (.invokevirtual 166, 3) := dk_182 0 166 (dk_at dksL_law_7 5 rfl rfl)
theorem dL_law_391 : decode cL_law 391 = .ok (.istore 7, 2) := dk_54 7 (dk_at dksL_law_7 8 rfl rfl)
theorem dL_law_393 : decode cL_law 393 = .ok (.aload_n 2, 1) := dk_44 (dk_at dksL_law_7 10 rfl rfl)
theorem dL_law_394 : decode cL_law 394 = .ok (.invokevirtual 161, 3) := dk_182 0 161 (dk_at dksL_law_7 11 rfl rfl)
theorem dL_law_397 : decode cL_law 397 = .ok (.iload 6, 2) := dk_21 6 (dk_at dksL_law_7 14 rfl rfl)
theorem dL_law_399 : decode cL_law 399 = .ok (.if_icmp .eq 5, 3) := dk_159 0 5 (dk_at dksL_law_7 16 rfl rfl)
theorem dL_law_402 : decode cL_law 402 = .ok (.iconst 0, 1) := dk_3 (dk_at dksL_law_7 19 rfl rfl)
theorem dL_law_403 : decode cL_law 403 = .ok (.ireturn, 1) := dk_172 (dk_at dksL_law_7 20 rfl rfl)
theorem dL_law_404 : decode cL_law 404 = .ok (.iload 6, 2) := dk_21 6 (dk_at dksL_law_7 21 rfl rfl)
theorem dL_law_406 : decode cL_law 406 = .ok (.ifCond .ne 15, 3) := dk_154 0 15 (dk_at dksL_law_8 0 rfl rfl)
theorem dL_law_409 : decode cL_law 409 = .ok (.aload_n 3, 1) := dk_45 (dk_at dksL_law_8 3 rfl rfl)
theorem dL_law_410 : decode cL_law 410 = .ok (.iconst 0, 1) := dk_3 (dk_at dksL_law_8 4 rfl rfl)
theorem dL_law_411 : decode cL_law 411 = .ok (.laload, 1) := dk_47 (dk_at dksL_law_8 5 rfl rfl)
theorem dL_law_412 : decode cL_law 412 = .ok (.iload 7, 2) := dk_21 7 (dk_at dksL_law_8 6 rfl rfl)
theorem dL_law_414 : decode cL_law 414 = .ok (.i2l, 1) := dk_133 (dk_at dksL_law_8 8 rfl rfl)
theorem dL_law_415 : decode cL_law 415 = .ok (.lcmp, 1) := dk_148 (dk_at dksL_law_8 9 rfl rfl)
theorem dL_law_416 : decode cL_law 416 = .ok (.ifCond .eq 5, 3) := dk_153 0 5 (dk_at dksL_law_8 10 rfl rfl)
theorem dL_law_419 : decode cL_law 419 = .ok (.iconst 0, 1) := dk_3 (dk_at dksL_law_8 13 rfl rfl)
theorem dL_law_420 : decode cL_law 420 = .ok (.ireturn, 1) := dk_172 (dk_at dksL_law_8 14 rfl rfl)
theorem dL_law_421 : decode cL_law 421 = .ok (.goto 2417, 3) := dk_167 9 113 (dk_at dksL_law_8 15 rfl rfl)
theorem dL_law_424 : decode cL_law 424 = .ok (.aload_n 1, 1) := dk_43 (dk_at dksL_law_8 18 rfl rfl)
theorem dL_law_425 : decode cL_law 425 = .ok (.aload_n 0, 1) := dk_42 (dk_at dksL_law_8 19 rfl rfl)
theorem dL_law_426 : decode cL_law 426 = .ok (.iload 5, 2) := dk_21 5 (dk_at dksL_law_8 20 rfl rfl)
theorem dL_law_428 : decode cL_law 428 = .ok (.iconst 1, 1) := dk_4 (dk_at dksL_law_8 22 rfl rfl)
theorem dL_law_429 : decode cL_law 429 = .ok (.iadd, 1) := dk_96 (dk_at dksL_law_8 23 rfl rfl)
theorem dL_law_430 : decode cL_law 430 = .ok (.iaload, 1) := dk_46 (dk_at dksL_law_9 0 rfl rfl)
theorem dL_law_431 : decode cL_law 431 = .ok (.aload_n 3, 1) := dk_45 (dk_at dksL_law_9 1 rfl rfl)
theorem dL_law_432 : decode cL_law 432 = .ok (.invokestatic 167, 3) := dk_184 0 167 (dk_at dksL_law_9 2 rfl rfl)
theorem dL_law_435 : decode cL_law 435 = .ok (.istore 6, 2) := dk_54 6 (dk_at dksL_law_9 5 rfl rfl)
theorem dL_law_437 : decode cL_law 437 = .ok (.aload_n 2, 1) := dk_44 (dk_at dksL_law_9 7 rfl rfl)
theorem dL_law_438 : decode cL_law 438 = .ok (.aload_n 0, 1) := dk_42 (dk_at dksL_law_9 8 rfl rfl)
theorem dL_law_439 : decode cL_law 439 = .ok (.iload 5, 2) := dk_21 5 (dk_at dksL_law_9 9 rfl rfl)
theorem dL_law_441 : decode cL_law 441 = .ok (.iconst 1, 1) := dk_4 (dk_at dksL_law_9 11 rfl rfl)
theorem dL_law_442 : decode cL_law 442 = .ok (.iadd, 1) := dk_96 (dk_at dksL_law_9 12 rfl rfl)
theorem dL_law_443 : decode cL_law 443 = .ok (.iaload, 1) := dk_46 (dk_at dksL_law_9 13 rfl rfl)
theorem dL_law_444 : decode cL_law 444 = .ok (.invokevirtual 170, 3) := dk_182 0 170 (dk_at dksL_law_9 14 rfl rfl)
theorem dL_law_447 : decode cL_law 447 = .ok (.istore 7, 2) := dk_54 7 (dk_at dksL_law_9 17 rfl rfl)
theorem dL_law_449 : decode cL_law 449 = .ok (.aload_n 2, 1) := dk_44 (dk_at dksL_law_9 19 rfl rfl)
theorem dL_law_450 : decode cL_law 450 = .ok (.invokevirtual 161, 3) := dk_182 0 161 (dk_at dksL_law_9 20 rfl rfl)
theorem dL_law_453 : decode cL_law 453 = .ok (.iload 6, 2) := dk_21 6 (dk_at dksL_law_10 0 rfl rfl)
theorem dL_law_455 : decode cL_law 455 = .ok (.if_icmp .eq 5, 3) := dk_159 0 5 (dk_at dksL_law_10 2 rfl rfl)
theorem dL_law_458 : decode cL_law 458 = .ok (.iconst 0, 1) := dk_3 (dk_at dksL_law_10 5 rfl rfl)
theorem dL_law_459 : decode cL_law 459 = .ok (.ireturn, 1) := dk_172 (dk_at dksL_law_10 6 rfl rfl)
theorem dL_law_460 : decode cL_law 460 = .ok (.iload 6, 2) := dk_21 6 (dk_at dksL_law_10 7 rfl rfl)
theorem dL_law_462 : decode cL_law 462 = .ok (.ifCond .ne 15, 3) := dk_154 0 15 (dk_at dksL_law_10 9 rfl rfl)
theorem dL_law_465 : decode cL_law 465 = .ok (.aload_n 3, 1) := dk_45 (dk_at dksL_law_10 12 rfl rfl)
theorem dL_law_466 : decode cL_law 466 = .ok (.iconst 0, 1) := dk_3 (dk_at dksL_law_10 13 rfl rfl)
theorem dL_law_467 : decode cL_law 467 = .ok (.laload, 1) := dk_47 (dk_at dksL_law_10 14 rfl rfl)
theorem dL_law_468 : decode cL_law 468 = .ok (.iload 7, 2) := dk_21 7 (dk_at dksL_law_10 15 rfl rfl)
theorem dL_law_470 : decode cL_law 470 = .ok (.i2l, 1) := dk_133 (dk_at dksL_law_10 17 rfl rfl)
theorem dL_law_471 : decode cL_law 471 = .ok (.lcmp, 1) := dk_148 (dk_at dksL_law_10 18 rfl rfl)
theorem dL_law_472 : decode cL_law 472 = .ok (.ifCond .eq 5, 3) := dk_153 0 5 (dk_at dksL_law_10 19 rfl rfl)
theorem dL_law_475 : decode cL_law 475 = .ok (.iconst 0, 1) := dk_3 (dk_at dksL_law_10 22 rfl rfl)
theorem dL_law_476 : decode cL_law 476 = .ok (.ireturn, 1) := dk_172 (dk_at dksL_law_10 23 rfl rfl)
theorem dL_law_477 : decode cL_law 477 = .ok (.goto 2361, 3) := dk_167 9 57 (dk_at dksL_law_11 0 rfl rfl)
theorem dL_law_480 : decode cL_law 480 = .ok (.aload_n 1, 1) := dk_43 (dk_at dksL_law_11 3 rfl rfl)
theorem dL_law_481 : decode cL_law 481 = .ok (.aload_n 0, 1) := dk_42 (dk_at dksL_law_11 4 rfl rfl)
theorem dL_law_482 : decode cL_law 482 = .ok (.iload 5, 2) := dk_21 5 (dk_at dksL_law_11 5 rfl rfl)
theorem dL_law_484 : decode cL_law 484 = .ok (.iconst 1, 1) := dk_4 (dk_at dksL_law_11 7 rfl rfl)
theorem dL_law_485 : decode cL_law 485 = .ok (.iadd, 1) := dk_96 (dk_at dksL_law_11 8 rfl rfl)
theorem dL_law_486 : decode cL_law 486 = .ok (.iaload, 1) := dk_46 (dk_at dksL_law_11 9 rfl rfl)
theorem dL_law_487 : decode cL_law 487 = .ok (.aload_n 0, 1) := dk_42 (dk_at dksL_law_11 10 rfl rfl)
theorem dL_law_488 : decode cL_law 488 = .ok (.iload 5, 2) := dk_21 5 (dk_at dksL_law_11 11 rfl rfl)
theorem dL_law_490 : decode cL_law 490 = .ok (.iconst 2, 1) := dk_5 (dk_at dksL_law_11 13 rfl rfl)
theorem dL_law_491 : decode cL_law 491 = .ok (.iadd, 1) := dk_96 (dk_at dksL_law_11 14 rfl rfl)
theorem dL_law_492 : decode cL_law 492 = .ok (.iaload, 1) := dk_46 (dk_at dksL_law_11 15 rfl rfl)
theorem dL_law_493 : decode cL_law 493 = .ok (.aload_n 3, 1) := dk_45 (dk_at dksL_law_11 16 rfl rfl)
theorem dL_law_494 : decode cL_law 494 = .ok (.invokestatic 171, 3) := dk_184 0 171 (dk_at dksL_law_11 17 rfl rfl)
theorem dL_law_497 : decode cL_law 497 = .ok (.istore 6, 2) := dk_54 6 (dk_at dksL_law_11 20 rfl rfl)
theorem dL_law_499 : decode cL_law 499 = .ok (.aload_n 2, 1) := dk_44 (dk_at dksL_law_11 22 rfl rfl)
theorem dL_law_500 : decode cL_law 500 = .ok (.aload_n 0, 1) := dk_42 (dk_at dksL_law_11 23 rfl rfl)
theorem dL_law_501 : decode cL_law 501 = .ok (.iload 5, 2) := dk_21 5 (dk_at dksL_law_12 0 rfl rfl)
theorem dL_law_503 : decode cL_law 503 = .ok (.iconst 1, 1) := dk_4 (dk_at dksL_law_12 2 rfl rfl)
theorem dL_law_504 : decode cL_law 504 = .ok (.iadd, 1) := dk_96 (dk_at dksL_law_12 3 rfl rfl)
theorem dL_law_505 : decode cL_law 505 = .ok (.iaload, 1) := dk_46 (dk_at dksL_law_12 4 rfl rfl)
theorem dL_law_506 : decode cL_law 506 = .ok (.aload_n 0, 1) := dk_42 (dk_at dksL_law_12 5 rfl rfl)
theorem dL_law_507 : decode cL_law 507 = .ok (.iload 5, 2) := dk_21 5 (dk_at dksL_law_12 6 rfl rfl)
theorem dL_law_509 : decode cL_law 509 = .ok (.iconst 2, 1) := dk_5 (dk_at dksL_law_12 8 rfl rfl)
theorem dL_law_510 : decode cL_law 510 = .ok (.iadd, 1) := dk_96 (dk_at dksL_law_12 9 rfl rfl)
theorem dL_law_511 : decode cL_law 511 = .ok (.iaload, 1) := dk_46 (dk_at dksL_law_12 10 rfl rfl)
theorem dL_law_512 : decode cL_law 512 = .ok (.invokevirtual 173, 3) := dk_182 0 173 (dk_at dksL_law_12 11 rfl rfl)
theorem dL_law_515 : decode cL_law 515 = .ok (.istore 7, 2) := dk_54 7 (dk_at dksL_law_12 14 rfl rfl)
theorem dL_law_517 : decode cL_law 517 = .ok (.aload_n 2, 1) := dk_44 (dk_at dksL_law_12 16 rfl rfl)
theorem dL_law_518 : decode cL_law 518 = .ok (.invokevirtual 161, 3) := dk_182 0 161 (dk_at dksL_law_12 17 rfl rfl)
theorem dL_law_521 : decode cL_law 521 = .ok (.iload 6, 2) := dk_21 6 (dk_at dksL_law_12 20 rfl rfl)
theorem dL_law_523 : decode cL_law 523 = .ok (.if_icmp .eq 5, 3) := dk_159 0 5 (dk_at dksL_law_13 0 rfl rfl)
theorem dL_law_526 : decode cL_law 526 = .ok (.iconst 0, 1) := dk_3 (dk_at dksL_law_13 3 rfl rfl)
theorem dL_law_527 : decode cL_law 527 = .ok (.ireturn, 1) := dk_172 (dk_at dksL_law_13 4 rfl rfl)
theorem dL_law_528 : decode cL_law 528 = .ok (.iload 6, 2) := dk_21 6 (dk_at dksL_law_13 5 rfl rfl)
theorem dL_law_530 : decode cL_law 530 = .ok (.ifCond .ne 15, 3) := dk_154 0 15 (dk_at dksL_law_13 7 rfl rfl)
theorem dL_law_533 : decode cL_law 533 = .ok (.aload_n 3, 1) := dk_45 (dk_at dksL_law_13 10 rfl rfl)
theorem dL_law_534 : decode cL_law 534 = .ok (.iconst 0, 1) := dk_3 (dk_at dksL_law_13 11 rfl rfl)
theorem dL_law_535 : decode cL_law 535 = .ok (.laload, 1) := dk_47 (dk_at dksL_law_13 12 rfl rfl)
theorem dL_law_536 : decode cL_law 536 = .ok (.iload 7, 2) := dk_21 7 (dk_at dksL_law_13 13 rfl rfl)
theorem dL_law_538 : decode cL_law 538 = .ok (.i2l, 1) := dk_133 (dk_at dksL_law_13 15 rfl rfl)
theorem dL_law_539 : decode cL_law 539 = .ok (.lcmp, 1) := dk_148 (dk_at dksL_law_13 16 rfl rfl)
theorem dL_law_540 : decode cL_law 540 = .ok (.ifCond .eq 5, 3) := dk_153 0 5 (dk_at dksL_law_13 17 rfl rfl)
theorem dL_law_543 : decode cL_law 543 = .ok (.iconst 0, 1) := dk_3 (dk_at dksL_law_13 20 rfl rfl)
theorem dL_law_544 : decode cL_law 544 = .ok (.ireturn, 1) := dk_172 (dk_at dksL_law_13 21 rfl rfl)
theorem dL_law_545 : decode cL_law 545 = .ok (.goto 2293, 3) := dk_167 8 245 (dk_at dksL_law_14 0 rfl rfl)
theorem dL_law_548 : decode cL_law 548 = .ok (.aload_n 1, 1) := dk_43 (dk_at dksL_law_14 3 rfl rfl)
theorem dL_law_549 : decode cL_law 549 = .ok (.aload_n 0, 1) := dk_42 (dk_at dksL_law_14 4 rfl rfl)
theorem dL_law_550 : decode cL_law 550 = .ok (.iload 5, 2) := dk_21 5 (dk_at dksL_law_14 5 rfl rfl)
theorem dL_law_552 : decode cL_law 552 = .ok (.iconst 1, 1) := dk_4 (dk_at dksL_law_14 7 rfl rfl)
theorem dL_law_553 : decode cL_law 553 = .ok (.iadd, 1) := dk_96 (dk_at dksL_law_14 8 rfl rfl)
theorem dL_law_554 : decode cL_law 554 = .ok (.iaload, 1) := dk_46 (dk_at dksL_law_14 9 rfl rfl)
theorem dL_law_555 : decode cL_law 555 = .ok (.aload_n 3, 1) := dk_45 (dk_at dksL_law_14 10 rfl rfl)
theorem dL_law_556 : decode cL_law 556 = .ok (.invokestatic 174, 3) := dk_184 0 174 (dk_at dksL_law_14 11 rfl rfl)
theorem dL_law_559 : decode cL_law 559 = .ok (.istore 6, 2) := dk_54 6 (dk_at dksL_law_14 14 rfl rfl)
theorem dL_law_561 : decode cL_law 561 = .ok (.aload_n 2, 1) := dk_44 (dk_at dksL_law_14 16 rfl rfl)
theorem dL_law_562 : decode cL_law 562 = .ok (.aload_n 0, 1) := dk_42 (dk_at dksL_law_14 17 rfl rfl)
theorem dL_law_563 : decode cL_law 563 = .ok (.iload 5, 2) := dk_21 5 (dk_at dksL_law_14 18 rfl rfl)
theorem dL_law_565 : decode cL_law 565 = .ok (.iconst 1, 1) := dk_4 (dk_at dksL_law_14 20 rfl rfl)
theorem dL_law_566 : decode cL_law 566 = .ok (.iadd, 1) := dk_96 (dk_at dksL_law_14 21 rfl rfl)
theorem dL_law_567 : decode cL_law 567 = .ok (.iaload, 1) := dk_46 (dk_at dksL_law_14 22 rfl rfl)
theorem dL_law_568 : decode cL_law 568 = .ok (.invokevirtual 176, 3) := dk_182 0 176 (dk_at dksL_law_15 0 rfl rfl)
theorem dL_law_571 : decode cL_law 571 = .ok (.istore 7, 2) := dk_54 7 (dk_at dksL_law_15 3 rfl rfl)
theorem dL_law_573 : decode cL_law 573 = .ok (.aload_n 2, 1) := dk_44 (dk_at dksL_law_15 5 rfl rfl)
theorem dL_law_574 : decode cL_law 574 = .ok (.invokevirtual 161, 3) := dk_182 0 161 (dk_at dksL_law_15 6 rfl rfl)
theorem dL_law_577 : decode cL_law 577 = .ok (.iload 6, 2) := dk_21 6 (dk_at dksL_law_15 9 rfl rfl)
theorem dL_law_579 : decode cL_law 579 = .ok (.if_icmp .eq 5, 3) := dk_159 0 5 (dk_at dksL_law_15 11 rfl rfl)
theorem dL_law_582 : decode cL_law 582 = .ok (.iconst 0, 1) := dk_3 (dk_at dksL_law_15 14 rfl rfl)
theorem dL_law_583 : decode cL_law 583 = .ok (.ireturn, 1) := dk_172 (dk_at dksL_law_15 15 rfl rfl)
theorem dL_law_584 : decode cL_law 584 = .ok (.iload 6, 2) := dk_21 6 (dk_at dksL_law_15 16 rfl rfl)
theorem dL_law_586 : decode cL_law 586 = .ok (.ifCond .ne 15, 3) := dk_154 0 15 (dk_at dksL_law_15 18 rfl rfl)
theorem dL_law_589 : decode cL_law 589 = .ok (.aload_n 3, 1) := dk_45 (dk_at dksL_law_15 21 rfl rfl)
theorem dL_law_590 : decode cL_law 590 = .ok (.iconst 0, 1) := dk_3 (dk_at dksL_law_15 22 rfl rfl)
theorem dL_law_591 : decode cL_law 591 = .ok (.laload, 1) := dk_47 (dk_at dksL_law_15 23 rfl rfl)
theorem dL_law_592 : decode cL_law 592 = .ok (.iload 7, 2) := dk_21 7 (dk_at dksL_law_16 0 rfl rfl)
theorem dL_law_594 : decode cL_law 594 = .ok (.i2l, 1) := dk_133 (dk_at dksL_law_16 2 rfl rfl)
theorem dL_law_595 : decode cL_law 595 = .ok (.lcmp, 1) := dk_148 (dk_at dksL_law_16 3 rfl rfl)
theorem dL_law_596 : decode cL_law 596 = .ok (.ifCond .eq 5, 3) := dk_153 0 5 (dk_at dksL_law_16 4 rfl rfl)
theorem dL_law_599 : decode cL_law 599 = .ok (.iconst 0, 1) := dk_3 (dk_at dksL_law_16 7 rfl rfl)
theorem dL_law_600 : decode cL_law 600 = .ok (.ireturn, 1) := dk_172 (dk_at dksL_law_16 8 rfl rfl)
theorem dL_law_601 : decode cL_law 601 = .ok (.goto 2237, 3) := dk_167 8 189 (dk_at dksL_law_16 9 rfl rfl)
theorem dL_law_604 : decode cL_law 604 = .ok (.aload_n 1, 1) := dk_43 (dk_at dksL_law_16 12 rfl rfl)
theorem dL_law_605 : decode cL_law 605 = .ok (.aload_n 0, 1) := dk_42 (dk_at dksL_law_16 13 rfl rfl)
theorem dL_law_606 : decode cL_law 606 = .ok (.iload 5, 2) := dk_21 5 (dk_at dksL_law_16 14 rfl rfl)
theorem dL_law_608 : decode cL_law 608 = .ok (.iconst 1, 1) := dk_4 (dk_at dksL_law_16 16 rfl rfl)
theorem dL_law_609 : decode cL_law 609 = .ok (.iadd, 1) := dk_96 (dk_at dksL_law_16 17 rfl rfl)
theorem dL_law_610 : decode cL_law 610 = .ok (.iaload, 1) := dk_46 (dk_at dksL_law_16 18 rfl rfl)
theorem dL_law_611 : decode cL_law 611 = .ok (.aload_n 3, 1) := dk_45 (dk_at dksL_law_16 19 rfl rfl)
theorem dL_law_612 : decode cL_law 612 = .ok (.invokestatic 177, 3) := dk_184 0 177 (dk_at dksL_law_16 20 rfl rfl)
theorem dL_law_615 : decode cL_law 615 = .ok (.istore 6, 2) := dk_54 6 (dk_at dksL_law_17 0 rfl rfl)
theorem dL_law_617 : decode cL_law 617 = .ok (.aload_n 2, 1) := dk_44 (dk_at dksL_law_17 2 rfl rfl)
theorem dL_law_618 : decode cL_law 618 = .ok (.aload_n 0, 1) := dk_42 (dk_at dksL_law_17 3 rfl rfl)
theorem dL_law_619 : decode cL_law 619 = .ok (.iload 5, 2) := dk_21 5 (dk_at dksL_law_17 4 rfl rfl)
theorem dL_law_621 : decode cL_law 621 = .ok (.iconst 1, 1) := dk_4 (dk_at dksL_law_17 6 rfl rfl)
theorem dL_law_622 : decode cL_law 622 = .ok (.iadd, 1) := dk_96 (dk_at dksL_law_17 7 rfl rfl)
theorem dL_law_623 : decode cL_law 623 = .ok (.iaload, 1) := dk_46 (dk_at dksL_law_17 8 rfl rfl)
theorem dL_law_624 : decode cL_law 624 = .ok (.invokevirtual 179, 3) := dk_182 0 179 (dk_at dksL_law_17 9 rfl rfl)
theorem dL_law_627 : decode cL_law 627 = .ok (.istore 7, 2) := dk_54 7 (dk_at dksL_law_17 12 rfl rfl)
theorem dL_law_629 : decode cL_law 629 = .ok (.aload_n 2, 1) := dk_44 (dk_at dksL_law_17 14 rfl rfl)
theorem dL_law_630 : decode cL_law 630 = .ok (.invokevirtual 161, 3) := dk_182 0 161 (dk_at dksL_law_17 15 rfl rfl)
theorem dL_law_633 : decode cL_law 633 = .ok (.iload 6, 2) := dk_21 6 (dk_at dksL_law_17 18 rfl rfl)
theorem dL_law_635 : decode cL_law 635 = .ok (.if_icmp .eq 5, 3) := dk_159 0 5 (dk_at dksL_law_17 20 rfl rfl)
theorem dL_law_638 : decode cL_law 638 = .ok (.iconst 0, 1) := dk_3 (dk_at dksL_law_17 23 rfl rfl)
theorem dL_law_639 : decode cL_law 639 = .ok (.ireturn, 1) := dk_172 (dk_at dksL_law_18 0 rfl rfl)
theorem dL_law_640 : decode cL_law 640 = .ok (.iload 6, 2) := dk_21 6 (dk_at dksL_law_18 1 rfl rfl)
theorem dL_law_642 : decode cL_law 642 = .ok (.ifCond .ne 15, 3) := dk_154 0 15 (dk_at dksL_law_18 3 rfl rfl)
theorem dL_law_645 : decode cL_law 645 = .ok (.aload_n 3, 1) := dk_45 (dk_at dksL_law_18 6 rfl rfl)
theorem dL_law_646 : decode cL_law 646 = .ok (.iconst 0, 1) := dk_3 (dk_at dksL_law_18 7 rfl rfl)
theorem dL_law_647 : decode cL_law 647 = .ok (.laload, 1) := dk_47 (dk_at dksL_law_18 8 rfl rfl)
theorem dL_law_648 : decode cL_law 648 = .ok (.iload 7, 2) := dk_21 7 (dk_at dksL_law_18 9 rfl rfl)
theorem dL_law_650 : decode cL_law 650 = .ok (.i2l, 1) := dk_133 (dk_at dksL_law_18 11 rfl rfl)
theorem dL_law_651 : decode cL_law 651 = .ok (.lcmp, 1) := dk_148 (dk_at dksL_law_18 12 rfl rfl)
theorem dL_law_652 : decode cL_law 652 = .ok (.ifCond .eq 5, 3) := dk_153 0 5 (dk_at dksL_law_18 13 rfl rfl)
theorem dL_law_655 : decode cL_law 655 = .ok (.iconst 0, 1) := dk_3 (dk_at dksL_law_18 16 rfl rfl)
theorem dL_law_656 : decode cL_law 656 = .ok (.ireturn, 1) := dk_172 (dk_at dksL_law_18 17 rfl rfl)
theorem dL_law_657 : decode cL_law 657 = .ok (.goto 2181, 3) := dk_167 8 133 (dk_at dksL_law_18 18 rfl rfl)
theorem dL_law_660 : decode cL_law 660 = .ok (.aload_n 1, 1) := dk_43 (dk_at dksL_law_18 21 rfl rfl)
theorem dL_law_661 : decode cL_law 661 = .ok (.aload_n 0, 1) := dk_42 (dk_at dksL_law_18 22 rfl rfl)
theorem dL_law_662 : decode cL_law 662 = .ok (.iload 5, 2) := dk_21 5 (dk_at dksL_law_19 0 rfl rfl)
theorem dL_law_664 : decode cL_law 664 = .ok (.iconst 1, 1) := dk_4 (dk_at dksL_law_19 2 rfl rfl)
theorem dL_law_665 : decode cL_law 665 = .ok (.iadd, 1) := dk_96 (dk_at dksL_law_19 3 rfl rfl)
theorem dL_law_666 : decode cL_law 666 = .ok (.iaload, 1) := dk_46 (dk_at dksL_law_19 4 rfl rfl)
theorem dL_law_667 : decode cL_law 667 = .ok (.i2c, 1) := dk_146 (dk_at dksL_law_19 5 rfl rfl)
theorem dL_law_668 : decode cL_law 668 = .ok (.aload_n 3, 1) := dk_45 (dk_at dksL_law_19 6 rfl rfl)
theorem dL_law_669 : decode cL_law 669 = .ok (.invokestatic 180, 3) := dk_184 0 180 (dk_at dksL_law_19 7 rfl rfl)
theorem dL_law_672 : decode cL_law 672 = .ok (.istore 6, 2) := dk_54 6 (dk_at dksL_law_19 10 rfl rfl)
theorem dL_law_674 : decode cL_law 674 = .ok (.aload_n 2, 1) := dk_44 (dk_at dksL_law_19 12 rfl rfl)
theorem dL_law_675 : decode cL_law 675 = .ok (.aload_n 0, 1) := dk_42 (dk_at dksL_law_19 13 rfl rfl)
theorem dL_law_676 : decode cL_law 676 = .ok (.iload 5, 2) := dk_21 5 (dk_at dksL_law_19 14 rfl rfl)
theorem dL_law_678 : decode cL_law 678 = .ok (.iconst 1, 1) := dk_4 (dk_at dksL_law_19 16 rfl rfl)
theorem dL_law_679 : decode cL_law 679 = .ok (.iadd, 1) := dk_96 (dk_at dksL_law_19 17 rfl rfl)
theorem dL_law_680 : decode cL_law 680 = .ok (.iaload, 1) := dk_46 (dk_at dksL_law_19 18 rfl rfl)
theorem dL_law_681 : decode cL_law 681 = .ok (.i2c, 1) := dk_146 (dk_at dksL_law_19 19 rfl rfl)
theorem dL_law_682 : decode cL_law 682 = .ok (.invokevirtual 183, 3) := dk_182 0 183 (dk_at dksL_law_19 20 rfl rfl)
theorem dL_law_685 : decode cL_law 685 = .ok (.istore 7, 2) := dk_54 7 (dk_at dksL_law_20 0 rfl rfl)
theorem dL_law_687 : decode cL_law 687 = .ok (.aload_n 2, 1) := dk_44 (dk_at dksL_law_20 2 rfl rfl)
theorem dL_law_688 : decode cL_law 688 = .ok (.invokevirtual 161, 3) := dk_182 0 161 (dk_at dksL_law_20 3 rfl rfl)
theorem dL_law_691 : decode cL_law 691 = .ok (.iload 6, 2) := dk_21 6 (dk_at dksL_law_20 6 rfl rfl)
theorem dL_law_693 : decode cL_law 693 = .ok (.if_icmp .eq 5, 3) := dk_159 0 5 (dk_at dksL_law_20 8 rfl rfl)
theorem dL_law_696 : decode cL_law 696 = .ok (.iconst 0, 1) := dk_3 (dk_at dksL_law_20 11 rfl rfl)
theorem dL_law_697 : decode cL_law 697 = .ok (.ireturn, 1) := dk_172 (dk_at dksL_law_20 12 rfl rfl)
theorem dL_law_698 : decode cL_law 698 = .ok (.iload 6, 2) := dk_21 6 (dk_at dksL_law_20 13 rfl rfl)
theorem dL_law_700 : decode cL_law 700 = .ok (.ifCond .ne 15, 3) := dk_154 0 15 (dk_at dksL_law_20 15 rfl rfl)
theorem dL_law_703 : decode cL_law 703 = .ok (.aload_n 3, 1) := dk_45 (dk_at dksL_law_20 18 rfl rfl)
theorem dL_law_704 : decode cL_law 704 = .ok (.iconst 0, 1) := dk_3 (dk_at dksL_law_20 19 rfl rfl)
theorem dL_law_705 : decode cL_law 705 = .ok (.laload, 1) := dk_47 (dk_at dksL_law_20 20 rfl rfl)
theorem dL_law_706 : decode cL_law 706 = .ok (.iload 7, 2) := dk_21 7 (dk_at dksL_law_20 21 rfl rfl)
theorem dL_law_708 : decode cL_law 708 = .ok (.i2l, 1) := dk_133 (dk_at dksL_law_20 23 rfl rfl)
theorem dL_law_709 : decode cL_law 709 = .ok (.lcmp, 1) := dk_148 (dk_at dksL_law_21 0 rfl rfl)
theorem dL_law_710 : decode cL_law 710 = .ok (.ifCond .eq 5, 3) := dk_153 0 5 (dk_at dksL_law_21 1 rfl rfl)
theorem dL_law_713 : decode cL_law 713 = .ok (.iconst 0, 1) := dk_3 (dk_at dksL_law_21 4 rfl rfl)
theorem dL_law_714 : decode cL_law 714 = .ok (.ireturn, 1) := dk_172 (dk_at dksL_law_21 5 rfl rfl)
theorem dL_law_715 : decode cL_law 715 = .ok (.goto 2123, 3) := dk_167 8 75 (dk_at dksL_law_21 6 rfl rfl)
theorem dL_law_718 : decode cL_law 718 = .ok (.aload_n 1, 1) := dk_43 (dk_at dksL_law_21 9 rfl rfl)
theorem dL_law_719 : decode cL_law 719 = .ok (.aload_n 0, 1) := dk_42 (dk_at dksL_law_21 10 rfl rfl)
theorem dL_law_720 : decode cL_law 720 = .ok (.iload 5, 2) := dk_21 5 (dk_at dksL_law_21 11 rfl rfl)
theorem dL_law_722 : decode cL_law 722 = .ok (.iconst 1, 1) := dk_4 (dk_at dksL_law_21 13 rfl rfl)
theorem dL_law_723 : decode cL_law 723 = .ok (.iadd, 1) := dk_96 (dk_at dksL_law_21 14 rfl rfl)
theorem dL_law_724 : decode cL_law 724 = .ok (.iaload, 1) := dk_46 (dk_at dksL_law_21 15 rfl rfl)
theorem dL_law_725 : decode cL_law 725 = .ok (.aload_n 0, 1) := dk_42 (dk_at dksL_law_21 16 rfl rfl)
theorem dL_law_726 : decode cL_law 726 = .ok (.iload 5, 2) := dk_21 5 (dk_at dksL_law_21 17 rfl rfl)
theorem dL_law_728 : decode cL_law 728 = .ok (.iconst 2, 1) := dk_5 (dk_at dksL_law_21 19 rfl rfl)
theorem dL_law_729 : decode cL_law 729 = .ok (.iadd, 1) := dk_96 (dk_at dksL_law_21 20 rfl rfl)
theorem dL_law_730 : decode cL_law 730 = .ok (.iaload, 1) := dk_46 (dk_at dksL_law_21 21 rfl rfl)
theorem dL_law_731 : decode cL_law 731 = .ok (.aload_n 3, 1) := dk_45 (dk_at dksL_law_21 22 rfl rfl)
theorem dL_law_732 : decode cL_law 732 = .ok (.invokestatic 184, 3) := dk_184 0 184 (dk_at dksL_law_22 0 rfl rfl)
theorem dL_law_735 : decode cL_law 735 = .ok (.istore 6, 2) := dk_54 6 (dk_at dksL_law_22 3 rfl rfl)
theorem dL_law_737 : decode cL_law 737 = .ok (.aload_n 2, 1) := dk_44 (dk_at dksL_law_22 5 rfl rfl)
theorem dL_law_738 : decode cL_law 738 = .ok (.aload_n 0, 1) := dk_42 (dk_at dksL_law_22 6 rfl rfl)
theorem dL_law_739 : decode cL_law 739 = .ok (.iload 5, 2) := dk_21 5 (dk_at dksL_law_22 7 rfl rfl)
theorem dL_law_741 : decode cL_law 741 = .ok (.iconst 1, 1) := dk_4 (dk_at dksL_law_22 9 rfl rfl)
theorem dL_law_742 : decode cL_law 742 = .ok (.iadd, 1) := dk_96 (dk_at dksL_law_22 10 rfl rfl)
theorem dL_law_743 : decode cL_law 743 = .ok (.iaload, 1) := dk_46 (dk_at dksL_law_22 11 rfl rfl)
theorem dL_law_744 : decode cL_law 744 = .ok (.aload_n 0, 1) := dk_42 (dk_at dksL_law_22 12 rfl rfl)
theorem dL_law_745 : decode cL_law 745 = .ok (.iload 5, 2) := dk_21 5 (dk_at dksL_law_22 13 rfl rfl)
theorem dL_law_747 : decode cL_law 747 = .ok (.iconst 2, 1) := dk_5 (dk_at dksL_law_22 15 rfl rfl)
theorem dL_law_748 : decode cL_law 748 = .ok (.iadd, 1) := dk_96 (dk_at dksL_law_22 16 rfl rfl)
theorem dL_law_749 : decode cL_law 749 = .ok (.iaload, 1) := dk_46 (dk_at dksL_law_22 17 rfl rfl)
theorem dL_law_750 : decode cL_law 750 = .ok (.invokevirtual 186, 3) := dk_182 0 186 (dk_at dksL_law_22 18 rfl rfl)
theorem dL_law_753 : decode cL_law 753 = .ok (.istore 7, 2) := dk_54 7 (dk_at dksL_law_22 21 rfl rfl)
theorem dL_law_755 : decode cL_law 755 = .ok (.aload_n 2, 1) := dk_44 (dk_at dksL_law_22 23 rfl rfl)
theorem dL_law_756 : decode cL_law 756 = .ok (.invokevirtual 161, 3) := dk_182 0 161 (dk_at dksL_law_23 0 rfl rfl)
theorem dL_law_759 : decode cL_law 759 = .ok (.iload 6, 2) := dk_21 6 (dk_at dksL_law_23 3 rfl rfl)
theorem dL_law_761 : decode cL_law 761 = .ok (.if_icmp .eq 5, 3) := dk_159 0 5 (dk_at dksL_law_23 5 rfl rfl)
theorem dL_law_764 : decode cL_law 764 = .ok (.iconst 0, 1) := dk_3 (dk_at dksL_law_23 8 rfl rfl)
theorem dL_law_765 : decode cL_law 765 = .ok (.ireturn, 1) := dk_172 (dk_at dksL_law_23 9 rfl rfl)
theorem dL_law_766 : decode cL_law 766 = .ok (.iload 6, 2) := dk_21 6 (dk_at dksL_law_23 10 rfl rfl)
theorem dL_law_768 : decode cL_law 768 = .ok (.ifCond .ne 15, 3) := dk_154 0 15 (dk_at dksL_law_23 12 rfl rfl)
theorem dL_law_771 : decode cL_law 771 = .ok (.aload_n 3, 1) := dk_45 (dk_at dksL_law_23 15 rfl rfl)
theorem dL_law_772 : decode cL_law 772 = .ok (.iconst 0, 1) := dk_3 (dk_at dksL_law_23 16 rfl rfl)
theorem dL_law_773 : decode cL_law 773 = .ok (.laload, 1) := dk_47 (dk_at dksL_law_23 17 rfl rfl)
theorem dL_law_774 : decode cL_law 774 = .ok (.iload 7, 2) := dk_21 7 (dk_at dksL_law_23 18 rfl rfl)
theorem dL_law_776 : decode cL_law 776 = .ok (.i2l, 1) := dk_133 (dk_at dksL_law_23 20 rfl rfl)
theorem dL_law_777 : decode cL_law 777 = .ok (.lcmp, 1) := dk_148 (dk_at dksL_law_23 21 rfl rfl)
theorem dL_law_778 : decode cL_law 778 = .ok (.ifCond .eq 5, 3) := dk_153 0 5 (dk_at dksL_law_24 0 rfl rfl)
theorem dL_law_781 : decode cL_law 781 = .ok (.iconst 0, 1) := dk_3 (dk_at dksL_law_24 3 rfl rfl)
theorem dL_law_782 : decode cL_law 782 = .ok (.ireturn, 1) := dk_172 (dk_at dksL_law_24 4 rfl rfl)
theorem dL_law_783 : decode cL_law 783 = .ok (.goto 2055, 3) := dk_167 8 7 (dk_at dksL_law_24 5 rfl rfl)
theorem dL_law_786 : decode cL_law 786 = .ok (.aload_n 1, 1) := dk_43 (dk_at dksL_law_24 8 rfl rfl)
theorem dL_law_787 : decode cL_law 787 = .ok (.aload_n 0, 1) := dk_42 (dk_at dksL_law_24 9 rfl rfl)
theorem dL_law_788 : decode cL_law 788 = .ok (.iload 5, 2) := dk_21 5 (dk_at dksL_law_24 10 rfl rfl)
theorem dL_law_790 : decode cL_law 790 = .ok (.iconst 1, 1) := dk_4 (dk_at dksL_law_24 12 rfl rfl)
theorem dL_law_791 : decode cL_law 791 = .ok (.iadd, 1) := dk_96 (dk_at dksL_law_24 13 rfl rfl)
theorem dL_law_792 : decode cL_law 792 = .ok (.iaload, 1) := dk_46 (dk_at dksL_law_24 14 rfl rfl)
theorem dL_law_793 : decode cL_law 793 = .ok (.aload_n 3, 1) := dk_45 (dk_at dksL_law_24 15 rfl rfl)
theorem dL_law_794 : decode cL_law 794 = .ok (.invokestatic 187, 3) := dk_184 0 187 (dk_at dksL_law_24 16 rfl rfl)
theorem dL_law_797 : decode cL_law 797 = .ok (.istore 6, 2) := dk_54 6 (dk_at dksL_law_24 19 rfl rfl)
theorem dL_law_799 : decode cL_law 799 = .ok (.aload_n 2, 1) := dk_44 (dk_at dksL_law_24 21 rfl rfl)
theorem dL_law_800 : decode cL_law 800 = .ok (.aload_n 0, 1) := dk_42 (dk_at dksL_law_24 22 rfl rfl)
theorem dL_law_801 : decode cL_law 801 = .ok (.iload 5, 2) := dk_21 5 (dk_at dksL_law_25 0 rfl rfl)
theorem dL_law_803 : decode cL_law 803 = .ok (.iconst 1, 1) := dk_4 (dk_at dksL_law_25 2 rfl rfl)
theorem dL_law_804 : decode cL_law 804 = .ok (.iadd, 1) := dk_96 (dk_at dksL_law_25 3 rfl rfl)
theorem dL_law_805 : decode cL_law 805 = .ok (.iaload, 1) := dk_46 (dk_at dksL_law_25 4 rfl rfl)
theorem dL_law_806 : decode cL_law 806 = .ok (.invokevirtual 189, 3) := dk_182 0 189 (dk_at dksL_law_25 5 rfl rfl)
theorem dL_law_809 : decode cL_law 809 = .ok (.istore 7, 2) := dk_54 7 (dk_at dksL_law_25 8 rfl rfl)
theorem dL_law_811 : decode cL_law 811 = .ok (.aload_n 2, 1) := dk_44 (dk_at dksL_law_25 10 rfl rfl)
theorem dL_law_812 : decode cL_law 812 = .ok (.invokevirtual 161, 3) := dk_182 0 161 (dk_at dksL_law_25 11 rfl rfl)
theorem dL_law_815 : decode cL_law 815 = .ok (.iload 6, 2) := dk_21 6 (dk_at dksL_law_25 14 rfl rfl)
theorem dL_law_817 : decode cL_law 817 = .ok (.if_icmp .eq 5, 3) := dk_159 0 5 (dk_at dksL_law_25 16 rfl rfl)
theorem dL_law_820 : decode cL_law 820 = .ok (.iconst 0, 1) := dk_3 (dk_at dksL_law_25 19 rfl rfl)
theorem dL_law_821 : decode cL_law 821 = .ok (.ireturn, 1) := dk_172 (dk_at dksL_law_25 20 rfl rfl)
theorem dL_law_822 : decode cL_law 822 = .ok (.iload 6, 2) := dk_21 6 (dk_at dksL_law_25 21 rfl rfl)
theorem dL_law_824 : decode cL_law 824 = .ok (.ifCond .ne 15, 3) := dk_154 0 15 (dk_at dksL_law_26 0 rfl rfl)
theorem dL_law_827 : decode cL_law 827 = .ok (.aload_n 3, 1) := dk_45 (dk_at dksL_law_26 3 rfl rfl)
theorem dL_law_828 : decode cL_law 828 = .ok (.iconst 0, 1) := dk_3 (dk_at dksL_law_26 4 rfl rfl)
theorem dL_law_829 : decode cL_law 829 = .ok (.laload, 1) := dk_47 (dk_at dksL_law_26 5 rfl rfl)
theorem dL_law_830 : decode cL_law 830 = .ok (.iload 7, 2) := dk_21 7 (dk_at dksL_law_26 6 rfl rfl)
theorem dL_law_832 : decode cL_law 832 = .ok (.i2l, 1) := dk_133 (dk_at dksL_law_26 8 rfl rfl)
theorem dL_law_833 : decode cL_law 833 = .ok (.lcmp, 1) := dk_148 (dk_at dksL_law_26 9 rfl rfl)
theorem dL_law_834 : decode cL_law 834 = .ok (.ifCond .eq 5, 3) := dk_153 0 5 (dk_at dksL_law_26 10 rfl rfl)
theorem dL_law_837 : decode cL_law 837 = .ok (.iconst 0, 1) := dk_3 (dk_at dksL_law_26 13 rfl rfl)
theorem dL_law_838 : decode cL_law 838 = .ok (.ireturn, 1) := dk_172 (dk_at dksL_law_26 14 rfl rfl)
theorem dL_law_839 : decode cL_law 839 = .ok (.goto 1999, 3) := dk_167 7 207 (dk_at dksL_law_26 15 rfl rfl)
theorem dL_law_842 : decode cL_law 842 = .ok (.aload_n 1, 1) := dk_43 (dk_at dksL_law_26 18 rfl rfl)
theorem dL_law_843 : decode cL_law 843 = .ok (.aload_n 0, 1) := dk_42 (dk_at dksL_law_26 19 rfl rfl)
theorem dL_law_844 : decode cL_law 844 = .ok (.iload 5, 2) := dk_21 5 (dk_at dksL_law_26 20 rfl rfl)
theorem dL_law_846 : decode cL_law 846 = .ok (.iconst 1, 1) := dk_4 (dk_at dksL_law_26 22 rfl rfl)
theorem dL_law_847 : decode cL_law 847 = .ok (.iadd, 1) := dk_96 (dk_at dksL_law_26 23 rfl rfl)
theorem dL_law_848 : decode cL_law 848 = .ok (.iaload, 1) := dk_46 (dk_at dksL_law_27 0 rfl rfl)
theorem dL_law_849 : decode cL_law 849 = .ok (.aload_n 3, 1) := dk_45 (dk_at dksL_law_27 1 rfl rfl)
theorem dL_law_850 : decode cL_law 850 = .ok (.invokestatic 190, 3) := dk_184 0 190 (dk_at dksL_law_27 2 rfl rfl)
theorem dL_law_853 : decode cL_law 853 = .ok (.istore 6, 2) := dk_54 6 (dk_at dksL_law_27 5 rfl rfl)
theorem dL_law_855 : decode cL_law 855 = .ok (.aload_n 2, 1) := dk_44 (dk_at dksL_law_27 7 rfl rfl)
theorem dL_law_856 : decode cL_law 856 = .ok (.aload_n 0, 1) := dk_42 (dk_at dksL_law_27 8 rfl rfl)
theorem dL_law_857 : decode cL_law 857 = .ok (.iload 5, 2) := dk_21 5 (dk_at dksL_law_27 9 rfl rfl)
theorem dL_law_859 : decode cL_law 859 = .ok (.iconst 1, 1) := dk_4 (dk_at dksL_law_27 11 rfl rfl)
theorem dL_law_860 : decode cL_law 860 = .ok (.iadd, 1) := dk_96 (dk_at dksL_law_27 12 rfl rfl)
theorem dL_law_861 : decode cL_law 861 = .ok (.iaload, 1) := dk_46 (dk_at dksL_law_27 13 rfl rfl)
theorem dL_law_862 : decode cL_law 862 = .ok (.invokevirtual 192, 3) := dk_182 0 192 (dk_at dksL_law_27 14 rfl rfl)
theorem dL_law_865 : decode cL_law 865 = .ok (.istore 7, 2) := dk_54 7 (dk_at dksL_law_27 17 rfl rfl)
theorem dL_law_867 : decode cL_law 867 = .ok (.aload_n 2, 1) := dk_44 (dk_at dksL_law_27 19 rfl rfl)
theorem dL_law_868 : decode cL_law 868 = .ok (.invokevirtual 161, 3) := dk_182 0 161 (dk_at dksL_law_27 20 rfl rfl)
theorem dL_law_871 : decode cL_law 871 = .ok (.iload 6, 2) := dk_21 6 (dk_at dksL_law_28 0 rfl rfl)
theorem dL_law_873 : decode cL_law 873 = .ok (.if_icmp .eq 5, 3) := dk_159 0 5 (dk_at dksL_law_28 2 rfl rfl)
theorem dL_law_876 : decode cL_law 876 = .ok (.iconst 0, 1) := dk_3 (dk_at dksL_law_28 5 rfl rfl)
theorem dL_law_877 : decode cL_law 877 = .ok (.ireturn, 1) := dk_172 (dk_at dksL_law_28 6 rfl rfl)
theorem dL_law_878 : decode cL_law 878 = .ok (.iload 6, 2) := dk_21 6 (dk_at dksL_law_28 7 rfl rfl)
theorem dL_law_880 : decode cL_law 880 = .ok (.ifCond .ne 15, 3) := dk_154 0 15 (dk_at dksL_law_28 9 rfl rfl)
theorem dL_law_883 : decode cL_law 883 = .ok (.aload_n 3, 1) := dk_45 (dk_at dksL_law_28 12 rfl rfl)
theorem dL_law_884 : decode cL_law 884 = .ok (.iconst 0, 1) := dk_3 (dk_at dksL_law_28 13 rfl rfl)
theorem dL_law_885 : decode cL_law 885 = .ok (.laload, 1) := dk_47 (dk_at dksL_law_28 14 rfl rfl)
theorem dL_law_886 : decode cL_law 886 = .ok (.iload 7, 2) := dk_21 7 (dk_at dksL_law_28 15 rfl rfl)
theorem dL_law_888 : decode cL_law 888 = .ok (.i2l, 1) := dk_133 (dk_at dksL_law_28 17 rfl rfl)
theorem dL_law_889 : decode cL_law 889 = .ok (.lcmp, 1) := dk_148 (dk_at dksL_law_28 18 rfl rfl)
theorem dL_law_890 : decode cL_law 890 = .ok (.ifCond .eq 5, 3) := dk_153 0 5 (dk_at dksL_law_28 19 rfl rfl)
theorem dL_law_893 : decode cL_law 893 = .ok (.iconst 0, 1) := dk_3 (dk_at dksL_law_28 22 rfl rfl)
theorem dL_law_894 : decode cL_law 894 = .ok (.ireturn, 1) := dk_172 (dk_at dksL_law_28 23 rfl rfl)
theorem dL_law_895 : decode cL_law 895 = .ok (.goto 1943, 3) := dk_167 7 151 (dk_at dksL_law_29 0 rfl rfl)
theorem dL_law_898 : decode cL_law 898 = .ok (.aload_n 1, 1) := dk_43 (dk_at dksL_law_29 3 rfl rfl)
theorem dL_law_899 : decode cL_law 899 = .ok (.aload_n 0, 1) := dk_42 (dk_at dksL_law_29 4 rfl rfl)
theorem dL_law_900 : decode cL_law 900 = .ok (.iload 5, 2) := dk_21 5 (dk_at dksL_law_29 5 rfl rfl)
theorem dL_law_902 : decode cL_law 902 = .ok (.iconst 1, 1) := dk_4 (dk_at dksL_law_29 7 rfl rfl)
theorem dL_law_903 : decode cL_law 903 = .ok (.iadd, 1) := dk_96 (dk_at dksL_law_29 8 rfl rfl)
theorem dL_law_904 : decode cL_law 904 = .ok (.iaload, 1) := dk_46 (dk_at dksL_law_29 9 rfl rfl)
theorem dL_law_905 : decode cL_law 905 = .ok (.aload_n 3, 1) := dk_45 (dk_at dksL_law_29 10 rfl rfl)
theorem dL_law_906 : decode cL_law 906 = .ok (.invokestatic 193, 3) := dk_184 0 193 (dk_at dksL_law_29 11 rfl rfl)
theorem dL_law_909 : decode cL_law 909 = .ok (.istore 6, 2) := dk_54 6 (dk_at dksL_law_29 14 rfl rfl)
theorem dL_law_911 : decode cL_law 911 = .ok (.aload_n 2, 1) := dk_44 (dk_at dksL_law_29 16 rfl rfl)
theorem dL_law_912 : decode cL_law 912 = .ok (.aload_n 0, 1) := dk_42 (dk_at dksL_law_29 17 rfl rfl)
theorem dL_law_913 : decode cL_law 913 = .ok (.iload 5, 2) := dk_21 5 (dk_at dksL_law_29 18 rfl rfl)
theorem dL_law_915 : decode cL_law 915 = .ok (.iconst 1, 1) := dk_4 (dk_at dksL_law_29 20 rfl rfl)
theorem dL_law_916 : decode cL_law 916 = .ok (.iadd, 1) := dk_96 (dk_at dksL_law_29 21 rfl rfl)
theorem dL_law_917 : decode cL_law 917 = .ok (.iaload, 1) := dk_46 (dk_at dksL_law_29 22 rfl rfl)
theorem dL_law_918 : decode cL_law 918 = .ok (.invokevirtual 195, 3) := dk_182 0 195 (dk_at dksL_law_30 0 rfl rfl)
theorem dL_law_921 : decode cL_law 921 = .ok (.istore 7, 2) := dk_54 7 (dk_at dksL_law_30 3 rfl rfl)
theorem dL_law_923 : decode cL_law 923 = .ok (.aload_n 2, 1) := dk_44 (dk_at dksL_law_30 5 rfl rfl)
theorem dL_law_924 : decode cL_law 924 = .ok (.invokevirtual 161, 3) := dk_182 0 161 (dk_at dksL_law_30 6 rfl rfl)
theorem dL_law_927 : decode cL_law 927 = .ok (.iload 6, 2) := dk_21 6 (dk_at dksL_law_30 9 rfl rfl)
theorem dL_law_929 : decode cL_law 929 = .ok (.if_icmp .eq 5, 3) := dk_159 0 5 (dk_at dksL_law_30 11 rfl rfl)
theorem dL_law_932 : decode cL_law 932 = .ok (.iconst 0, 1) := dk_3 (dk_at dksL_law_30 14 rfl rfl)
theorem dL_law_933 : decode cL_law 933 = .ok (.ireturn, 1) := dk_172 (dk_at dksL_law_30 15 rfl rfl)
theorem dL_law_934 : decode cL_law 934 = .ok (.iload 6, 2) := dk_21 6 (dk_at dksL_law_30 16 rfl rfl)
theorem dL_law_936 : decode cL_law 936 = .ok (.ifCond .ne 15, 3) := dk_154 0 15 (dk_at dksL_law_30 18 rfl rfl)
theorem dL_law_939 : decode cL_law 939 = .ok (.aload_n 3, 1) := dk_45 (dk_at dksL_law_30 21 rfl rfl)
theorem dL_law_940 : decode cL_law 940 = .ok (.iconst 0, 1) := dk_3 (dk_at dksL_law_30 22 rfl rfl)
theorem dL_law_941 : decode cL_law 941 = .ok (.laload, 1) := dk_47 (dk_at dksL_law_30 23 rfl rfl)
theorem dL_law_942 : decode cL_law 942 = .ok (.iload 7, 2) := dk_21 7 (dk_at dksL_law_31 0 rfl rfl)
theorem dL_law_944 : decode cL_law 944 = .ok (.i2l, 1) := dk_133 (dk_at dksL_law_31 2 rfl rfl)
theorem dL_law_945 : decode cL_law 945 = .ok (.lcmp, 1) := dk_148 (dk_at dksL_law_31 3 rfl rfl)
theorem dL_law_946 : decode cL_law 946 = .ok (.ifCond .eq 5, 3) := dk_153 0 5 (dk_at dksL_law_31 4 rfl rfl)
theorem dL_law_949 : decode cL_law 949 = .ok (.iconst 0, 1) := dk_3 (dk_at dksL_law_31 7 rfl rfl)
theorem dL_law_950 : decode cL_law 950 = .ok (.ireturn, 1) := dk_172 (dk_at dksL_law_31 8 rfl rfl)
theorem dL_law_951 : decode cL_law 951 = .ok (.goto 1887, 3) := dk_167 7 95 (dk_at dksL_law_31 9 rfl rfl)
theorem dL_law_954 : decode cL_law 954 = .ok (.aload_n 1, 1) := dk_43 (dk_at dksL_law_31 12 rfl rfl)
theorem dL_law_955 : decode cL_law 955 = .ok (.invokevirtual 196, 3) := dk_182 0 196 (dk_at dksL_law_31 13 rfl rfl)
theorem dL_law_958 : decode cL_law 958 = .ok (.aload_n 2, 1) := dk_44 (dk_at dksL_law_31 16 rfl rfl)
theorem dL_law_959 : decode cL_law 959 = .ok (.invokevirtual 199, 3) := dk_182 0 199 (dk_at dksL_law_31 17 rfl rfl)
theorem dL_law_962 : decode cL_law 962 = .ok (.if_icmp .eq 1876, 3) := dk_159 7 84 (dk_at dksL_law_31 20 rfl rfl)
theorem dL_law_965 : decode cL_law 965 = .ok (.iconst 0, 1) := dk_3 (dk_at dksL_law_31 23 rfl rfl)
theorem dL_law_966 : decode cL_law 966 = .ok (.ireturn, 1) := dk_172 (dk_at dksL_law_32 0 rfl rfl)
theorem dL_law_967 : decode cL_law 967 = .ok (.aload_n 1, 1) := dk_43 (dk_at dksL_law_32 1 rfl rfl)
theorem dL_law_968 : decode cL_law 968 = .ok (.aload_n 0, 1) := dk_42 (dk_at dksL_law_32 2 rfl rfl)
theorem dL_law_969 : decode cL_law 969 = .ok (.iload 5, 2) := dk_21 5 (dk_at dksL_law_32 3 rfl rfl)
theorem dL_law_971 : decode cL_law 971 = .ok (.iconst 1, 1) := dk_4 (dk_at dksL_law_32 5 rfl rfl)
theorem dL_law_972 : decode cL_law 972 = .ok (.iadd, 1) := dk_96 (dk_at dksL_law_32 6 rfl rfl)
theorem dL_law_973 : decode cL_law 973 = .ok (.iaload, 1) := dk_46 (dk_at dksL_law_32 7 rfl rfl)
theorem dL_law_974 : decode cL_law 974 = .ok (.aload_n 3, 1) := dk_45 (dk_at dksL_law_32 8 rfl rfl)
theorem dL_law_975 : decode cL_law 975 = .ok (.invokestatic 200, 3) := dk_184 0 200 (dk_at dksL_law_32 9 rfl rfl)
theorem dL_law_978 : decode cL_law 978 = .ok (.istore 6, 2) := dk_54 6 (dk_at dksL_law_32 12 rfl rfl)
theorem dL_law_980 : decode cL_law 980 = .ok (.aload_n 2, 1) := dk_44 (dk_at dksL_law_32 14 rfl rfl)
theorem dL_law_981 : decode cL_law 981 = .ok (.aload_n 0, 1) := dk_42 (dk_at dksL_law_32 15 rfl rfl)
theorem dL_law_982 : decode cL_law 982 = .ok (.iload 5, 2) := dk_21 5 (dk_at dksL_law_32 16 rfl rfl)
theorem dL_law_984 : decode cL_law 984 = .ok (.iconst 1, 1) := dk_4 (dk_at dksL_law_32 18 rfl rfl)
theorem dL_law_985 : decode cL_law 985 = .ok (.iadd, 1) := dk_96 (dk_at dksL_law_32 19 rfl rfl)
theorem dL_law_986 : decode cL_law 986 = .ok (.iaload, 1) := dk_46 (dk_at dksL_law_32 20 rfl rfl)
theorem dL_law_987 : decode cL_law 987 = .ok (.invokevirtual 202, 3) := dk_182 0 202 (dk_at dksL_law_32 21 rfl rfl)
theorem dL_law_990 : decode cL_law 990 = .ok (.istore 7, 2) := dk_54 7 (dk_at dksL_law_33 0 rfl rfl)
theorem dL_law_992 : decode cL_law 992 = .ok (.aload_n 2, 1) := dk_44 (dk_at dksL_law_33 2 rfl rfl)
theorem dL_law_993 : decode cL_law 993 = .ok (.invokevirtual 161, 3) := dk_182 0 161 (dk_at dksL_law_33 3 rfl rfl)
theorem dL_law_996 : decode cL_law 996 = .ok (.iload 6, 2) := dk_21 6 (dk_at dksL_law_33 6 rfl rfl)
theorem dL_law_998 : decode cL_law 998 = .ok (.if_icmp .eq 5, 3) := dk_159 0 5 (dk_at dksL_law_33 8 rfl rfl)
theorem dL_law_1001 : decode cL_law 1001 = .ok (.iconst 0, 1) := dk_3 (dk_at dksL_law_33 11 rfl rfl)
theorem dL_law_1002 : decode cL_law 1002 = .ok (.ireturn, 1) := dk_172 (dk_at dksL_law_33 12 rfl rfl)
theorem dL_law_1003 : decode cL_law 1003 = .ok (.iload 6, 2) := dk_21 6 (dk_at dksL_law_33 13 rfl rfl)
theorem dL_law_1005 : decode cL_law 1005 = .ok (.ifCond .ne 15, 3) := dk_154 0 15 (dk_at dksL_law_33 15 rfl rfl)
theorem dL_law_1008 : decode cL_law 1008 = .ok (.aload_n 3, 1) := dk_45 (dk_at dksL_law_33 18 rfl rfl)
theorem dL_law_1009 : decode cL_law 1009 = .ok (.iconst 0, 1) := dk_3 (dk_at dksL_law_33 19 rfl rfl)
theorem dL_law_1010 : decode cL_law 1010 = .ok (.laload, 1) := dk_47 (dk_at dksL_law_33 20 rfl rfl)
theorem dL_law_1011 : decode cL_law 1011 = .ok (.iload 7, 2) := dk_21 7 (dk_at dksL_law_33 21 rfl rfl)
theorem dL_law_1013 : decode cL_law 1013 = .ok (.i2l, 1) := dk_133 (dk_at dksL_law_33 23 rfl rfl)
theorem dL_law_1014 : decode cL_law 1014 = .ok (.lcmp, 1) := dk_148 (dk_at dksL_law_34 0 rfl rfl)
theorem dL_law_1015 : decode cL_law 1015 = .ok (.ifCond .eq 5, 3) := dk_153 0 5 (dk_at dksL_law_34 1 rfl rfl)
theorem dL_law_1018 : decode cL_law 1018 = .ok (.iconst 0, 1) := dk_3 (dk_at dksL_law_34 4 rfl rfl)
theorem dL_law_1019 : decode cL_law 1019 = .ok (.ireturn, 1) := dk_172 (dk_at dksL_law_34 5 rfl rfl)
theorem dL_law_1020 : decode cL_law 1020 = .ok (.goto 1818, 3) := dk_167 7 26 (dk_at dksL_law_34 6 rfl rfl)
theorem dL_law_1023 : decode cL_law 1023 = .ok (.aload_n 1, 1) := dk_43 (dk_at dksL_law_34 9 rfl rfl)
theorem dL_law_1024 : decode cL_law 1024 = .ok (.aload_n 0, 1) := dk_42 (dk_at dksL_law_34 10 rfl rfl)
theorem dL_law_1025 : decode cL_law 1025 = .ok (.iload 5, 2) := dk_21 5 (dk_at dksL_law_34 11 rfl rfl)
theorem dL_law_1027 : decode cL_law 1027 = .ok (.iconst 1, 1) := dk_4 (dk_at dksL_law_34 13 rfl rfl)
theorem dL_law_1028 : decode cL_law 1028 = .ok (.iadd, 1) := dk_96 (dk_at dksL_law_34 14 rfl rfl)
theorem dL_law_1029 : decode cL_law 1029 = .ok (.iaload, 1) := dk_46 (dk_at dksL_law_34 15 rfl rfl)
theorem dL_law_1030 : decode cL_law 1030 = .ok (.aload_n 3, 1) := dk_45 (dk_at dksL_law_34 16 rfl rfl)
theorem dL_law_1031 : decode cL_law 1031 = .ok (.invokestatic 203, 3) := dk_184 0 203 (dk_at dksL_law_34 17 rfl rfl)
theorem dL_law_1034 : decode cL_law 1034 = .ok (.istore 6, 2) := dk_54 6 (dk_at dksL_law_34 20 rfl rfl)
theorem dL_law_1036 : decode cL_law 1036 = .ok (.aload_n 2, 1) := dk_44 (dk_at dksL_law_34 22 rfl rfl)
theorem dL_law_1037 : decode cL_law 1037 = .ok (.aload_n 0, 1) := dk_42 (dk_at dksL_law_34 23 rfl rfl)
theorem dL_law_1038 : decode cL_law 1038 = .ok (.iload 5, 2) := dk_21 5 (dk_at dksL_law_35 0 rfl rfl)
theorem dL_law_1040 : decode cL_law 1040 = .ok (.iconst 1, 1) := dk_4 (dk_at dksL_law_35 2 rfl rfl)
theorem dL_law_1041 : decode cL_law 1041 = .ok (.iadd, 1) := dk_96 (dk_at dksL_law_35 3 rfl rfl)
theorem dL_law_1042 : decode cL_law 1042 = .ok (.iaload, 1) := dk_46 (dk_at dksL_law_35 4 rfl rfl)
theorem dL_law_1043 : decode cL_law 1043 = .ok (.invokevirtual 205, 3) := dk_182 0 205 (dk_at dksL_law_35 5 rfl rfl)
theorem dL_law_1046 : decode cL_law 1046 = .ok (.istore 7, 2) := dk_54 7 (dk_at dksL_law_35 8 rfl rfl)
theorem dL_law_1048 : decode cL_law 1048 = .ok (.aload_n 2, 1) := dk_44 (dk_at dksL_law_35 10 rfl rfl)
theorem dL_law_1049 : decode cL_law 1049 = .ok (.invokevirtual 161, 3) := dk_182 0 161 (dk_at dksL_law_35 11 rfl rfl)
theorem dL_law_1052 : decode cL_law 1052 = .ok (.iload 6, 2) := dk_21 6 (dk_at dksL_law_35 14 rfl rfl)
theorem dL_law_1054 : decode cL_law 1054 = .ok (.if_icmp .eq 5, 3) := dk_159 0 5 (dk_at dksL_law_35 16 rfl rfl)
theorem dL_law_1057 : decode cL_law 1057 = .ok (.iconst 0, 1) := dk_3 (dk_at dksL_law_35 19 rfl rfl)
theorem dL_law_1058 : decode cL_law 1058 = .ok (.ireturn, 1) := dk_172 (dk_at dksL_law_35 20 rfl rfl)
theorem dL_law_1059 : decode cL_law 1059 = .ok (.iload 6, 2) := dk_21 6 (dk_at dksL_law_35 21 rfl rfl)
theorem dL_law_1061 : decode cL_law 1061 = .ok (.ifCond .ne 15, 3) := dk_154 0 15 (dk_at dksL_law_36 0 rfl rfl)
theorem dL_law_1064 : decode cL_law 1064 = .ok (.aload_n 3, 1) := dk_45 (dk_at dksL_law_36 3 rfl rfl)
theorem dL_law_1065 : decode cL_law 1065 = .ok (.iconst 0, 1) := dk_3 (dk_at dksL_law_36 4 rfl rfl)
theorem dL_law_1066 : decode cL_law 1066 = .ok (.laload, 1) := dk_47 (dk_at dksL_law_36 5 rfl rfl)
theorem dL_law_1067 : decode cL_law 1067 = .ok (.iload 7, 2) := dk_21 7 (dk_at dksL_law_36 6 rfl rfl)
theorem dL_law_1069 : decode cL_law 1069 = .ok (.i2l, 1) := dk_133 (dk_at dksL_law_36 8 rfl rfl)
theorem dL_law_1070 : decode cL_law 1070 = .ok (.lcmp, 1) := dk_148 (dk_at dksL_law_36 9 rfl rfl)
theorem dL_law_1071 : decode cL_law 1071 = .ok (.ifCond .eq 5, 3) := dk_153 0 5 (dk_at dksL_law_36 10 rfl rfl)
theorem dL_law_1074 : decode cL_law 1074 = .ok (.iconst 0, 1) := dk_3 (dk_at dksL_law_36 13 rfl rfl)
theorem dL_law_1075 : decode cL_law 1075 = .ok (.ireturn, 1) := dk_172 (dk_at dksL_law_36 14 rfl rfl)
theorem dL_law_1076 : decode cL_law 1076 = .ok (.goto 1762, 3) := dk_167 6 226 (dk_at dksL_law_36 15 rfl rfl)
theorem dL_law_1079 : decode cL_law 1079 = .ok (.aload_n 1, 1) := dk_43 (dk_at dksL_law_36 18 rfl rfl)
theorem dL_law_1080 : decode cL_law 1080 = .ok (.aload_n 0, 1) := dk_42 (dk_at dksL_law_36 19 rfl rfl)
theorem dL_law_1081 : decode cL_law 1081 = .ok (.iload 5, 2) := dk_21 5 (dk_at dksL_law_36 20 rfl rfl)
theorem dL_law_1083 : decode cL_law 1083 = .ok (.iconst 1, 1) := dk_4 (dk_at dksL_law_36 22 rfl rfl)
theorem dL_law_1084 : decode cL_law 1084 = .ok (.iadd, 1) := dk_96 (dk_at dksL_law_36 23 rfl rfl)
theorem dL_law_1085 : decode cL_law 1085 = .ok (.iaload, 1) := dk_46 (dk_at dksL_law_37 0 rfl rfl)
theorem dL_law_1086 : decode cL_law 1086 = .ok (.aload_n 3, 1) := dk_45 (dk_at dksL_law_37 1 rfl rfl)
theorem dL_law_1087 : decode cL_law 1087 = .ok (.invokestatic 206, 3) := dk_184 0 206 (dk_at dksL_law_37 2 rfl rfl)
theorem dL_law_1090 : decode cL_law 1090 = .ok (.istore 6, 2) := dk_54 6 (dk_at dksL_law_37 5 rfl rfl)
theorem dL_law_1092 : decode cL_law 1092 = .ok (.aload_n 2, 1) := dk_44 (dk_at dksL_law_37 7 rfl rfl)
theorem dL_law_1093 : decode cL_law 1093 = .ok (.aload_n 0, 1) := dk_42 (dk_at dksL_law_37 8 rfl rfl)
theorem dL_law_1094 : decode cL_law 1094 = .ok (.iload 5, 2) := dk_21 5 (dk_at dksL_law_37 9 rfl rfl)
theorem dL_law_1096 : decode cL_law 1096 = .ok (.iconst 1, 1) := dk_4 (dk_at dksL_law_37 11 rfl rfl)
theorem dL_law_1097 : decode cL_law 1097 = .ok (.iadd, 1) := dk_96 (dk_at dksL_law_37 12 rfl rfl)
theorem dL_law_1098 : decode cL_law 1098 = .ok (.iaload, 1) := dk_46 (dk_at dksL_law_37 13 rfl rfl)
theorem dL_law_1099 : decode cL_law 1099 = .ok (.invokevirtual 208, 3) := dk_182 0 208 (dk_at dksL_law_37 14 rfl rfl)
theorem dL_law_1102 : decode cL_law 1102 = .ok (.istore 7, 2) := dk_54 7 (dk_at dksL_law_37 17 rfl rfl)
theorem dL_law_1104 : decode cL_law 1104 = .ok (.aload_n 2, 1) := dk_44 (dk_at dksL_law_37 19 rfl rfl)
theorem dL_law_1105 : decode cL_law 1105 = .ok (.invokevirtual 161, 3) := dk_182 0 161 (dk_at dksL_law_37 20 rfl rfl)
theorem dL_law_1108 : decode cL_law 1108 = .ok (.iload 6, 2) := dk_21 6 (dk_at dksL_law_38 0 rfl rfl)
theorem dL_law_1110 : decode cL_law 1110 = .ok (.if_icmp .eq 5, 3) := dk_159 0 5 (dk_at dksL_law_38 2 rfl rfl)
theorem dL_law_1113 : decode cL_law 1113 = .ok (.iconst 0, 1) := dk_3 (dk_at dksL_law_38 5 rfl rfl)
theorem dL_law_1114 : decode cL_law 1114 = .ok (.ireturn, 1) := dk_172 (dk_at dksL_law_38 6 rfl rfl)
theorem dL_law_1115 : decode cL_law 1115 = .ok (.iload 6, 2) := dk_21 6 (dk_at dksL_law_38 7 rfl rfl)
theorem dL_law_1117 : decode cL_law 1117 = .ok (.ifCond .ne 15, 3) := dk_154 0 15 (dk_at dksL_law_38 9 rfl rfl)
theorem dL_law_1120 : decode cL_law 1120 = .ok (.aload_n 3, 1) := dk_45 (dk_at dksL_law_38 12 rfl rfl)
theorem dL_law_1121 : decode cL_law 1121 = .ok (.iconst 0, 1) := dk_3 (dk_at dksL_law_38 13 rfl rfl)
theorem dL_law_1122 : decode cL_law 1122 = .ok (.laload, 1) := dk_47 (dk_at dksL_law_38 14 rfl rfl)
theorem dL_law_1123 : decode cL_law 1123 = .ok (.iload 7, 2) := dk_21 7 (dk_at dksL_law_38 15 rfl rfl)
theorem dL_law_1125 : decode cL_law 1125 = .ok (.i2l, 1) := dk_133 (dk_at dksL_law_38 17 rfl rfl)
theorem dL_law_1126 : decode cL_law 1126 = .ok (.lcmp, 1) := dk_148 (dk_at dksL_law_38 18 rfl rfl)
theorem dL_law_1127 : decode cL_law 1127 = .ok (.ifCond .eq 5, 3) := dk_153 0 5 (dk_at dksL_law_38 19 rfl rfl)
theorem dL_law_1130 : decode cL_law 1130 = .ok (.iconst 0, 1) := dk_3 (dk_at dksL_law_38 22 rfl rfl)
theorem dL_law_1131 : decode cL_law 1131 = .ok (.ireturn, 1) := dk_172 (dk_at dksL_law_38 23 rfl rfl)
theorem dL_law_1132 : decode cL_law 1132 = .ok (.goto 1706, 3) := dk_167 6 170 (dk_at dksL_law_39 0 rfl rfl)
theorem dL_law_1135 : decode cL_law 1135 = .ok (.aload_n 1, 1) := dk_43 (dk_at dksL_law_39 3 rfl rfl)
theorem dL_law_1136 : decode cL_law 1136 = .ok (.aload_n 0, 1) := dk_42 (dk_at dksL_law_39 4 rfl rfl)
theorem dL_law_1137 : decode cL_law 1137 = .ok (.iload 5, 2) := dk_21 5 (dk_at dksL_law_39 5 rfl rfl)
theorem dL_law_1139 : decode cL_law 1139 = .ok (.iconst 1, 1) := dk_4 (dk_at dksL_law_39 7 rfl rfl)
theorem dL_law_1140 : decode cL_law 1140 = .ok (.iadd, 1) := dk_96 (dk_at dksL_law_39 8 rfl rfl)
theorem dL_law_1141 : decode cL_law 1141 = .ok (.iaload, 1) := dk_46 (dk_at dksL_law_39 9 rfl rfl)
theorem dL_law_1142 : decode cL_law 1142 = .ok (.aload_n 3, 1) := dk_45 (dk_at dksL_law_39 10 rfl rfl)
theorem dL_law_1143 : decode cL_law 1143 = .ok (.invokestatic 209, 3) := dk_184 0 209 (dk_at dksL_law_39 11 rfl rfl)
theorem dL_law_1146 : decode cL_law 1146 = .ok (.istore 6, 2) := dk_54 6 (dk_at dksL_law_39 14 rfl rfl)
theorem dL_law_1148 : decode cL_law 1148 = .ok (.aload_n 2, 1) := dk_44 (dk_at dksL_law_39 16 rfl rfl)
theorem dL_law_1149 : decode cL_law 1149 = .ok (.aload_n 0, 1) := dk_42 (dk_at dksL_law_39 17 rfl rfl)
theorem dL_law_1150 : decode cL_law 1150 = .ok (.iload 5, 2) := dk_21 5 (dk_at dksL_law_39 18 rfl rfl)
theorem dL_law_1152 : decode cL_law 1152 = .ok (.iconst 1, 1) := dk_4 (dk_at dksL_law_39 20 rfl rfl)
theorem dL_law_1153 : decode cL_law 1153 = .ok (.iadd, 1) := dk_96 (dk_at dksL_law_39 21 rfl rfl)
theorem dL_law_1154 : decode cL_law 1154 = .ok (.iaload, 1) := dk_46 (dk_at dksL_law_39 22 rfl rfl)
theorem dL_law_1155 : decode cL_law 1155 = .ok (.invokevirtual 211, 3) := dk_182 0 211 (dk_at dksL_law_40 0 rfl rfl)
theorem dL_law_1158 : decode cL_law 1158 = .ok (.istore 7, 2) := dk_54 7 (dk_at dksL_law_40 3 rfl rfl)
theorem dL_law_1160 : decode cL_law 1160 = .ok (.aload_n 2, 1) := dk_44 (dk_at dksL_law_40 5 rfl rfl)
theorem dL_law_1161 : decode cL_law 1161 = .ok (.invokevirtual 161, 3) := dk_182 0 161 (dk_at dksL_law_40 6 rfl rfl)
theorem dL_law_1164 : decode cL_law 1164 = .ok (.iload 6, 2) := dk_21 6 (dk_at dksL_law_40 9 rfl rfl)
theorem dL_law_1166 : decode cL_law 1166 = .ok (.if_icmp .eq 5, 3) := dk_159 0 5 (dk_at dksL_law_40 11 rfl rfl)
theorem dL_law_1169 : decode cL_law 1169 = .ok (.iconst 0, 1) := dk_3 (dk_at dksL_law_40 14 rfl rfl)
theorem dL_law_1170 : decode cL_law 1170 = .ok (.ireturn, 1) := dk_172 (dk_at dksL_law_40 15 rfl rfl)
theorem dL_law_1171 : decode cL_law 1171 = .ok (.iload 6, 2) := dk_21 6 (dk_at dksL_law_40 16 rfl rfl)
theorem dL_law_1173 : decode cL_law 1173 = .ok (.ifCond .ne 15, 3) := dk_154 0 15 (dk_at dksL_law_40 18 rfl rfl)
theorem dL_law_1176 : decode cL_law 1176 = .ok (.aload_n 3, 1) := dk_45 (dk_at dksL_law_40 21 rfl rfl)
theorem dL_law_1177 : decode cL_law 1177 = .ok (.iconst 0, 1) := dk_3 (dk_at dksL_law_40 22 rfl rfl)
theorem dL_law_1178 : decode cL_law 1178 = .ok (.laload, 1) := dk_47 (dk_at dksL_law_40 23 rfl rfl)
theorem dL_law_1179 : decode cL_law 1179 = .ok (.iload 7, 2) := dk_21 7 (dk_at dksL_law_41 0 rfl rfl)
theorem dL_law_1181 : decode cL_law 1181 = .ok (.i2l, 1) := dk_133 (dk_at dksL_law_41 2 rfl rfl)
theorem dL_law_1182 : decode cL_law 1182 = .ok (.lcmp, 1) := dk_148 (dk_at dksL_law_41 3 rfl rfl)
theorem dL_law_1183 : decode cL_law 1183 = .ok (.ifCond .eq 5, 3) := dk_153 0 5 (dk_at dksL_law_41 4 rfl rfl)
theorem dL_law_1186 : decode cL_law 1186 = .ok (.iconst 0, 1) := dk_3 (dk_at dksL_law_41 7 rfl rfl)
theorem dL_law_1187 : decode cL_law 1187 = .ok (.ireturn, 1) := dk_172 (dk_at dksL_law_41 8 rfl rfl)
theorem dL_law_1188 : decode cL_law 1188 = .ok (.goto 1650, 3) := dk_167 6 114 (dk_at dksL_law_41 9 rfl rfl)
theorem dL_law_1191 : decode cL_law 1191 = .ok (.aload_n 1, 1) := dk_43 (dk_at dksL_law_41 12 rfl rfl)
theorem dL_law_1192 : decode cL_law 1192 = .ok (.aload_n 0, 1) := dk_42 (dk_at dksL_law_41 13 rfl rfl)
theorem dL_law_1193 : decode cL_law 1193 = .ok (.iload 5, 2) := dk_21 5 (dk_at dksL_law_41 14 rfl rfl)
theorem dL_law_1195 : decode cL_law 1195 = .ok (.iconst 1, 1) := dk_4 (dk_at dksL_law_41 16 rfl rfl)
theorem dL_law_1196 : decode cL_law 1196 = .ok (.iadd, 1) := dk_96 (dk_at dksL_law_41 17 rfl rfl)
theorem dL_law_1197 : decode cL_law 1197 = .ok (.iaload, 1) := dk_46 (dk_at dksL_law_41 18 rfl rfl)
theorem dL_law_1198 : decode cL_law 1198 = .ok (.aload_n 3, 1) := dk_45 (dk_at dksL_law_41 19 rfl rfl)
theorem dL_law_1199 : decode cL_law 1199 = .ok (.invokestatic 212, 3) := dk_184 0 212 (dk_at dksL_law_41 20 rfl rfl)
theorem dL_law_1202 : decode cL_law 1202 = .ok (.istore 6, 2) := dk_54 6 (dk_at dksL_law_42 0 rfl rfl)
theorem dL_law_1204 : decode cL_law 1204 = .ok (.aload_n 2, 1) := dk_44 (dk_at dksL_law_42 2 rfl rfl)
theorem dL_law_1205 : decode cL_law 1205 = .ok (.aload_n 0, 1) := dk_42 (dk_at dksL_law_42 3 rfl rfl)
theorem dL_law_1206 : decode cL_law 1206 = .ok (.iload 5, 2) := dk_21 5 (dk_at dksL_law_42 4 rfl rfl)
theorem dL_law_1208 : decode cL_law 1208 = .ok (.iconst 1, 1) := dk_4 (dk_at dksL_law_42 6 rfl rfl)
theorem dL_law_1209 : decode cL_law 1209 = .ok (.iadd, 1) := dk_96 (dk_at dksL_law_42 7 rfl rfl)
theorem dL_law_1210 : decode cL_law 1210 = .ok (.iaload, 1) := dk_46 (dk_at dksL_law_42 8 rfl rfl)
theorem dL_law_1211 : decode cL_law 1211 = .ok (.invokevirtual 214, 3) := dk_182 0 214 (dk_at dksL_law_42 9 rfl rfl)
theorem dL_law_1214 : decode cL_law 1214 = .ok (.istore 7, 2) := dk_54 7 (dk_at dksL_law_42 12 rfl rfl)
theorem dL_law_1216 : decode cL_law 1216 = .ok (.aload_n 2, 1) := dk_44 (dk_at dksL_law_42 14 rfl rfl)
theorem dL_law_1217 : decode cL_law 1217 = .ok (.invokevirtual 161, 3) := dk_182 0 161 (dk_at dksL_law_42 15 rfl rfl)
theorem dL_law_1220 : decode cL_law 1220 = .ok (.iload 6, 2) := dk_21 6 (dk_at dksL_law_42 18 rfl rfl)
theorem dL_law_1222 : decode cL_law 1222 = .ok (.if_icmp .eq 5, 3) := dk_159 0 5 (dk_at dksL_law_42 20 rfl rfl)
theorem dL_law_1225 : decode cL_law 1225 = .ok (.iconst 0, 1) := dk_3 (dk_at dksL_law_42 23 rfl rfl)
theorem dL_law_1226 : decode cL_law 1226 = .ok (.ireturn, 1) := dk_172 (dk_at dksL_law_43 0 rfl rfl)
theorem dL_law_1227 : decode cL_law 1227 = .ok (.iload 6, 2) := dk_21 6 (dk_at dksL_law_43 1 rfl rfl)
theorem dL_law_1229 : decode cL_law 1229 = .ok (.ifCond .ne 15, 3) := dk_154 0 15 (dk_at dksL_law_43 3 rfl rfl)
theorem dL_law_1232 : decode cL_law 1232 = .ok (.aload_n 3, 1) := dk_45 (dk_at dksL_law_43 6 rfl rfl)
theorem dL_law_1233 : decode cL_law 1233 = .ok (.iconst 0, 1) := dk_3 (dk_at dksL_law_43 7 rfl rfl)
theorem dL_law_1234 : decode cL_law 1234 = .ok (.laload, 1) := dk_47 (dk_at dksL_law_43 8 rfl rfl)
theorem dL_law_1235 : decode cL_law 1235 = .ok (.iload 7, 2) := dk_21 7 (dk_at dksL_law_43 9 rfl rfl)
theorem dL_law_1237 : decode cL_law 1237 = .ok (.i2l, 1) := dk_133 (dk_at dksL_law_43 11 rfl rfl)
theorem dL_law_1238 : decode cL_law 1238 = .ok (.lcmp, 1) := dk_148 (dk_at dksL_law_43 12 rfl rfl)
theorem dL_law_1239 : decode cL_law 1239 = .ok (.ifCond .eq 5, 3) := dk_153 0 5 (dk_at dksL_law_43 13 rfl rfl)
theorem dL_law_1242 : decode cL_law 1242 = .ok (.iconst 0, 1) := dk_3 (dk_at dksL_law_43 16 rfl rfl)
theorem dL_law_1243 : decode cL_law 1243 = .ok (.ireturn, 1) := dk_172 (dk_at dksL_law_43 17 rfl rfl)
theorem dL_law_1244 : decode cL_law 1244 = .ok (.goto 1594, 3) := dk_167 6 58 (dk_at dksL_law_43 18 rfl rfl)
theorem dL_law_1247 : decode cL_law 1247 = .ok (.aload_n 1, 1) := dk_43 (dk_at dksL_law_43 21 rfl rfl)
theorem dL_law_1248 : decode cL_law 1248 = .ok (.aload_n 0, 1) := dk_42 (dk_at dksL_law_43 22 rfl rfl)
theorem dL_law_1249 : decode cL_law 1249 = .ok (.iload 5, 2) := dk_21 5 (dk_at dksL_law_44 0 rfl rfl)
theorem dL_law_1251 : decode cL_law 1251 = .ok (.iconst 1, 1) := dk_4 (dk_at dksL_law_44 2 rfl rfl)
theorem dL_law_1252 : decode cL_law 1252 = .ok (.iadd, 1) := dk_96 (dk_at dksL_law_44 3 rfl rfl)
theorem dL_law_1253 : decode cL_law 1253 = .ok (.iaload, 1) := dk_46 (dk_at dksL_law_44 4 rfl rfl)
theorem dL_law_1254 : decode cL_law 1254 = .ok (.aload_n 0, 1) := dk_42 (dk_at dksL_law_44 5 rfl rfl)
theorem dL_law_1255 : decode cL_law 1255 = .ok (.iload 5, 2) := dk_21 5 (dk_at dksL_law_44 6 rfl rfl)
theorem dL_law_1257 : decode cL_law 1257 = .ok (.iconst 2, 1) := dk_5 (dk_at dksL_law_44 8 rfl rfl)
theorem dL_law_1258 : decode cL_law 1258 = .ok (.iadd, 1) := dk_96 (dk_at dksL_law_44 9 rfl rfl)
theorem dL_law_1259 : decode cL_law 1259 = .ok (.iaload, 1) := dk_46 (dk_at dksL_law_44 10 rfl rfl)
theorem dL_law_1260 : decode cL_law 1260 = .ok (.aload_n 0, 1) := dk_42 (dk_at dksL_law_44 11 rfl rfl)
theorem dL_law_1261 : decode cL_law 1261 = .ok (.iload 5, 2) := dk_21 5 (dk_at dksL_law_44 12 rfl rfl)
theorem dL_law_1263 : decode cL_law 1263 = .ok (.iconst 3, 1) := dk_6 (dk_at dksL_law_44 14 rfl rfl)
theorem dL_law_1264 : decode cL_law 1264 = .ok (.iadd, 1) := dk_96 (dk_at dksL_law_44 15 rfl rfl)
theorem dL_law_1265 : decode cL_law 1265 = .ok (.iaload, 1) := dk_46 (dk_at dksL_law_44 16 rfl rfl)
theorem dL_law_1266 : decode cL_law 1266 = .ok (.aload_n 3, 1) := dk_45 (dk_at dksL_law_44 17 rfl rfl)
theorem dL_law_1267 : decode cL_law 1267 = .ok (.invokestatic 215, 3) := dk_184 0 215 (dk_at dksL_law_44 18 rfl rfl)
theorem dL_law_1270 : decode cL_law 1270 = .ok (.istore 6, 2) := dk_54 6 (dk_at dksL_law_44 21 rfl rfl)
theorem dL_law_1272 : decode cL_law 1272 = .ok (.aload_n 2, 1) := dk_44 (dk_at dksL_law_44 23 rfl rfl)
theorem dL_law_1273 : decode cL_law 1273 = .ok (.aload_n 0, 1) := dk_42 (dk_at dksL_law_45 0 rfl rfl)
theorem dL_law_1274 : decode cL_law 1274 = .ok (.iload 5, 2) := dk_21 5 (dk_at dksL_law_45 1 rfl rfl)
theorem dL_law_1276 : decode cL_law 1276 = .ok (.iconst 1, 1) := dk_4 (dk_at dksL_law_45 3 rfl rfl)
theorem dL_law_1277 : decode cL_law 1277 = .ok (.iadd, 1) := dk_96 (dk_at dksL_law_45 4 rfl rfl)
theorem dL_law_1278 : decode cL_law 1278 = .ok (.iaload, 1) := dk_46 (dk_at dksL_law_45 5 rfl rfl)
theorem dL_law_1279 : decode cL_law 1279 = .ok (.aload_n 0, 1) := dk_42 (dk_at dksL_law_45 6 rfl rfl)
theorem dL_law_1280 : decode cL_law 1280 = .ok (.iload 5, 2) := dk_21 5 (dk_at dksL_law_45 7 rfl rfl)
theorem dL_law_1282 : decode cL_law 1282 = .ok (.iconst 2, 1) := dk_5 (dk_at dksL_law_45 9 rfl rfl)
theorem dL_law_1283 : decode cL_law 1283 = .ok (.iadd, 1) := dk_96 (dk_at dksL_law_45 10 rfl rfl)
theorem dL_law_1284 : decode cL_law 1284 = .ok (.iaload, 1) := dk_46 (dk_at dksL_law_45 11 rfl rfl)
theorem dL_law_1285 : decode cL_law 1285 = .ok (.aload_n 0, 1) := dk_42 (dk_at dksL_law_45 12 rfl rfl)
theorem dL_law_1286 : decode cL_law 1286 = .ok (.iload 5, 2) := dk_21 5 (dk_at dksL_law_45 13 rfl rfl)
theorem dL_law_1288 : decode cL_law 1288 = .ok (.iconst 3, 1) := dk_6 (dk_at dksL_law_45 15 rfl rfl)
theorem dL_law_1289 : decode cL_law 1289 = .ok (.iadd, 1) := dk_96 (dk_at dksL_law_45 16 rfl rfl)
theorem dL_law_1290 : decode cL_law 1290 = .ok (.iaload, 1) := dk_46 (dk_at dksL_law_45 17 rfl rfl)
theorem dL_law_1291 : decode cL_law 1291 = .ok (.invokevirtual 218, 3) := dk_182 0 218 (dk_at dksL_law_45 18 rfl rfl)
theorem dL_law_1294 : decode cL_law 1294 = .ok (.istore 7, 2) := dk_54 7 (dk_at dksL_law_45 21 rfl rfl)
theorem dL_law_1296 : decode cL_law 1296 = .ok (.aload_n 2, 1) := dk_44 (dk_at dksL_law_45 23 rfl rfl)
theorem dL_law_1297 : decode cL_law 1297 = .ok (.invokevirtual 161, 3) := dk_182 0 161 (dk_at dksL_law_46 0 rfl rfl)
theorem dL_law_1300 : decode cL_law 1300 = .ok (.iload 6, 2) := dk_21 6 (dk_at dksL_law_46 3 rfl rfl)
theorem dL_law_1302 : decode cL_law 1302 = .ok (.if_icmp .eq 5, 3) := dk_159 0 5 (dk_at dksL_law_46 5 rfl rfl)
theorem dL_law_1305 : decode cL_law 1305 = .ok (.iconst 0, 1) := dk_3 (dk_at dksL_law_46 8 rfl rfl)
theorem dL_law_1306 : decode cL_law 1306 = .ok (.ireturn, 1) := dk_172 (dk_at dksL_law_46 9 rfl rfl)
theorem dL_law_1307 : decode cL_law 1307 = .ok (.iload 6, 2) := dk_21 6 (dk_at dksL_law_46 10 rfl rfl)
theorem dL_law_1309 : decode cL_law 1309 = .ok (.ifCond .ne 15, 3) := dk_154 0 15 (dk_at dksL_law_46 12 rfl rfl)
theorem dL_law_1312 : decode cL_law 1312 = .ok (.aload_n 3, 1) := dk_45 (dk_at dksL_law_46 15 rfl rfl)
theorem dL_law_1313 : decode cL_law 1313 = .ok (.iconst 0, 1) := dk_3 (dk_at dksL_law_46 16 rfl rfl)
theorem dL_law_1314 : decode cL_law 1314 = .ok (.laload, 1) := dk_47 (dk_at dksL_law_46 17 rfl rfl)
theorem dL_law_1315 : decode cL_law 1315 = .ok (.iload 7, 2) := dk_21 7 (dk_at dksL_law_46 18 rfl rfl)
theorem dL_law_1317 : decode cL_law 1317 = .ok (.i2l, 1) := dk_133 (dk_at dksL_law_46 20 rfl rfl)
theorem dL_law_1318 : decode cL_law 1318 = .ok (.lcmp, 1) := dk_148 (dk_at dksL_law_46 21 rfl rfl)
theorem dL_law_1319 : decode cL_law 1319 = .ok (.ifCond .eq 5, 3) := dk_153 0 5 (dk_at dksL_law_47 0 rfl rfl)
theorem dL_law_1322 : decode cL_law 1322 = .ok (.iconst 0, 1) := dk_3 (dk_at dksL_law_47 3 rfl rfl)
theorem dL_law_1323 : decode cL_law 1323 = .ok (.ireturn, 1) := dk_172 (dk_at dksL_law_47 4 rfl rfl)
theorem dL_law_1324 : decode cL_law 1324 = .ok (.goto 1514, 3) := dk_167 5 234 (dk_at dksL_law_47 5 rfl rfl)
theorem dL_law_1327 : decode cL_law 1327 = .ok (.aload_n 1, 1) := dk_43 (dk_at dksL_law_47 8 rfl rfl)
theorem dL_law_1328 : decode cL_law 1328 = .ok (.aload_n 0, 1) := dk_42 (dk_at dksL_law_47 9 rfl rfl)
theorem dL_law_1329 : decode cL_law 1329 = .ok (.iload 5, 2) := dk_21 5 (dk_at dksL_law_47 10 rfl rfl)
theorem dL_law_1331 : decode cL_law 1331 = .ok (.iconst 1, 1) := dk_4 (dk_at dksL_law_47 12 rfl rfl)
theorem dL_law_1332 : decode cL_law 1332 = .ok (.iadd, 1) := dk_96 (dk_at dksL_law_47 13 rfl rfl)
theorem dL_law_1333 : decode cL_law 1333 = .ok (.iaload, 1) := dk_46 (dk_at dksL_law_47 14 rfl rfl)
theorem dL_law_1334 : decode cL_law 1334 = .ok (.aload_n 0, 1) := dk_42 (dk_at dksL_law_47 15 rfl rfl)
theorem dL_law_1335 : decode cL_law 1335 = .ok (.iload 5, 2) := dk_21 5 (dk_at dksL_law_47 16 rfl rfl)
theorem dL_law_1337 : decode cL_law 1337 = .ok (.iconst 2, 1) := dk_5 (dk_at dksL_law_47 18 rfl rfl)
theorem dL_law_1338 : decode cL_law 1338 = .ok (.iadd, 1) := dk_96 (dk_at dksL_law_47 19 rfl rfl)
theorem dL_law_1339 : decode cL_law 1339 = .ok (.iaload, 1) := dk_46 (dk_at dksL_law_47 20 rfl rfl)
theorem dL_law_1340 : decode cL_law 1340 = .ok (.aload_n 0, 1) := dk_42 (dk_at dksL_law_47 21 rfl rfl)
theorem dL_law_1341 : decode cL_law 1341 = .ok (.iload 5, 2) := dk_21 5 (dk_at dksL_law_47 22 rfl rfl)
theorem dL_law_1343 : decode cL_law 1343 = .ok (.iconst 3, 1) := dk_6 (dk_at dksL_law_48 0 rfl rfl)
theorem dL_law_1344 : decode cL_law 1344 = .ok (.iadd, 1) := dk_96 (dk_at dksL_law_48 1 rfl rfl)
theorem dL_law_1345 : decode cL_law 1345 = .ok (.iaload, 1) := dk_46 (dk_at dksL_law_48 2 rfl rfl)
theorem dL_law_1346 : decode cL_law 1346 = .ok (.aload_n 3, 1) := dk_45 (dk_at dksL_law_48 3 rfl rfl)
theorem dL_law_1347 : decode cL_law 1347 = .ok (.invokestatic 219, 3) := dk_184 0 219 (dk_at dksL_law_48 4 rfl rfl)
theorem dL_law_1350 : decode cL_law 1350 = .ok (.istore 6, 2) := dk_54 6 (dk_at dksL_law_48 7 rfl rfl)
theorem dL_law_1352 : decode cL_law 1352 = .ok (.aload_n 2, 1) := dk_44 (dk_at dksL_law_48 9 rfl rfl)
theorem dL_law_1353 : decode cL_law 1353 = .ok (.aload_n 0, 1) := dk_42 (dk_at dksL_law_48 10 rfl rfl)
theorem dL_law_1354 : decode cL_law 1354 = .ok (.iload 5, 2) := dk_21 5 (dk_at dksL_law_48 11 rfl rfl)
theorem dL_law_1356 : decode cL_law 1356 = .ok (.iconst 1, 1) := dk_4 (dk_at dksL_law_48 13 rfl rfl)
theorem dL_law_1357 : decode cL_law 1357 = .ok (.iadd, 1) := dk_96 (dk_at dksL_law_48 14 rfl rfl)
theorem dL_law_1358 : decode cL_law 1358 = .ok (.iaload, 1) := dk_46 (dk_at dksL_law_48 15 rfl rfl)
theorem dL_law_1359 : decode cL_law 1359 = .ok (.aload_n 0, 1) := dk_42 (dk_at dksL_law_48 16 rfl rfl)
theorem dL_law_1360 : decode cL_law 1360 = .ok (.iload 5, 2) := dk_21 5 (dk_at dksL_law_48 17 rfl rfl)
theorem dL_law_1362 : decode cL_law 1362 = .ok (.iconst 2, 1) := dk_5 (dk_at dksL_law_48 19 rfl rfl)
theorem dL_law_1363 : decode cL_law 1363 = .ok (.iadd, 1) := dk_96 (dk_at dksL_law_48 20 rfl rfl)
theorem dL_law_1364 : decode cL_law 1364 = .ok (.iaload, 1) := dk_46 (dk_at dksL_law_48 21 rfl rfl)
theorem dL_law_1365 : decode cL_law 1365 = .ok (.aload_n 0, 1) := dk_42 (dk_at dksL_law_48 22 rfl rfl)
theorem dL_law_1366 : decode cL_law 1366 = .ok (.iload 5, 2) := dk_21 5 (dk_at dksL_law_49 0 rfl rfl)
theorem dL_law_1368 : decode cL_law 1368 = .ok (.iconst 3, 1) := dk_6 (dk_at dksL_law_49 2 rfl rfl)
theorem dL_law_1369 : decode cL_law 1369 = .ok (.iadd, 1) := dk_96 (dk_at dksL_law_49 3 rfl rfl)
theorem dL_law_1370 : decode cL_law 1370 = .ok (.iaload, 1) := dk_46 (dk_at dksL_law_49 4 rfl rfl)
theorem dL_law_1371 : decode cL_law 1371 = .ok (.invokevirtual 221, 3) := dk_182 0 221 (dk_at dksL_law_49 5 rfl rfl)
theorem dL_law_1374 : decode cL_law 1374 = .ok (.istore 7, 2) := dk_54 7 (dk_at dksL_law_49 8 rfl rfl)
theorem dL_law_1376 : decode cL_law 1376 = .ok (.aload_n 2, 1) := dk_44 (dk_at dksL_law_49 10 rfl rfl)
theorem dL_law_1377 : decode cL_law 1377 = .ok (.invokevirtual 161, 3) := dk_182 0 161 (dk_at dksL_law_49 11 rfl rfl)
theorem dL_law_1380 : decode cL_law 1380 = .ok (.iload 6, 2) := dk_21 6 (dk_at dksL_law_49 14 rfl rfl)
theorem dL_law_1382 : decode cL_law 1382 = .ok (.if_icmp .eq 5, 3) := dk_159 0 5 (dk_at dksL_law_49 16 rfl rfl)
theorem dL_law_1385 : decode cL_law 1385 = .ok (.iconst 0, 1) := dk_3 (dk_at dksL_law_49 19 rfl rfl)
theorem dL_law_1386 : decode cL_law 1386 = .ok (.ireturn, 1) := dk_172 (dk_at dksL_law_49 20 rfl rfl)
theorem dL_law_1387 : decode cL_law 1387 = .ok (.iload 6, 2) := dk_21 6 (dk_at dksL_law_49 21 rfl rfl)
theorem dL_law_1389 : decode cL_law 1389 = .ok (.ifCond .ne 15, 3) := dk_154 0 15 (dk_at dksL_law_50 0 rfl rfl)
theorem dL_law_1392 : decode cL_law 1392 = .ok (.aload_n 3, 1) := dk_45 (dk_at dksL_law_50 3 rfl rfl)
theorem dL_law_1393 : decode cL_law 1393 = .ok (.iconst 0, 1) := dk_3 (dk_at dksL_law_50 4 rfl rfl)
theorem dL_law_1394 : decode cL_law 1394 = .ok (.laload, 1) := dk_47 (dk_at dksL_law_50 5 rfl rfl)
theorem dL_law_1395 : decode cL_law 1395 = .ok (.iload 7, 2) := dk_21 7 (dk_at dksL_law_50 6 rfl rfl)
theorem dL_law_1397 : decode cL_law 1397 = .ok (.i2l, 1) := dk_133 (dk_at dksL_law_50 8 rfl rfl)
theorem dL_law_1398 : decode cL_law 1398 = .ok (.lcmp, 1) := dk_148 (dk_at dksL_law_50 9 rfl rfl)
theorem dL_law_1399 : decode cL_law 1399 = .ok (.ifCond .eq 5, 3) := dk_153 0 5 (dk_at dksL_law_50 10 rfl rfl)
theorem dL_law_1402 : decode cL_law 1402 = .ok (.iconst 0, 1) := dk_3 (dk_at dksL_law_50 13 rfl rfl)
theorem dL_law_1403 : decode cL_law 1403 = .ok (.ireturn, 1) := dk_172 (dk_at dksL_law_50 14 rfl rfl)
theorem dL_law_1404 : decode cL_law 1404 = .ok (.goto 1434, 3) := dk_167 5 154 (dk_at dksL_law_50 15 rfl rfl)
theorem dL_law_1407 : decode cL_law 1407 = .ok (.aload_n 1, 1) := dk_43 (dk_at dksL_law_50 18 rfl rfl)
theorem dL_law_1408 : decode cL_law 1408 = .ok (.aload_n 0, 1) := dk_42 (dk_at dksL_law_50 19 rfl rfl)
theorem dL_law_1409 : decode cL_law 1409 = .ok (.iload 5, 2) := dk_21 5 (dk_at dksL_law_50 20 rfl rfl)
theorem dL_law_1411 : decode cL_law 1411 = .ok (.iconst 1, 1) := dk_4 (dk_at dksL_law_50 22 rfl rfl)
theorem dL_law_1412 : decode cL_law 1412 = .ok (.iadd, 1) := dk_96 (dk_at dksL_law_50 23 rfl rfl)
theorem dL_law_1413 : decode cL_law 1413 = .ok (.iaload, 1) := dk_46 (dk_at dksL_law_51 0 rfl rfl)
theorem dL_law_1414 : decode cL_law 1414 = .ok (.aload_n 0, 1) := dk_42 (dk_at dksL_law_51 1 rfl rfl)
theorem dL_law_1415 : decode cL_law 1415 = .ok (.iload 5, 2) := dk_21 5 (dk_at dksL_law_51 2 rfl rfl)
theorem dL_law_1417 : decode cL_law 1417 = .ok (.iconst 2, 1) := dk_5 (dk_at dksL_law_51 4 rfl rfl)
theorem dL_law_1418 : decode cL_law 1418 = .ok (.iadd, 1) := dk_96 (dk_at dksL_law_51 5 rfl rfl)
theorem dL_law_1419 : decode cL_law 1419 = .ok (.iaload, 1) := dk_46 (dk_at dksL_law_51 6 rfl rfl)
theorem dL_law_1420 : decode cL_law 1420 = .ok (.aload_n 0, 1) := dk_42 (dk_at dksL_law_51 7 rfl rfl)
theorem dL_law_1421 : decode cL_law 1421 = .ok (.iload 5, 2) := dk_21 5 (dk_at dksL_law_51 8 rfl rfl)
theorem dL_law_1423 : decode cL_law 1423 = .ok (.iconst 3, 1) := dk_6 (dk_at dksL_law_51 10 rfl rfl)
theorem dL_law_1424 : decode cL_law 1424 = .ok (.iadd, 1) := dk_96 (dk_at dksL_law_51 11 rfl rfl)
theorem dL_law_1425 : decode cL_law 1425 = .ok (.iaload, 1) := dk_46 (dk_at dksL_law_51 12 rfl rfl)
theorem dL_law_1426 : decode cL_law 1426 = .ok (.aload_n 3, 1) := dk_45 (dk_at dksL_law_51 13 rfl rfl)
theorem dL_law_1427 : decode cL_law 1427 = .ok (.invokestatic 222, 3) := dk_184 0 222 (dk_at dksL_law_51 14 rfl rfl)
theorem dL_law_1430 : decode cL_law 1430 = .ok (.istore 6, 2) := dk_54 6 (dk_at dksL_law_51 17 rfl rfl)
theorem dL_law_1432 : decode cL_law 1432 = .ok (.aload_n 2, 1) := dk_44 (dk_at dksL_law_51 19 rfl rfl)
theorem dL_law_1433 : decode cL_law 1433 = .ok (.aload_n 0, 1) := dk_42 (dk_at dksL_law_51 20 rfl rfl)
theorem dL_law_1434 : decode cL_law 1434 = .ok (.iload 5, 2) := dk_21 5 (dk_at dksL_law_51 21 rfl rfl)
theorem dL_law_1436 : decode cL_law 1436 = .ok (.iconst 1, 1) := dk_4 (dk_at dksL_law_51 23 rfl rfl)
theorem dL_law_1437 : decode cL_law 1437 = .ok (.iadd, 1) := dk_96 (dk_at dksL_law_52 0 rfl rfl)
theorem dL_law_1438 : decode cL_law 1438 = .ok (.iaload, 1) := dk_46 (dk_at dksL_law_52 1 rfl rfl)
theorem dL_law_1439 : decode cL_law 1439 = .ok (.aload_n 0, 1) := dk_42 (dk_at dksL_law_52 2 rfl rfl)
theorem dL_law_1440 : decode cL_law 1440 = .ok (.iload 5, 2) := dk_21 5 (dk_at dksL_law_52 3 rfl rfl)
theorem dL_law_1442 : decode cL_law 1442 = .ok (.iconst 2, 1) := dk_5 (dk_at dksL_law_52 5 rfl rfl)
theorem dL_law_1443 : decode cL_law 1443 = .ok (.iadd, 1) := dk_96 (dk_at dksL_law_52 6 rfl rfl)
theorem dL_law_1444 : decode cL_law 1444 = .ok (.iaload, 1) := dk_46 (dk_at dksL_law_52 7 rfl rfl)
theorem dL_law_1445 : decode cL_law 1445 = .ok (.aload_n 0, 1) := dk_42 (dk_at dksL_law_52 8 rfl rfl)
theorem dL_law_1446 : decode cL_law 1446 = .ok (.iload 5, 2) := dk_21 5 (dk_at dksL_law_52 9 rfl rfl)
theorem dL_law_1448 : decode cL_law 1448 = .ok (.iconst 3, 1) := dk_6 (dk_at dksL_law_52 11 rfl rfl)
theorem dL_law_1449 : decode cL_law 1449 = .ok (.iadd, 1) := dk_96 (dk_at dksL_law_52 12 rfl rfl)
theorem dL_law_1450 : decode cL_law 1450 = .ok (.iaload, 1) := dk_46 (dk_at dksL_law_52 13 rfl rfl)
theorem dL_law_1451 : decode cL_law 1451 = .ok (.invokevirtual 224, 3) := dk_182 0 224 (dk_at dksL_law_52 14 rfl rfl)
theorem dL_law_1454 : decode cL_law 1454 = .ok (.istore 7, 2) := dk_54 7 (dk_at dksL_law_52 17 rfl rfl)
theorem dL_law_1456 : decode cL_law 1456 = .ok (.aload_n 2, 1) := dk_44 (dk_at dksL_law_52 19 rfl rfl)
theorem dL_law_1457 : decode cL_law 1457 = .ok (.invokevirtual 161, 3) := dk_182 0 161 (dk_at dksL_law_52 20 rfl rfl)
theorem dL_law_1460 : decode cL_law 1460 = .ok (.iload 6, 2) := dk_21 6 (dk_at dksL_law_53 0 rfl rfl)
theorem dL_law_1462 : decode cL_law 1462 = .ok (.if_icmp .eq 5, 3) := dk_159 0 5 (dk_at dksL_law_53 2 rfl rfl)
theorem dL_law_1465 : decode cL_law 1465 = .ok (.iconst 0, 1) := dk_3 (dk_at dksL_law_53 5 rfl rfl)
theorem dL_law_1466 : decode cL_law 1466 = .ok (.ireturn, 1) := dk_172 (dk_at dksL_law_53 6 rfl rfl)
theorem dL_law_1467 : decode cL_law 1467 = .ok (.iload 6, 2) := dk_21 6 (dk_at dksL_law_53 7 rfl rfl)
theorem dL_law_1469 : decode cL_law 1469 = .ok (.ifCond .ne 15, 3) := dk_154 0 15 (dk_at dksL_law_53 9 rfl rfl)
theorem dL_law_1472 : decode cL_law 1472 = .ok (.aload_n 3, 1) := dk_45 (dk_at dksL_law_53 12 rfl rfl)
theorem dL_law_1473 : decode cL_law 1473 = .ok (.iconst 0, 1) := dk_3 (dk_at dksL_law_53 13 rfl rfl)
theorem dL_law_1474 : decode cL_law 1474 = .ok (.laload, 1) := dk_47 (dk_at dksL_law_53 14 rfl rfl)
theorem dL_law_1475 : decode cL_law 1475 = .ok (.iload 7, 2) := dk_21 7 (dk_at dksL_law_53 15 rfl rfl)
theorem dL_law_1477 : decode cL_law 1477 = .ok (.i2l, 1) := dk_133 (dk_at dksL_law_53 17 rfl rfl)
theorem dL_law_1478 : decode cL_law 1478 = .ok (.lcmp, 1) := dk_148 (dk_at dksL_law_53 18 rfl rfl)
theorem dL_law_1479 : decode cL_law 1479 = .ok (.ifCond .eq 5, 3) := dk_153 0 5 (dk_at dksL_law_53 19 rfl rfl)
theorem dL_law_1482 : decode cL_law 1482 = .ok (.iconst 0, 1) := dk_3 (dk_at dksL_law_53 22 rfl rfl)
theorem dL_law_1483 : decode cL_law 1483 = .ok (.ireturn, 1) := dk_172 (dk_at dksL_law_53 23 rfl rfl)
theorem dL_law_1484 : decode cL_law 1484 = .ok (.goto 1354, 3) := dk_167 5 74 (dk_at dksL_law_54 0 rfl rfl)
theorem dL_law_1487 : decode cL_law 1487 = .ok (.aload_n 1, 1) := dk_43 (dk_at dksL_law_54 3 rfl rfl)
theorem dL_law_1488 : decode cL_law 1488 = .ok (.invokevirtual 225, 3) := dk_182 0 225 (dk_at dksL_law_54 4 rfl rfl)
theorem dL_law_1491 : decode cL_law 1491 = .ok (.aload_n 2, 1) := dk_44 (dk_at dksL_law_54 7 rfl rfl)
theorem dL_law_1492 : decode cL_law 1492 = .ok (.invokevirtual 228, 3) := dk_182 0 228 (dk_at dksL_law_54 8 rfl rfl)
theorem dL_law_1495 : decode cL_law 1495 = .ok (.if_icmp .eq 1343, 3) := dk_159 5 63 (dk_at dksL_law_54 11 rfl rfl)
theorem dL_law_1498 : decode cL_law 1498 = .ok (.iconst 0, 1) := dk_3 (dk_at dksL_law_54 14 rfl rfl)
theorem dL_law_1499 : decode cL_law 1499 = .ok (.ireturn, 1) := dk_172 (dk_at dksL_law_54 15 rfl rfl)
theorem dL_law_1500 : decode cL_law 1500 = .ok (.aload_n 1, 1) := dk_43 (dk_at dksL_law_54 16 rfl rfl)
theorem dL_law_1501 : decode cL_law 1501 = .ok (.aload_n 0, 1) := dk_42 (dk_at dksL_law_54 17 rfl rfl)
theorem dL_law_1502 : decode cL_law 1502 = .ok (.iload 5, 2) := dk_21 5 (dk_at dksL_law_54 18 rfl rfl)
theorem dL_law_1504 : decode cL_law 1504 = .ok (.iconst 1, 1) := dk_4 (dk_at dksL_law_54 20 rfl rfl)
theorem dL_law_1505 : decode cL_law 1505 = .ok (.iadd, 1) := dk_96 (dk_at dksL_law_54 21 rfl rfl)
theorem dL_law_1506 : decode cL_law 1506 = .ok (.iaload, 1) := dk_46 (dk_at dksL_law_54 22 rfl rfl)
theorem dL_law_1507 : decode cL_law 1507 = .ok (.aload_n 3, 1) := dk_45 (dk_at dksL_law_54 23 rfl rfl)
theorem dL_law_1508 : decode cL_law 1508 = .ok (.invokestatic 229, 3) := dk_184 0 229 (dk_at dksL_law_55 0 rfl rfl)
theorem dL_law_1511 : decode cL_law 1511 = .ok (.istore 6, 2) := dk_54 6 (dk_at dksL_law_55 3 rfl rfl)
theorem dL_law_1513 : decode cL_law 1513 = .ok (.aload_n 2, 1) := dk_44 (dk_at dksL_law_55 5 rfl rfl)
theorem dL_law_1514 : decode cL_law 1514 = .ok (.aload_n 0, 1) := dk_42 (dk_at dksL_law_55 6 rfl rfl)
theorem dL_law_1515 : decode cL_law 1515 = .ok (.iload 5, 2) := dk_21 5 (dk_at dksL_law_55 7 rfl rfl)
theorem dL_law_1517 : decode cL_law 1517 = .ok (.iconst 1, 1) := dk_4 (dk_at dksL_law_55 9 rfl rfl)
theorem dL_law_1518 : decode cL_law 1518 = .ok (.iadd, 1) := dk_96 (dk_at dksL_law_55 10 rfl rfl)
theorem dL_law_1519 : decode cL_law 1519 = .ok (.iaload, 1) := dk_46 (dk_at dksL_law_55 11 rfl rfl)
theorem dL_law_1520 : decode cL_law 1520 = .ok (.invokevirtual 231, 3) := dk_182 0 231 (dk_at dksL_law_55 12 rfl rfl)
theorem dL_law_1523 : decode cL_law 1523 = .ok (.istore 7, 2) := dk_54 7 (dk_at dksL_law_55 15 rfl rfl)
theorem dL_law_1525 : decode cL_law 1525 = .ok (.aload_n 2, 1) := dk_44 (dk_at dksL_law_55 17 rfl rfl)
theorem dL_law_1526 : decode cL_law 1526 = .ok (.invokevirtual 161, 3) := dk_182 0 161 (dk_at dksL_law_55 18 rfl rfl)
theorem dL_law_1529 : decode cL_law 1529 = .ok (.iload 6, 2) := dk_21 6 (dk_at dksL_law_55 21 rfl rfl)
theorem dL_law_1531 : decode cL_law 1531 = .ok (.if_icmp .eq 5, 3) := dk_159 0 5 (dk_at dksL_law_56 0 rfl rfl)
theorem dL_law_1534 : decode cL_law 1534 = .ok (.iconst 0, 1) := dk_3 (dk_at dksL_law_56 3 rfl rfl)
theorem dL_law_1535 : decode cL_law 1535 = .ok (.ireturn, 1) := dk_172 (dk_at dksL_law_56 4 rfl rfl)
theorem dL_law_1536 : decode cL_law 1536 = .ok (.iload 6, 2) := dk_21 6 (dk_at dksL_law_56 5 rfl rfl)
theorem dL_law_1538 : decode cL_law 1538 = .ok (.ifCond .ne 15, 3) := dk_154 0 15 (dk_at dksL_law_56 7 rfl rfl)
theorem dL_law_1541 : decode cL_law 1541 = .ok (.aload_n 3, 1) := dk_45 (dk_at dksL_law_56 10 rfl rfl)
theorem dL_law_1542 : decode cL_law 1542 = .ok (.iconst 0, 1) := dk_3 (dk_at dksL_law_56 11 rfl rfl)
theorem dL_law_1543 : decode cL_law 1543 = .ok (.laload, 1) := dk_47 (dk_at dksL_law_56 12 rfl rfl)
theorem dL_law_1544 : decode cL_law 1544 = .ok (.iload 7, 2) := dk_21 7 (dk_at dksL_law_56 13 rfl rfl)
theorem dL_law_1546 : decode cL_law 1546 = .ok (.i2l, 1) := dk_133 (dk_at dksL_law_56 15 rfl rfl)
theorem dL_law_1547 : decode cL_law 1547 = .ok (.lcmp, 1) := dk_148 (dk_at dksL_law_56 16 rfl rfl)
theorem dL_law_1548 : decode cL_law 1548 = .ok (.ifCond .eq 5, 3) := dk_153 0 5 (dk_at dksL_law_56 17 rfl rfl)
theorem dL_law_1551 : decode cL_law 1551 = .ok (.iconst 0, 1) := dk_3 (dk_at dksL_law_56 20 rfl rfl)
theorem dL_law_1552 : decode cL_law 1552 = .ok (.ireturn, 1) := dk_172 (dk_at dksL_law_56 21 rfl rfl)
theorem dL_law_1553 : decode cL_law 1553 = .ok (.goto 1285, 3) := dk_167 5 5 (dk_at dksL_law_57 0 rfl rfl)
theorem dL_law_1556 : decode cL_law 1556 = .ok (.aload_n 1, 1) := dk_43 (dk_at dksL_law_57 3 rfl rfl)
theorem dL_law_1557 : decode cL_law 1557 = .ok (.aload_n 0, 1) := dk_42 (dk_at dksL_law_57 4 rfl rfl)
theorem dL_law_1558 : decode cL_law 1558 = .ok (.iload 5, 2) := dk_21 5 (dk_at dksL_law_57 5 rfl rfl)
theorem dL_law_1560 : decode cL_law 1560 = .ok (.iconst 1, 1) := dk_4 (dk_at dksL_law_57 7 rfl rfl)
theorem dL_law_1561 : decode cL_law 1561 = .ok (.iadd, 1) := dk_96 (dk_at dksL_law_57 8 rfl rfl)
theorem dL_law_1562 : decode cL_law 1562 = .ok (.iaload, 1) := dk_46 (dk_at dksL_law_57 9 rfl rfl)
theorem dL_law_1563 : decode cL_law 1563 = .ok (.aload_n 3, 1) := dk_45 (dk_at dksL_law_57 10 rfl rfl)
theorem dL_law_1564 : decode cL_law 1564 = .ok (.invokestatic 232, 3) := dk_184 0 232 (dk_at dksL_law_57 11 rfl rfl)
theorem dL_law_1567 : decode cL_law 1567 = .ok (.istore 6, 2) := dk_54 6 (dk_at dksL_law_57 14 rfl rfl)
theorem dL_law_1569 : decode cL_law 1569 = .ok (.aload_n 2, 1) := dk_44 (dk_at dksL_law_57 16 rfl rfl)
theorem dL_law_1570 : decode cL_law 1570 = .ok (.aload_n 0, 1) := dk_42 (dk_at dksL_law_57 17 rfl rfl)
theorem dL_law_1571 : decode cL_law 1571 = .ok (.iload 5, 2) := dk_21 5 (dk_at dksL_law_57 18 rfl rfl)
theorem dL_law_1573 : decode cL_law 1573 = .ok (.iconst 1, 1) := dk_4 (dk_at dksL_law_57 20 rfl rfl)
theorem dL_law_1574 : decode cL_law 1574 = .ok (.iadd, 1) := dk_96 (dk_at dksL_law_57 21 rfl rfl)
theorem dL_law_1575 : decode cL_law 1575 = .ok (.iaload, 1) := dk_46 (dk_at dksL_law_57 22 rfl rfl)
theorem dL_law_1576 : decode cL_law 1576 = .ok (.invokevirtual 234, 3) := dk_182 0 234 (dk_at dksL_law_58 0 rfl rfl)
theorem dL_law_1579 : decode cL_law 1579 = .ok (.istore 7, 2) := dk_54 7 (dk_at dksL_law_58 3 rfl rfl)
theorem dL_law_1581 : decode cL_law 1581 = .ok (.aload_n 2, 1) := dk_44 (dk_at dksL_law_58 5 rfl rfl)
theorem dL_law_1582 : decode cL_law 1582 = .ok (.invokevirtual 161, 3) := dk_182 0 161 (dk_at dksL_law_58 6 rfl rfl)
theorem dL_law_1585 : decode cL_law 1585 = .ok (.iload 6, 2) := dk_21 6 (dk_at dksL_law_58 9 rfl rfl)
theorem dL_law_1587 : decode cL_law 1587 = .ok (.if_icmp .eq 5, 3) := dk_159 0 5 (dk_at dksL_law_58 11 rfl rfl)
theorem dL_law_1590 : decode cL_law 1590 = .ok (.iconst 0, 1) := dk_3 (dk_at dksL_law_58 14 rfl rfl)
theorem dL_law_1591 : decode cL_law 1591 = .ok (.ireturn, 1) := dk_172 (dk_at dksL_law_58 15 rfl rfl)
theorem dL_law_1592 : decode cL_law 1592 = .ok (.iload 6, 2) := dk_21 6 (dk_at dksL_law_58 16 rfl rfl)
theorem dL_law_1594 : decode cL_law 1594 = .ok (.ifCond .ne 15, 3) := dk_154 0 15 (dk_at dksL_law_58 18 rfl rfl)
theorem dL_law_1597 : decode cL_law 1597 = .ok (.aload_n 3, 1) := dk_45 (dk_at dksL_law_58 21 rfl rfl)
theorem dL_law_1598 : decode cL_law 1598 = .ok (.iconst 0, 1) := dk_3 (dk_at dksL_law_58 22 rfl rfl)
theorem dL_law_1599 : decode cL_law 1599 = .ok (.laload, 1) := dk_47 (dk_at dksL_law_58 23 rfl rfl)
theorem dL_law_1600 : decode cL_law 1600 = .ok (.iload 7, 2) := dk_21 7 (dk_at dksL_law_59 0 rfl rfl)
theorem dL_law_1602 : decode cL_law 1602 = .ok (.i2l, 1) := dk_133 (dk_at dksL_law_59 2 rfl rfl)
theorem dL_law_1603 : decode cL_law 1603 = .ok (.lcmp, 1) := dk_148 (dk_at dksL_law_59 3 rfl rfl)
theorem dL_law_1604 : decode cL_law 1604 = .ok (.ifCond .eq 5, 3) := dk_153 0 5 (dk_at dksL_law_59 4 rfl rfl)
theorem dL_law_1607 : decode cL_law 1607 = .ok (.iconst 0, 1) := dk_3 (dk_at dksL_law_59 7 rfl rfl)
theorem dL_law_1608 : decode cL_law 1608 = .ok (.ireturn, 1) := dk_172 (dk_at dksL_law_59 8 rfl rfl)
theorem dL_law_1609 : decode cL_law 1609 = .ok (.goto 1229, 3) := dk_167 4 205 (dk_at dksL_law_59 9 rfl rfl)
theorem dL_law_1612 : decode cL_law 1612 = .ok (.aload_n 1, 1) := dk_43 (dk_at dksL_law_59 12 rfl rfl)
theorem dL_law_1613 : decode cL_law 1613 = .ok (.aload_n 0, 1) := dk_42 (dk_at dksL_law_59 13 rfl rfl)
theorem dL_law_1614 : decode cL_law 1614 = .ok (.iload 5, 2) := dk_21 5 (dk_at dksL_law_59 14 rfl rfl)
theorem dL_law_1616 : decode cL_law 1616 = .ok (.iconst 1, 1) := dk_4 (dk_at dksL_law_59 16 rfl rfl)
theorem dL_law_1617 : decode cL_law 1617 = .ok (.iadd, 1) := dk_96 (dk_at dksL_law_59 17 rfl rfl)
theorem dL_law_1618 : decode cL_law 1618 = .ok (.iaload, 1) := dk_46 (dk_at dksL_law_59 18 rfl rfl)
theorem dL_law_1619 : decode cL_law 1619 = .ok (.aload_n 3, 1) := dk_45 (dk_at dksL_law_59 19 rfl rfl)
theorem dL_law_1620 : decode cL_law 1620 = .ok (.invokestatic 235, 3) := dk_184 0 235 (dk_at dksL_law_59 20 rfl rfl)
theorem dL_law_1623 : decode cL_law 1623 = .ok (.istore 6, 2) := dk_54 6 (dk_at dksL_law_60 0 rfl rfl)
theorem dL_law_1625 : decode cL_law 1625 = .ok (.aload_n 2, 1) := dk_44 (dk_at dksL_law_60 2 rfl rfl)
theorem dL_law_1626 : decode cL_law 1626 = .ok (.aload_n 0, 1) := dk_42 (dk_at dksL_law_60 3 rfl rfl)
theorem dL_law_1627 : decode cL_law 1627 = .ok (.iload 5, 2) := dk_21 5 (dk_at dksL_law_60 4 rfl rfl)
theorem dL_law_1629 : decode cL_law 1629 = .ok (.iconst 1, 1) := dk_4 (dk_at dksL_law_60 6 rfl rfl)
theorem dL_law_1630 : decode cL_law 1630 = .ok (.iadd, 1) := dk_96 (dk_at dksL_law_60 7 rfl rfl)
theorem dL_law_1631 : decode cL_law 1631 = .ok (.iaload, 1) := dk_46 (dk_at dksL_law_60 8 rfl rfl)
theorem dL_law_1632 : decode cL_law 1632 = .ok (.invokevirtual 237, 3) := dk_182 0 237 (dk_at dksL_law_60 9 rfl rfl)
theorem dL_law_1635 : decode cL_law 1635 = .ok (.istore 7, 2) := dk_54 7 (dk_at dksL_law_60 12 rfl rfl)
theorem dL_law_1637 : decode cL_law 1637 = .ok (.aload_n 2, 1) := dk_44 (dk_at dksL_law_60 14 rfl rfl)
theorem dL_law_1638 : decode cL_law 1638 = .ok (.invokevirtual 161, 3) := dk_182 0 161 (dk_at dksL_law_60 15 rfl rfl)
theorem dL_law_1641 : decode cL_law 1641 = .ok (.iload 6, 2) := dk_21 6 (dk_at dksL_law_60 18 rfl rfl)
theorem dL_law_1643 : decode cL_law 1643 = .ok (.if_icmp .eq 5, 3) := dk_159 0 5 (dk_at dksL_law_60 20 rfl rfl)
theorem dL_law_1646 : decode cL_law 1646 = .ok (.iconst 0, 1) := dk_3 (dk_at dksL_law_60 23 rfl rfl)
theorem dL_law_1647 : decode cL_law 1647 = .ok (.ireturn, 1) := dk_172 (dk_at dksL_law_61 0 rfl rfl)
theorem dL_law_1648 : decode cL_law 1648 = .ok (.iload 6, 2) := dk_21 6 (dk_at dksL_law_61 1 rfl rfl)
theorem dL_law_1650 : decode cL_law 1650 = .ok (.ifCond .ne 15, 3) := dk_154 0 15 (dk_at dksL_law_61 3 rfl rfl)
theorem dL_law_1653 : decode cL_law 1653 = .ok (.aload_n 3, 1) := dk_45 (dk_at dksL_law_61 6 rfl rfl)
theorem dL_law_1654 : decode cL_law 1654 = .ok (.iconst 0, 1) := dk_3 (dk_at dksL_law_61 7 rfl rfl)
theorem dL_law_1655 : decode cL_law 1655 = .ok (.laload, 1) := dk_47 (dk_at dksL_law_61 8 rfl rfl)
theorem dL_law_1656 : decode cL_law 1656 = .ok (.iload 7, 2) := dk_21 7 (dk_at dksL_law_61 9 rfl rfl)
theorem dL_law_1658 : decode cL_law 1658 = .ok (.i2l, 1) := dk_133 (dk_at dksL_law_61 11 rfl rfl)
theorem dL_law_1659 : decode cL_law 1659 = .ok (.lcmp, 1) := dk_148 (dk_at dksL_law_61 12 rfl rfl)
theorem dL_law_1660 : decode cL_law 1660 = .ok (.ifCond .eq 5, 3) := dk_153 0 5 (dk_at dksL_law_61 13 rfl rfl)
theorem dL_law_1663 : decode cL_law 1663 = .ok (.iconst 0, 1) := dk_3 (dk_at dksL_law_61 16 rfl rfl)
theorem dL_law_1664 : decode cL_law 1664 = .ok (.ireturn, 1) := dk_172 (dk_at dksL_law_61 17 rfl rfl)
theorem dL_law_1665 : decode cL_law 1665 = .ok (.goto 1173, 3) := dk_167 4 149 (dk_at dksL_law_61 18 rfl rfl)
theorem dL_law_1668 : decode cL_law 1668 = .ok (.aload_n 1, 1) := dk_43 (dk_at dksL_law_61 21 rfl rfl)
theorem dL_law_1669 : decode cL_law 1669 = .ok (.aload_n 3, 1) := dk_45 (dk_at dksL_law_61 22 rfl rfl)
theorem dL_law_1670 : decode cL_law 1670 = .ok (.invokestatic 238, 3) := dk_184 0 238 (dk_at dksL_law_62 0 rfl rfl)
theorem dL_law_1673 : decode cL_law 1673 = .ok (.istore 6, 2) := dk_54 6 (dk_at dksL_law_62 3 rfl rfl)
theorem dL_law_1675 : decode cL_law 1675 = .ok (.aload_n 2, 1) := dk_44 (dk_at dksL_law_62 5 rfl rfl)
theorem dL_law_1676 : decode cL_law 1676 = .ok (.invokevirtual 241, 3) := dk_182 0 241 (dk_at dksL_law_62 6 rfl rfl)
theorem dL_law_1679 : decode cL_law 1679 = .ok (.istore 7, 2) := dk_54 7 (dk_at dksL_law_62 9 rfl rfl)
theorem dL_law_1681 : decode cL_law 1681 = .ok (.aload_n 2, 1) := dk_44 (dk_at dksL_law_62 11 rfl rfl)
theorem dL_law_1682 : decode cL_law 1682 = .ok (.invokevirtual 161, 3) := dk_182 0 161 (dk_at dksL_law_62 12 rfl rfl)
theorem dL_law_1685 : decode cL_law 1685 = .ok (.iload 6, 2) := dk_21 6 (dk_at dksL_law_62 15 rfl rfl)
theorem dL_law_1687 : decode cL_law 1687 = .ok (.if_icmp .eq 5, 3) := dk_159 0 5 (dk_at dksL_law_62 17 rfl rfl)
theorem dL_law_1690 : decode cL_law 1690 = .ok (.iconst 0, 1) := dk_3 (dk_at dksL_law_62 20 rfl rfl)
theorem dL_law_1691 : decode cL_law 1691 = .ok (.ireturn, 1) := dk_172 (dk_at dksL_law_62 21 rfl rfl)
theorem dL_law_1692 : decode cL_law 1692 = .ok (.iload 6, 2) := dk_21 6 (dk_at dksL_law_62 22 rfl rfl)
theorem dL_law_1694 : decode cL_law 1694 = .ok (.ifCond .ne 15, 3) := dk_154 0 15 (dk_at dksL_law_63 0 rfl rfl)
theorem dL_law_1697 : decode cL_law 1697 = .ok (.aload_n 3, 1) := dk_45 (dk_at dksL_law_63 3 rfl rfl)
theorem dL_law_1698 : decode cL_law 1698 = .ok (.iconst 0, 1) := dk_3 (dk_at dksL_law_63 4 rfl rfl)
theorem dL_law_1699 : decode cL_law 1699 = .ok (.laload, 1) := dk_47 (dk_at dksL_law_63 5 rfl rfl)
theorem dL_law_1700 : decode cL_law 1700 = .ok (.iload 7, 2) := dk_21 7 (dk_at dksL_law_63 6 rfl rfl)
theorem dL_law_1702 : decode cL_law 1702 = .ok (.i2l, 1) := dk_133 (dk_at dksL_law_63 8 rfl rfl)
theorem dL_law_1703 : decode cL_law 1703 = .ok (.lcmp, 1) := dk_148 (dk_at dksL_law_63 9 rfl rfl)
theorem dL_law_1704 : decode cL_law 1704 = .ok (.ifCond .eq 5, 3) := dk_153 0 5 (dk_at dksL_law_63 10 rfl rfl)
theorem dL_law_1707 : decode cL_law 1707 = .ok (.iconst 0, 1) := dk_3 (dk_at dksL_law_63 13 rfl rfl)
theorem dL_law_1708 : decode cL_law 1708 = .ok (.ireturn, 1) := dk_172 (dk_at dksL_law_63 14 rfl rfl)
theorem dL_law_1709 : decode cL_law 1709 = .ok (.goto 1129, 3) := dk_167 4 105 (dk_at dksL_law_63 15 rfl rfl)
theorem dL_law_1712 : decode cL_law 1712 = .ok (.aload_n 1, 1) := dk_43 (dk_at dksL_law_63 18 rfl rfl)
theorem dL_law_1713 : decode cL_law 1713 = .ok (.invokevirtual 242, 3) := dk_182 0 242 (dk_at dksL_law_63 19 rfl rfl)
theorem dL_law_1716 : decode cL_law 1716 = .ok (.aload_n 2, 1) := dk_44 (dk_at dksL_law_63 22 rfl rfl)
theorem dL_law_1717 : decode cL_law 1717 = .ok (.invokevirtual 245, 3) := dk_182 0 245 (dk_at dksL_law_64 0 rfl rfl)
theorem dL_law_1720 : decode cL_law 1720 = .ok (.if_icmp .eq 1118, 3) := dk_159 4 94 (dk_at dksL_law_64 3 rfl rfl)
theorem dL_law_1723 : decode cL_law 1723 = .ok (.iconst 0, 1) := dk_3 (dk_at dksL_law_64 6 rfl rfl)
theorem dL_law_1724 : decode cL_law 1724 = .ok (.ireturn, 1) := dk_172 (dk_at dksL_law_64 7 rfl rfl)
theorem dL_law_1725 : decode cL_law 1725 = .ok (.aload_n 1, 1) := dk_43 (dk_at dksL_law_64 8 rfl rfl)
theorem dL_law_1726 : decode cL_law 1726 = .ok (.aload_n 0, 1) := dk_42 (dk_at dksL_law_64 9 rfl rfl)
theorem dL_law_1727 : decode cL_law 1727 = .ok (.iload 5, 2) := dk_21 5 (dk_at dksL_law_64 10 rfl rfl)
theorem dL_law_1729 : decode cL_law 1729 = .ok (.iconst 1, 1) := dk_4 (dk_at dksL_law_64 12 rfl rfl)
theorem dL_law_1730 : decode cL_law 1730 = .ok (.iadd, 1) := dk_96 (dk_at dksL_law_64 13 rfl rfl)
theorem dL_law_1731 : decode cL_law 1731 = .ok (.iaload, 1) := dk_46 (dk_at dksL_law_64 14 rfl rfl)
theorem dL_law_1732 : decode cL_law 1732 = .ok (.aload_n 3, 1) := dk_45 (dk_at dksL_law_64 15 rfl rfl)
theorem dL_law_1733 : decode cL_law 1733 = .ok (.invokestatic 246, 3) := dk_184 0 246 (dk_at dksL_law_64 16 rfl rfl)
theorem dL_law_1736 : decode cL_law 1736 = .ok (.istore 6, 2) := dk_54 6 (dk_at dksL_law_64 19 rfl rfl)
theorem dL_law_1738 : decode cL_law 1738 = .ok (.aload_n 2, 1) := dk_44 (dk_at dksL_law_64 21 rfl rfl)
theorem dL_law_1739 : decode cL_law 1739 = .ok (.aload_n 0, 1) := dk_42 (dk_at dksL_law_64 22 rfl rfl)
theorem dL_law_1740 : decode cL_law 1740 = .ok (.iload 5, 2) := dk_21 5 (dk_at dksL_law_65 0 rfl rfl)
theorem dL_law_1742 : decode cL_law 1742 = .ok (.iconst 1, 1) := dk_4 (dk_at dksL_law_65 2 rfl rfl)
theorem dL_law_1743 : decode cL_law 1743 = .ok (.iadd, 1) := dk_96 (dk_at dksL_law_65 3 rfl rfl)
theorem dL_law_1744 : decode cL_law 1744 = .ok (.iaload, 1) := dk_46 (dk_at dksL_law_65 4 rfl rfl)
theorem dL_law_1745 : decode cL_law 1745 = .ok (.invokevirtual 248, 3) := dk_182 0 248 (dk_at dksL_law_65 5 rfl rfl)
theorem dL_law_1748 : decode cL_law 1748 = .ok (.istore 7, 2) := dk_54 7 (dk_at dksL_law_65 8 rfl rfl)
theorem dL_law_1750 : decode cL_law 1750 = .ok (.aload_n 2, 1) := dk_44 (dk_at dksL_law_65 10 rfl rfl)
theorem dL_law_1751 : decode cL_law 1751 = .ok (.invokevirtual 161, 3) := dk_182 0 161 (dk_at dksL_law_65 11 rfl rfl)
theorem dL_law_1754 : decode cL_law 1754 = .ok (.iload 6, 2) := dk_21 6 (dk_at dksL_law_65 14 rfl rfl)
theorem dL_law_1756 : decode cL_law 1756 = .ok (.if_icmp .eq 5, 3) := dk_159 0 5 (dk_at dksL_law_65 16 rfl rfl)
theorem dL_law_1759 : decode cL_law 1759 = .ok (.iconst 0, 1) := dk_3 (dk_at dksL_law_65 19 rfl rfl)
theorem dL_law_1760 : decode cL_law 1760 = .ok (.ireturn, 1) := dk_172 (dk_at dksL_law_65 20 rfl rfl)
theorem dL_law_1761 : decode cL_law 1761 = .ok (.iload 6, 2) := dk_21 6 (dk_at dksL_law_65 21 rfl rfl)
theorem dL_law_1763 : decode cL_law 1763 = .ok (.ifCond .ne 15, 3) := dk_154 0 15 (dk_at dksL_law_66 0 rfl rfl)
theorem dL_law_1766 : decode cL_law 1766 = .ok (.aload_n 3, 1) := dk_45 (dk_at dksL_law_66 3 rfl rfl)
theorem dL_law_1767 : decode cL_law 1767 = .ok (.iconst 0, 1) := dk_3 (dk_at dksL_law_66 4 rfl rfl)
theorem dL_law_1768 : decode cL_law 1768 = .ok (.laload, 1) := dk_47 (dk_at dksL_law_66 5 rfl rfl)
theorem dL_law_1769 : decode cL_law 1769 = .ok (.iload 7, 2) := dk_21 7 (dk_at dksL_law_66 6 rfl rfl)
theorem dL_law_1771 : decode cL_law 1771 = .ok (.i2l, 1) := dk_133 (dk_at dksL_law_66 8 rfl rfl)
theorem dL_law_1772 : decode cL_law 1772 = .ok (.lcmp, 1) := dk_148 (dk_at dksL_law_66 9 rfl rfl)
theorem dL_law_1773 : decode cL_law 1773 = .ok (.ifCond .eq 5, 3) := dk_153 0 5 (dk_at dksL_law_66 10 rfl rfl)
theorem dL_law_1776 : decode cL_law 1776 = .ok (.iconst 0, 1) := dk_3 (dk_at dksL_law_66 13 rfl rfl)
theorem dL_law_1777 : decode cL_law 1777 = .ok (.ireturn, 1) := dk_172 (dk_at dksL_law_66 14 rfl rfl)
theorem dL_law_1778 : decode cL_law 1778 = .ok (.goto 1060, 3) := dk_167 4 36 (dk_at dksL_law_66 15 rfl rfl)
theorem dL_law_1781 : decode cL_law 1781 = .ok (.aload_n 1, 1) := dk_43 (dk_at dksL_law_66 18 rfl rfl)
theorem dL_law_1782 : decode cL_law 1782 = .ok (.aload_n 0, 1) := dk_42 (dk_at dksL_law_66 19 rfl rfl)
theorem dL_law_1783 : decode cL_law 1783 = .ok (.iload 5, 2) := dk_21 5 (dk_at dksL_law_66 20 rfl rfl)
theorem dL_law_1785 : decode cL_law 1785 = .ok (.iconst 1, 1) := dk_4 (dk_at dksL_law_66 22 rfl rfl)
theorem dL_law_1786 : decode cL_law 1786 = .ok (.iadd, 1) := dk_96 (dk_at dksL_law_66 23 rfl rfl)
theorem dL_law_1787 : decode cL_law 1787 = .ok (.iaload, 1) := dk_46 (dk_at dksL_law_67 0 rfl rfl)
theorem dL_law_1788 : decode cL_law 1788 = .ok (.aload_n 3, 1) := dk_45 (dk_at dksL_law_67 1 rfl rfl)
theorem dL_law_1789 : decode cL_law 1789 = .ok (.invokestatic 249, 3) := dk_184 0 249 (dk_at dksL_law_67 2 rfl rfl)
theorem dL_law_1792 : decode cL_law 1792 = .ok (.istore 6, 2) := dk_54 6 (dk_at dksL_law_67 5 rfl rfl)
theorem dL_law_1794 : decode cL_law 1794 = .ok (.aload_n 2, 1) := dk_44 (dk_at dksL_law_67 7 rfl rfl)
theorem dL_law_1795 : decode cL_law 1795 = .ok (.aload_n 0, 1) := dk_42 (dk_at dksL_law_67 8 rfl rfl)
theorem dL_law_1796 : decode cL_law 1796 = .ok (.iload 5, 2) := dk_21 5 (dk_at dksL_law_67 9 rfl rfl)
theorem dL_law_1798 : decode cL_law 1798 = .ok (.iconst 1, 1) := dk_4 (dk_at dksL_law_67 11 rfl rfl)
theorem dL_law_1799 : decode cL_law 1799 = .ok (.iadd, 1) := dk_96 (dk_at dksL_law_67 12 rfl rfl)
theorem dL_law_1800 : decode cL_law 1800 = .ok (.iaload, 1) := dk_46 (dk_at dksL_law_67 13 rfl rfl)
theorem dL_law_1801 : decode cL_law 1801 = .ok (.invokevirtual 251, 3) := dk_182 0 251 (dk_at dksL_law_67 14 rfl rfl)
theorem dL_law_1804 : decode cL_law 1804 = .ok (.istore 7, 2) := dk_54 7 (dk_at dksL_law_67 17 rfl rfl)
theorem dL_law_1806 : decode cL_law 1806 = .ok (.aload_n 2, 1) := dk_44 (dk_at dksL_law_67 19 rfl rfl)
theorem dL_law_1807 : decode cL_law 1807 = .ok (.invokevirtual 161, 3) := dk_182 0 161 (dk_at dksL_law_67 20 rfl rfl)
theorem dL_law_1810 : decode cL_law 1810 = .ok (.iload 6, 2) := dk_21 6 (dk_at dksL_law_68 0 rfl rfl)
theorem dL_law_1812 : decode cL_law 1812 = .ok (.if_icmp .eq 5, 3) := dk_159 0 5 (dk_at dksL_law_68 2 rfl rfl)
theorem dL_law_1815 : decode cL_law 1815 = .ok (.iconst 0, 1) := dk_3 (dk_at dksL_law_68 5 rfl rfl)
theorem dL_law_1816 : decode cL_law 1816 = .ok (.ireturn, 1) := dk_172 (dk_at dksL_law_68 6 rfl rfl)
theorem dL_law_1817 : decode cL_law 1817 = .ok (.iload 6, 2) := dk_21 6 (dk_at dksL_law_68 7 rfl rfl)
theorem dL_law_1819 : decode cL_law 1819 = .ok (.ifCond .ne 15, 3) := dk_154 0 15 (dk_at dksL_law_68 9 rfl rfl)
theorem dL_law_1822 : decode cL_law 1822 = .ok (.aload_n 3, 1) := dk_45 (dk_at dksL_law_68 12 rfl rfl)
theorem dL_law_1823 : decode cL_law 1823 = .ok (.iconst 0, 1) := dk_3 (dk_at dksL_law_68 13 rfl rfl)
theorem dL_law_1824 : decode cL_law 1824 = .ok (.laload, 1) := dk_47 (dk_at dksL_law_68 14 rfl rfl)
theorem dL_law_1825 : decode cL_law 1825 = .ok (.iload 7, 2) := dk_21 7 (dk_at dksL_law_68 15 rfl rfl)
theorem dL_law_1827 : decode cL_law 1827 = .ok (.i2l, 1) := dk_133 (dk_at dksL_law_68 17 rfl rfl)
theorem dL_law_1828 : decode cL_law 1828 = .ok (.lcmp, 1) := dk_148 (dk_at dksL_law_68 18 rfl rfl)
theorem dL_law_1829 : decode cL_law 1829 = .ok (.ifCond .eq 5, 3) := dk_153 0 5 (dk_at dksL_law_68 19 rfl rfl)
theorem dL_law_1832 : decode cL_law 1832 = .ok (.iconst 0, 1) := dk_3 (dk_at dksL_law_68 22 rfl rfl)
theorem dL_law_1833 : decode cL_law 1833 = .ok (.ireturn, 1) := dk_172 (dk_at dksL_law_68 23 rfl rfl)
theorem dL_law_1834 : decode cL_law 1834 = .ok (.goto 1004, 3) := dk_167 3 236 (dk_at dksL_law_69 0 rfl rfl)
theorem dL_law_1837 : decode cL_law 1837 = .ok (.aload_n 1, 1) := dk_43 (dk_at dksL_law_69 3 rfl rfl)
theorem dL_law_1838 : decode cL_law 1838 = .ok (.aload_n 0, 1) := dk_42 (dk_at dksL_law_69 4 rfl rfl)
theorem dL_law_1839 : decode cL_law 1839 = .ok (.iload 5, 2) := dk_21 5 (dk_at dksL_law_69 5 rfl rfl)
theorem dL_law_1841 : decode cL_law 1841 = .ok (.iconst 1, 1) := dk_4 (dk_at dksL_law_69 7 rfl rfl)
theorem dL_law_1842 : decode cL_law 1842 = .ok (.iadd, 1) := dk_96 (dk_at dksL_law_69 8 rfl rfl)
theorem dL_law_1843 : decode cL_law 1843 = .ok (.iaload, 1) := dk_46 (dk_at dksL_law_69 9 rfl rfl)
theorem dL_law_1844 : decode cL_law 1844 = .ok (.aload_n 3, 1) := dk_45 (dk_at dksL_law_69 10 rfl rfl)
theorem dL_law_1845 : decode cL_law 1845 = .ok (.invokestatic 252, 3) := dk_184 0 252 (dk_at dksL_law_69 11 rfl rfl)
theorem dL_law_1848 : decode cL_law 1848 = .ok (.istore 6, 2) := dk_54 6 (dk_at dksL_law_69 14 rfl rfl)
theorem dL_law_1850 : decode cL_law 1850 = .ok (.aload_n 2, 1) := dk_44 (dk_at dksL_law_69 16 rfl rfl)
theorem dL_law_1851 : decode cL_law 1851 = .ok (.aload_n 0, 1) := dk_42 (dk_at dksL_law_69 17 rfl rfl)
theorem dL_law_1852 : decode cL_law 1852 = .ok (.iload 5, 2) := dk_21 5 (dk_at dksL_law_69 18 rfl rfl)
theorem dL_law_1854 : decode cL_law 1854 = .ok (.iconst 1, 1) := dk_4 (dk_at dksL_law_69 20 rfl rfl)
theorem dL_law_1855 : decode cL_law 1855 = .ok (.iadd, 1) := dk_96 (dk_at dksL_law_69 21 rfl rfl)
theorem dL_law_1856 : decode cL_law 1856 = .ok (.iaload, 1) := dk_46 (dk_at dksL_law_69 22 rfl rfl)
theorem dL_law_1857 : decode cL_law 1857 = .ok (.invokevirtual 254, 3) := dk_182 0 254 (dk_at dksL_law_70 0 rfl rfl)
theorem dL_law_1860 : decode cL_law 1860 = .ok (.istore 7, 2) := dk_54 7 (dk_at dksL_law_70 3 rfl rfl)
theorem dL_law_1862 : decode cL_law 1862 = .ok (.aload_n 2, 1) := dk_44 (dk_at dksL_law_70 5 rfl rfl)
theorem dL_law_1863 : decode cL_law 1863 = .ok (.invokevirtual 161, 3) := dk_182 0 161 (dk_at dksL_law_70 6 rfl rfl)
theorem dL_law_1866 : decode cL_law 1866 = .ok (.iload 6, 2) := dk_21 6 (dk_at dksL_law_70 9 rfl rfl)
theorem dL_law_1868 : decode cL_law 1868 = .ok (.if_icmp .eq 5, 3) := dk_159 0 5 (dk_at dksL_law_70 11 rfl rfl)
theorem dL_law_1871 : decode cL_law 1871 = .ok (.iconst 0, 1) := dk_3 (dk_at dksL_law_70 14 rfl rfl)
theorem dL_law_1872 : decode cL_law 1872 = .ok (.ireturn, 1) := dk_172 (dk_at dksL_law_70 15 rfl rfl)
theorem dL_law_1873 : decode cL_law 1873 = .ok (.iload 6, 2) := dk_21 6 (dk_at dksL_law_70 16 rfl rfl)
theorem dL_law_1875 : decode cL_law 1875 = .ok (.ifCond .ne 15, 3) := dk_154 0 15 (dk_at dksL_law_70 18 rfl rfl)
theorem dL_law_1878 : decode cL_law 1878 = .ok (.aload_n 3, 1) := dk_45 (dk_at dksL_law_70 21 rfl rfl)
theorem dL_law_1879 : decode cL_law 1879 = .ok (.iconst 0, 1) := dk_3 (dk_at dksL_law_70 22 rfl rfl)
theorem dL_law_1880 : decode cL_law 1880 = .ok (.laload, 1) := dk_47 (dk_at dksL_law_70 23 rfl rfl)
theorem dL_law_1881 : decode cL_law 1881 = .ok (.iload 7, 2) := dk_21 7 (dk_at dksL_law_71 0 rfl rfl)
theorem dL_law_1883 : decode cL_law 1883 = .ok (.i2l, 1) := dk_133 (dk_at dksL_law_71 2 rfl rfl)
theorem dL_law_1884 : decode cL_law 1884 = .ok (.lcmp, 1) := dk_148 (dk_at dksL_law_71 3 rfl rfl)
theorem dL_law_1885 : decode cL_law 1885 = .ok (.ifCond .eq 5, 3) := dk_153 0 5 (dk_at dksL_law_71 4 rfl rfl)
theorem dL_law_1888 : decode cL_law 1888 = .ok (.iconst 0, 1) := dk_3 (dk_at dksL_law_71 7 rfl rfl)
theorem dL_law_1889 : decode cL_law 1889 = .ok (.ireturn, 1) := dk_172 (dk_at dksL_law_71 8 rfl rfl)
theorem dL_law_1890 : decode cL_law 1890 = .ok (.goto 948, 3) := dk_167 3 180 (dk_at dksL_law_71 9 rfl rfl)
theorem dL_law_1893 : decode cL_law 1893 = .ok (.aload_n 1, 1) := dk_43 (dk_at dksL_law_71 12 rfl rfl)
theorem dL_law_1894 : decode cL_law 1894 = .ok (.aload_n 0, 1) := dk_42 (dk_at dksL_law_71 13 rfl rfl)
theorem dL_law_1895 : decode cL_law 1895 = .ok (.iload 5, 2) := dk_21 5 (dk_at dksL_law_71 14 rfl rfl)
theorem dL_law_1897 : decode cL_law 1897 = .ok (.iconst 1, 1) := dk_4 (dk_at dksL_law_71 16 rfl rfl)
theorem dL_law_1898 : decode cL_law 1898 = .ok (.iadd, 1) := dk_96 (dk_at dksL_law_71 17 rfl rfl)
theorem dL_law_1899 : decode cL_law 1899 = .ok (.iaload, 1) := dk_46 (dk_at dksL_law_71 18 rfl rfl)
theorem dL_law_1900 : decode cL_law 1900 = .ok (.aload_n 0, 1) := dk_42 (dk_at dksL_law_71 19 rfl rfl)
theorem dL_law_1901 : decode cL_law 1901 = .ok (.iload 5, 2) := dk_21 5 (dk_at dksL_law_71 20 rfl rfl)
theorem dL_law_1903 : decode cL_law 1903 = .ok (.iconst 2, 1) := dk_5 (dk_at dksL_law_71 22 rfl rfl)
theorem dL_law_1904 : decode cL_law 1904 = .ok (.iadd, 1) := dk_96 (dk_at dksL_law_71 23 rfl rfl)
theorem dL_law_1905 : decode cL_law 1905 = .ok (.iaload, 1) := dk_46 (dk_at dksL_law_72 0 rfl rfl)
theorem dL_law_1906 : decode cL_law 1906 = .ok (.aload_n 3, 1) := dk_45 (dk_at dksL_law_72 1 rfl rfl)
theorem dL_law_1907 : decode cL_law 1907 = .ok (.invokestatic 255, 3) := dk_184 0 255 (dk_at dksL_law_72 2 rfl rfl)
theorem dL_law_1910 : decode cL_law 1910 = .ok (.istore 6, 2) := dk_54 6 (dk_at dksL_law_72 5 rfl rfl)
theorem dL_law_1912 : decode cL_law 1912 = .ok (.aload_n 2, 1) := dk_44 (dk_at dksL_law_72 7 rfl rfl)
theorem dL_law_1913 : decode cL_law 1913 = .ok (.aload_n 0, 1) := dk_42 (dk_at dksL_law_72 8 rfl rfl)
theorem dL_law_1914 : decode cL_law 1914 = .ok (.iload 5, 2) := dk_21 5 (dk_at dksL_law_72 9 rfl rfl)
theorem dL_law_1916 : decode cL_law 1916 = .ok (.iconst 1, 1) := dk_4 (dk_at dksL_law_72 11 rfl rfl)
theorem dL_law_1917 : decode cL_law 1917 = .ok (.iadd, 1) := dk_96 (dk_at dksL_law_72 12 rfl rfl)
theorem dL_law_1918 : decode cL_law 1918 = .ok (.iaload, 1) := dk_46 (dk_at dksL_law_72 13 rfl rfl)
theorem dL_law_1919 : decode cL_law 1919 = .ok (.aload_n 0, 1) := dk_42 (dk_at dksL_law_72 14 rfl rfl)
theorem dL_law_1920 : decode cL_law 1920 = .ok (.iload 5, 2) := dk_21 5 (dk_at dksL_law_72 15 rfl rfl)
theorem dL_law_1922 : decode cL_law 1922 = .ok (.iconst 2, 1) := dk_5 (dk_at dksL_law_72 17 rfl rfl)
theorem dL_law_1923 : decode cL_law 1923 = .ok (.iadd, 1) := dk_96 (dk_at dksL_law_72 18 rfl rfl)
theorem dL_law_1924 : decode cL_law 1924 = .ok (.iaload, 1) := dk_46 (dk_at dksL_law_72 19 rfl rfl)
theorem dL_law_1925 : decode cL_law 1925 = .ok (.invokevirtual 257, 3) := dk_182 1 1 (dk_at dksL_law_72 20 rfl rfl)
theorem dL_law_1928 : decode cL_law 1928 = .ok (.istore 7, 2) := dk_54 7 (dk_at dksL_law_73 0 rfl rfl)
theorem dL_law_1930 : decode cL_law 1930 = .ok (.aload_n 2, 1) := dk_44 (dk_at dksL_law_73 2 rfl rfl)
theorem dL_law_1931 : decode cL_law 1931 = .ok (.invokevirtual 161, 3) := dk_182 0 161 (dk_at dksL_law_73 3 rfl rfl)
theorem dL_law_1934 : decode cL_law 1934 = .ok (.iload 6, 2) := dk_21 6 (dk_at dksL_law_73 6 rfl rfl)
theorem dL_law_1936 : decode cL_law 1936 = .ok (.if_icmp .eq 5, 3) := dk_159 0 5 (dk_at dksL_law_73 8 rfl rfl)
theorem dL_law_1939 : decode cL_law 1939 = .ok (.iconst 0, 1) := dk_3 (dk_at dksL_law_73 11 rfl rfl)
theorem dL_law_1940 : decode cL_law 1940 = .ok (.ireturn, 1) := dk_172 (dk_at dksL_law_73 12 rfl rfl)
theorem dL_law_1941 : decode cL_law 1941 = .ok (.iload 6, 2) := dk_21 6 (dk_at dksL_law_73 13 rfl rfl)
theorem dL_law_1943 : decode cL_law 1943 = .ok (.ifCond .ne 15, 3) := dk_154 0 15 (dk_at dksL_law_73 15 rfl rfl)
theorem dL_law_1946 : decode cL_law 1946 = .ok (.aload_n 3, 1) := dk_45 (dk_at dksL_law_73 18 rfl rfl)
theorem dL_law_1947 : decode cL_law 1947 = .ok (.iconst 0, 1) := dk_3 (dk_at dksL_law_73 19 rfl rfl)
theorem dL_law_1948 : decode cL_law 1948 = .ok (.laload, 1) := dk_47 (dk_at dksL_law_73 20 rfl rfl)
theorem dL_law_1949 : decode cL_law 1949 = .ok (.iload 7, 2) := dk_21 7 (dk_at dksL_law_73 21 rfl rfl)
theorem dL_law_1951 : decode cL_law 1951 = .ok (.i2l, 1) := dk_133 (dk_at dksL_law_73 23 rfl rfl)
theorem dL_law_1952 : decode cL_law 1952 = .ok (.lcmp, 1) := dk_148 (dk_at dksL_law_74 0 rfl rfl)
theorem dL_law_1953 : decode cL_law 1953 = .ok (.ifCond .eq 5, 3) := dk_153 0 5 (dk_at dksL_law_74 1 rfl rfl)
theorem dL_law_1956 : decode cL_law 1956 = .ok (.iconst 0, 1) := dk_3 (dk_at dksL_law_74 4 rfl rfl)
theorem dL_law_1957 : decode cL_law 1957 = .ok (.ireturn, 1) := dk_172 (dk_at dksL_law_74 5 rfl rfl)
theorem dL_law_1958 : decode cL_law 1958 = .ok (.goto 880, 3) := dk_167 3 112 (dk_at dksL_law_74 6 rfl rfl)
theorem dL_law_1961 : decode cL_law 1961 = .ok (.aload_n 1, 1) := dk_43 (dk_at dksL_law_74 9 rfl rfl)
theorem dL_law_1962 : decode cL_law 1962 = .ok (.aload_n 0, 1) := dk_42 (dk_at dksL_law_74 10 rfl rfl)
theorem dL_law_1963 : decode cL_law 1963 = .ok (.iload 5, 2) := dk_21 5 (dk_at dksL_law_74 11 rfl rfl)
theorem dL_law_1965 : decode cL_law 1965 = .ok (.iconst 1, 1) := dk_4 (dk_at dksL_law_74 13 rfl rfl)
theorem dL_law_1966 : decode cL_law 1966 = .ok (.iadd, 1) := dk_96 (dk_at dksL_law_74 14 rfl rfl)
theorem dL_law_1967 : decode cL_law 1967 = .ok (.iaload, 1) := dk_46 (dk_at dksL_law_74 15 rfl rfl)
theorem dL_law_1968 : decode cL_law 1968 = .ok (.aload_n 0, 1) := dk_42 (dk_at dksL_law_74 16 rfl rfl)
theorem dL_law_1969 : decode cL_law 1969 = .ok (.iload 5, 2) := dk_21 5 (dk_at dksL_law_74 17 rfl rfl)
theorem dL_law_1971 : decode cL_law 1971 = .ok (.iconst 2, 1) := dk_5 (dk_at dksL_law_74 19 rfl rfl)
theorem dL_law_1972 : decode cL_law 1972 = .ok (.iadd, 1) := dk_96 (dk_at dksL_law_74 20 rfl rfl)
theorem dL_law_1973 : decode cL_law 1973 = .ok (.iaload, 1) := dk_46 (dk_at dksL_law_74 21 rfl rfl)
theorem dL_law_1974 : decode cL_law 1974 = .ok (.aload_n 3, 1) := dk_45 (dk_at dksL_law_74 22 rfl rfl)
theorem dL_law_1975 : decode cL_law 1975 = .ok (.invokestatic 258, 3) := dk_184 1 2 (dk_at dksL_law_75 0 rfl rfl)
theorem dL_law_1978 : decode cL_law 1978 = .ok (.istore 6, 2) := dk_54 6 (dk_at dksL_law_75 3 rfl rfl)
theorem dL_law_1980 : decode cL_law 1980 = .ok (.aload_n 2, 1) := dk_44 (dk_at dksL_law_75 5 rfl rfl)
theorem dL_law_1981 : decode cL_law 1981 = .ok (.aload_n 0, 1) := dk_42 (dk_at dksL_law_75 6 rfl rfl)
theorem dL_law_1982 : decode cL_law 1982 = .ok (.iload 5, 2) := dk_21 5 (dk_at dksL_law_75 7 rfl rfl)
theorem dL_law_1984 : decode cL_law 1984 = .ok (.iconst 1, 1) := dk_4 (dk_at dksL_law_75 9 rfl rfl)
theorem dL_law_1985 : decode cL_law 1985 = .ok (.iadd, 1) := dk_96 (dk_at dksL_law_75 10 rfl rfl)
theorem dL_law_1986 : decode cL_law 1986 = .ok (.iaload, 1) := dk_46 (dk_at dksL_law_75 11 rfl rfl)
theorem dL_law_1987 : decode cL_law 1987 = .ok (.aload_n 0, 1) := dk_42 (dk_at dksL_law_75 12 rfl rfl)
theorem dL_law_1988 : decode cL_law 1988 = .ok (.iload 5, 2) := dk_21 5 (dk_at dksL_law_75 13 rfl rfl)
theorem dL_law_1990 : decode cL_law 1990 = .ok (.iconst 2, 1) := dk_5 (dk_at dksL_law_75 15 rfl rfl)
theorem dL_law_1991 : decode cL_law 1991 = .ok (.iadd, 1) := dk_96 (dk_at dksL_law_75 16 rfl rfl)
theorem dL_law_1992 : decode cL_law 1992 = .ok (.iaload, 1) := dk_46 (dk_at dksL_law_75 17 rfl rfl)
theorem dL_law_1993 : decode cL_law 1993 = .ok (.invokevirtual 260, 3) := dk_182 1 4 (dk_at dksL_law_75 18 rfl rfl)
theorem dL_law_1996 : decode cL_law 1996 = .ok (.istore 7, 2) := dk_54 7 (dk_at dksL_law_75 21 rfl rfl)
theorem dL_law_1998 : decode cL_law 1998 = .ok (.aload_n 2, 1) := dk_44 (dk_at dksL_law_75 23 rfl rfl)
theorem dL_law_1999 : decode cL_law 1999 = .ok (.invokevirtual 161, 3) := dk_182 0 161 (dk_at dksL_law_76 0 rfl rfl)
theorem dL_law_2002 : decode cL_law 2002 = .ok (.iload 6, 2) := dk_21 6 (dk_at dksL_law_76 3 rfl rfl)
theorem dL_law_2004 : decode cL_law 2004 = .ok (.if_icmp .eq 5, 3) := dk_159 0 5 (dk_at dksL_law_76 5 rfl rfl)
theorem dL_law_2007 : decode cL_law 2007 = .ok (.iconst 0, 1) := dk_3 (dk_at dksL_law_76 8 rfl rfl)
theorem dL_law_2008 : decode cL_law 2008 = .ok (.ireturn, 1) := dk_172 (dk_at dksL_law_76 9 rfl rfl)
theorem dL_law_2009 : decode cL_law 2009 = .ok (.iload 6, 2) := dk_21 6 (dk_at dksL_law_76 10 rfl rfl)
theorem dL_law_2011 : decode cL_law 2011 = .ok (.ifCond .ne 15, 3) := dk_154 0 15 (dk_at dksL_law_76 12 rfl rfl)
theorem dL_law_2014 : decode cL_law 2014 = .ok (.aload_n 3, 1) := dk_45 (dk_at dksL_law_76 15 rfl rfl)
theorem dL_law_2015 : decode cL_law 2015 = .ok (.iconst 0, 1) := dk_3 (dk_at dksL_law_76 16 rfl rfl)
theorem dL_law_2016 : decode cL_law 2016 = .ok (.laload, 1) := dk_47 (dk_at dksL_law_76 17 rfl rfl)
theorem dL_law_2017 : decode cL_law 2017 = .ok (.iload 7, 2) := dk_21 7 (dk_at dksL_law_76 18 rfl rfl)
theorem dL_law_2019 : decode cL_law 2019 = .ok (.i2l, 1) := dk_133 (dk_at dksL_law_76 20 rfl rfl)
theorem dL_law_2020 : decode cL_law 2020 = .ok (.lcmp, 1) := dk_148 (dk_at dksL_law_76 21 rfl rfl)
theorem dL_law_2021 : decode cL_law 2021 = .ok (.ifCond .eq 5, 3) := dk_153 0 5 (dk_at dksL_law_77 0 rfl rfl)
theorem dL_law_2024 : decode cL_law 2024 = .ok (.iconst 0, 1) := dk_3 (dk_at dksL_law_77 3 rfl rfl)
theorem dL_law_2025 : decode cL_law 2025 = .ok (.ireturn, 1) := dk_172 (dk_at dksL_law_77 4 rfl rfl)
theorem dL_law_2026 : decode cL_law 2026 = .ok (.goto 812, 3) := dk_167 3 44 (dk_at dksL_law_77 5 rfl rfl)
theorem dL_law_2029 : decode cL_law 2029 = .ok (.aload_n 1, 1) := dk_43 (dk_at dksL_law_77 8 rfl rfl)
theorem dL_law_2030 : decode cL_law 2030 = .ok (.aload_n 0, 1) := dk_42 (dk_at dksL_law_77 9 rfl rfl)
theorem dL_law_2031 : decode cL_law 2031 = .ok (.iload 5, 2) := dk_21 5 (dk_at dksL_law_77 10 rfl rfl)
theorem dL_law_2033 : decode cL_law 2033 = .ok (.iconst 1, 1) := dk_4 (dk_at dksL_law_77 12 rfl rfl)
theorem dL_law_2034 : decode cL_law 2034 = .ok (.iadd, 1) := dk_96 (dk_at dksL_law_77 13 rfl rfl)
theorem dL_law_2035 : decode cL_law 2035 = .ok (.iaload, 1) := dk_46 (dk_at dksL_law_77 14 rfl rfl)
theorem dL_law_2036 : decode cL_law 2036 = .ok (.aload_n 3, 1) := dk_45 (dk_at dksL_law_77 15 rfl rfl)
theorem dL_law_2037 : decode cL_law 2037 = .ok (.invokestatic 261, 3) := dk_184 1 5 (dk_at dksL_law_77 16 rfl rfl)
theorem dL_law_2040 : decode cL_law 2040 = .ok (.istore 6, 2) := dk_54 6 (dk_at dksL_law_77 19 rfl rfl)
theorem dL_law_2042 : decode cL_law 2042 = .ok (.aload_n 2, 1) := dk_44 (dk_at dksL_law_77 21 rfl rfl)
theorem dL_law_2043 : decode cL_law 2043 = .ok (.aload_n 0, 1) := dk_42 (dk_at dksL_law_77 22 rfl rfl)
theorem dL_law_2044 : decode cL_law 2044 = .ok (.iload 5, 2) := dk_21 5 (dk_at dksL_law_78 0 rfl rfl)
theorem dL_law_2046 : decode cL_law 2046 = .ok (.iconst 1, 1) := dk_4 (dk_at dksL_law_78 2 rfl rfl)
theorem dL_law_2047 : decode cL_law 2047 = .ok (.iadd, 1) := dk_96 (dk_at dksL_law_78 3 rfl rfl)
theorem dL_law_2048 : decode cL_law 2048 = .ok (.iaload, 1) := dk_46 (dk_at dksL_law_78 4 rfl rfl)
theorem dL_law_2049 : decode cL_law 2049 = .ok (.invokevirtual 263, 3) := dk_182 1 7 (dk_at dksL_law_78 5 rfl rfl)
theorem dL_law_2052 : decode cL_law 2052 = .ok (.istore 7, 2) := dk_54 7 (dk_at dksL_law_78 8 rfl rfl)
theorem dL_law_2054 : decode cL_law 2054 = .ok (.aload_n 2, 1) := dk_44 (dk_at dksL_law_78 10 rfl rfl)
theorem dL_law_2055 : decode cL_law 2055 = .ok (.invokevirtual 161, 3) := dk_182 0 161 (dk_at dksL_law_78 11 rfl rfl)
theorem dL_law_2058 : decode cL_law 2058 = .ok (.iload 6, 2) := dk_21 6 (dk_at dksL_law_78 14 rfl rfl)
theorem dL_law_2060 : decode cL_law 2060 = .ok (.if_icmp .eq 5, 3) := dk_159 0 5 (dk_at dksL_law_78 16 rfl rfl)
theorem dL_law_2063 : decode cL_law 2063 = .ok (.iconst 0, 1) := dk_3 (dk_at dksL_law_78 19 rfl rfl)
theorem dL_law_2064 : decode cL_law 2064 = .ok (.ireturn, 1) := dk_172 (dk_at dksL_law_78 20 rfl rfl)
theorem dL_law_2065 : decode cL_law 2065 = .ok (.iload 6, 2) := dk_21 6 (dk_at dksL_law_78 21 rfl rfl)
theorem dL_law_2067 : decode cL_law 2067 = .ok (.ifCond .ne 15, 3) := dk_154 0 15 (dk_at dksL_law_79 0 rfl rfl)
theorem dL_law_2070 : decode cL_law 2070 = .ok (.aload_n 3, 1) := dk_45 (dk_at dksL_law_79 3 rfl rfl)
theorem dL_law_2071 : decode cL_law 2071 = .ok (.iconst 0, 1) := dk_3 (dk_at dksL_law_79 4 rfl rfl)
theorem dL_law_2072 : decode cL_law 2072 = .ok (.laload, 1) := dk_47 (dk_at dksL_law_79 5 rfl rfl)
theorem dL_law_2073 : decode cL_law 2073 = .ok (.iload 7, 2) := dk_21 7 (dk_at dksL_law_79 6 rfl rfl)
theorem dL_law_2075 : decode cL_law 2075 = .ok (.i2l, 1) := dk_133 (dk_at dksL_law_79 8 rfl rfl)
theorem dL_law_2076 : decode cL_law 2076 = .ok (.lcmp, 1) := dk_148 (dk_at dksL_law_79 9 rfl rfl)
theorem dL_law_2077 : decode cL_law 2077 = .ok (.ifCond .eq 5, 3) := dk_153 0 5 (dk_at dksL_law_79 10 rfl rfl)
theorem dL_law_2080 : decode cL_law 2080 = .ok (.iconst 0, 1) := dk_3 (dk_at dksL_law_79 13 rfl rfl)
theorem dL_law_2081 : decode cL_law 2081 = .ok (.ireturn, 1) := dk_172 (dk_at dksL_law_79 14 rfl rfl)
theorem dL_law_2082 : decode cL_law 2082 = .ok (.goto 756, 3) := dk_167 2 244 (dk_at dksL_law_79 15 rfl rfl)
theorem dL_law_2085 : decode cL_law 2085 = .ok (.aload_n 1, 1) := dk_43 (dk_at dksL_law_79 18 rfl rfl)
theorem dL_law_2086 : decode cL_law 2086 = .ok (.invokevirtual 264, 3) := dk_182 1 8 (dk_at dksL_law_79 19 rfl rfl)
theorem dL_law_2089 : decode cL_law 2089 = .ok (.aload_n 2, 1) := dk_44 (dk_at dksL_law_79 22 rfl rfl)
theorem dL_law_2090 : decode cL_law 2090 = .ok (.invokevirtual 267, 3) := dk_182 1 11 (dk_at dksL_law_80 0 rfl rfl)
theorem dL_law_2093 : decode cL_law 2093 = .ok (.if_icmp .eq 745, 3) := dk_159 2 233 (dk_at dksL_law_80 3 rfl rfl)
theorem dL_law_2096 : decode cL_law 2096 = .ok (.iconst 0, 1) := dk_3 (dk_at dksL_law_80 6 rfl rfl)
theorem dL_law_2097 : decode cL_law 2097 = .ok (.ireturn, 1) := dk_172 (dk_at dksL_law_80 7 rfl rfl)
theorem dL_law_2098 : decode cL_law 2098 = .ok (.aload_n 1, 1) := dk_43 (dk_at dksL_law_80 8 rfl rfl)
theorem dL_law_2099 : decode cL_law 2099 = .ok (.invokevirtual 268, 3) := dk_182 1 12 (dk_at dksL_law_80 9 rfl rfl)
theorem dL_law_2102 : decode cL_law 2102 = .ok (.aload_n 2, 1) := dk_44 (dk_at dksL_law_80 12 rfl rfl)
theorem dL_law_2103 : decode cL_law 2103 = .ok (.invokevirtual 271, 3) := dk_182 1 15 (dk_at dksL_law_80 13 rfl rfl)
theorem dL_law_2106 : decode cL_law 2106 = .ok (.if_icmp .eq 732, 3) := dk_159 2 220 (dk_at dksL_law_80 16 rfl rfl)
theorem dL_law_2109 : decode cL_law 2109 = .ok (.iconst 0, 1) := dk_3 (dk_at dksL_law_80 19 rfl rfl)
theorem dL_law_2110 : decode cL_law 2110 = .ok (.ireturn, 1) := dk_172 (dk_at dksL_law_80 20 rfl rfl)
theorem dL_law_2111 : decode cL_law 2111 = .ok (.aload_n 1, 1) := dk_43 (dk_at dksL_law_80 21 rfl rfl)
theorem dL_law_2112 : decode cL_law 2112 = .ok (.invokevirtual 272, 3) := dk_182 1 16 (dk_at dksL_law_81 0 rfl rfl)
theorem dL_law_2115 : decode cL_law 2115 = .ok (.aload_n 2, 1) := dk_44 (dk_at dksL_law_81 3 rfl rfl)
theorem dL_law_2116 : decode cL_law 2116 = .ok (.invokevirtual 275, 3) := dk_182 1 19 (dk_at dksL_law_81 4 rfl rfl)
theorem dL_law_2119 : decode cL_law 2119 = .ok (.if_icmp .eq 719, 3) := dk_159 2 207 (dk_at dksL_law_81 7 rfl rfl)
theorem dL_law_2122 : decode cL_law 2122 = .ok (.iconst 0, 1) := dk_3 (dk_at dksL_law_81 10 rfl rfl)
theorem dL_law_2123 : decode cL_law 2123 = .ok (.ireturn, 1) := dk_172 (dk_at dksL_law_81 11 rfl rfl)
theorem dL_law_2124 : decode cL_law 2124 = .ok (.aload_n 1, 1) := dk_43 (dk_at dksL_law_81 12 rfl rfl)
theorem dL_law_2125 : decode cL_law 2125 = .ok (.invokevirtual 276, 3) := dk_182 1 20 (dk_at dksL_law_81 13 rfl rfl)
theorem dL_law_2128 : decode cL_law 2128 = .ok (.aload_n 2, 1) := dk_44 (dk_at dksL_law_81 16 rfl rfl)
theorem dL_law_2129 : decode cL_law 2129 = .ok (.invokevirtual 279, 3) := dk_182 1 23 (dk_at dksL_law_81 17 rfl rfl)
theorem dL_law_2132 : decode cL_law 2132 = .ok (.if_icmp .eq 706, 3) := dk_159 2 194 (dk_at dksL_law_81 20 rfl rfl)
theorem dL_law_2135 : decode cL_law 2135 = .ok (.iconst 0, 1) := dk_3 (dk_at dksL_law_81 23 rfl rfl)
theorem dL_law_2136 : decode cL_law 2136 = .ok (.ireturn, 1) := dk_172 (dk_at dksL_law_82 0 rfl rfl)
theorem dL_law_2137 : decode cL_law 2137 = .ok (.aload_n 1, 1) := dk_43 (dk_at dksL_law_82 1 rfl rfl)
theorem dL_law_2138 : decode cL_law 2138 = .ok (.invokevirtual 280, 3) := dk_182 1 24 (dk_at dksL_law_82 2 rfl rfl)
theorem dL_law_2141 : decode cL_law 2141 = .ok (.aload_n 2, 1) := dk_44 (dk_at dksL_law_82 5 rfl rfl)
theorem dL_law_2142 : decode cL_law 2142 = .ok (.invokevirtual 284, 3) := dk_182 1 28 (dk_at dksL_law_82 6 rfl rfl)
theorem dL_law_2145 : decode cL_law 2145 = .ok (.lcmp, 1) := dk_148 (dk_at dksL_law_82 9 rfl rfl)
theorem dL_law_2146 : decode cL_law 2146 = .ok (.ifCond .eq 692, 3) := dk_153 2 180 (dk_at dksL_law_82 10 rfl rfl)
theorem dL_law_2149 : decode cL_law 2149 = .ok (.iconst 0, 1) := dk_3 (dk_at dksL_law_82 13 rfl rfl)
theorem dL_law_2150 : decode cL_law 2150 = .ok (.ireturn, 1) := dk_172 (dk_at dksL_law_82 14 rfl rfl)
theorem dL_law_2151 : decode cL_law 2151 = .ok (.aload_n 1, 1) := dk_43 (dk_at dksL_law_82 15 rfl rfl)
theorem dL_law_2152 : decode cL_law 2152 = .ok (.invokevirtual 285, 3) := dk_182 1 29 (dk_at dksL_law_82 16 rfl rfl)
theorem dL_law_2155 : decode cL_law 2155 = .ok (.aload_n 2, 1) := dk_44 (dk_at dksL_law_82 19 rfl rfl)
theorem dL_law_2156 : decode cL_law 2156 = .ok (.invokevirtual 288, 3) := dk_182 1 32 (dk_at dksL_law_82 20 rfl rfl)
theorem dL_law_2159 : decode cL_law 2159 = .ok (.lcmp, 1) := dk_148 (dk_at dksL_law_82 23 rfl rfl)
theorem dL_law_2160 : decode cL_law 2160 = .ok (.ifCond .eq 678, 3) := dk_153 2 166 (dk_at dksL_law_83 0 rfl rfl)
theorem dL_law_2163 : decode cL_law 2163 = .ok (.iconst 0, 1) := dk_3 (dk_at dksL_law_83 3 rfl rfl)
theorem dL_law_2164 : decode cL_law 2164 = .ok (.ireturn, 1) := dk_172 (dk_at dksL_law_83 4 rfl rfl)
theorem dL_law_2165 : decode cL_law 2165 = .ok (.aload_n 1, 1) := dk_43 (dk_at dksL_law_83 5 rfl rfl)
theorem dL_law_2166 : decode cL_law 2166 = .ok (.invokevirtual 289, 3) := dk_182 1 33 (dk_at dksL_law_83 6 rfl rfl)
theorem dL_law_2169 : decode cL_law 2169 = .ok (.aload_n 2, 1) := dk_44 (dk_at dksL_law_83 9 rfl rfl)
theorem dL_law_2170 : decode cL_law 2170 = .ok (.invokevirtual 292, 3) := dk_182 1 36 (dk_at dksL_law_83 10 rfl rfl)
theorem dL_law_2173 : decode cL_law 2173 = .ok (.lcmp, 1) := dk_148 (dk_at dksL_law_83 13 rfl rfl)
theorem dL_law_2174 : decode cL_law 2174 = .ok (.ifCond .eq 664, 3) := dk_153 2 152 (dk_at dksL_law_83 14 rfl rfl)
theorem dL_law_2177 : decode cL_law 2177 = .ok (.iconst 0, 1) := dk_3 (dk_at dksL_law_83 17 rfl rfl)
theorem dL_law_2178 : decode cL_law 2178 = .ok (.ireturn, 1) := dk_172 (dk_at dksL_law_83 18 rfl rfl)
theorem dL_law_2179 : decode cL_law 2179 = .ok (.aload_n 1, 1) := dk_43 (dk_at dksL_law_83 19 rfl rfl)
theorem dL_law_2180 : decode cL_law 2180 = .ok (.invokevirtual 293, 3) := dk_182 1 37 (dk_at dksL_law_83 20 rfl rfl)
theorem dL_law_2183 : decode cL_law 2183 = .ok (.aload_n 2, 1) := dk_44 (dk_at dksL_law_83 23 rfl rfl)
theorem dL_law_2184 : decode cL_law 2184 = .ok (.invokevirtual 296, 3) := dk_182 1 40 (dk_at dksL_law_84 0 rfl rfl)
theorem dL_law_2187 : decode cL_law 2187 = .ok (.if_icmp .eq 651, 3) := dk_159 2 139 (dk_at dksL_law_84 3 rfl rfl)
theorem dL_law_2190 : decode cL_law 2190 = .ok (.iconst 0, 1) := dk_3 (dk_at dksL_law_84 6 rfl rfl)
theorem dL_law_2191 : decode cL_law 2191 = .ok (.ireturn, 1) := dk_172 (dk_at dksL_law_84 7 rfl rfl)
theorem dL_law_2192 : decode cL_law 2192 = .ok (.aload_n 1, 1) := dk_43 (dk_at dksL_law_84 8 rfl rfl)
theorem dL_law_2193 : decode cL_law 2193 = .ok (.invokevirtual 297, 3) := dk_182 1 41 (dk_at dksL_law_84 9 rfl rfl)
theorem dL_law_2196 : decode cL_law 2196 = .ok (.aload_n 2, 1) := dk_44 (dk_at dksL_law_84 12 rfl rfl)
theorem dL_law_2197 : decode cL_law 2197 = .ok (.invokevirtual 300, 3) := dk_182 1 44 (dk_at dksL_law_84 13 rfl rfl)
theorem dL_law_2200 : decode cL_law 2200 = .ok (.lcmp, 1) := dk_148 (dk_at dksL_law_84 16 rfl rfl)
theorem dL_law_2201 : decode cL_law 2201 = .ok (.ifCond .eq 637, 3) := dk_153 2 125 (dk_at dksL_law_84 17 rfl rfl)
theorem dL_law_2204 : decode cL_law 2204 = .ok (.iconst 0, 1) := dk_3 (dk_at dksL_law_84 20 rfl rfl)
theorem dL_law_2205 : decode cL_law 2205 = .ok (.ireturn, 1) := dk_172 (dk_at dksL_law_84 21 rfl rfl)
theorem dL_law_2206 : decode cL_law 2206 = .ok (.aload_n 1, 1) := dk_43 (dk_at dksL_law_84 22 rfl rfl)
theorem dL_law_2207 : decode cL_law 2207 = .ok (.invokevirtual 301, 3) := dk_182 1 45 (dk_at dksL_law_85 0 rfl rfl)
theorem dL_law_2210 : decode cL_law 2210 = .ok (.aload_n 2, 1) := dk_44 (dk_at dksL_law_85 3 rfl rfl)
theorem dL_law_2211 : decode cL_law 2211 = .ok (.invokevirtual 304, 3) := dk_182 1 48 (dk_at dksL_law_85 4 rfl rfl)
theorem dL_law_2214 : decode cL_law 2214 = .ok (.lcmp, 1) := dk_148 (dk_at dksL_law_85 7 rfl rfl)
theorem dL_law_2215 : decode cL_law 2215 = .ok (.ifCond .eq 623, 3) := dk_153 2 111 (dk_at dksL_law_85 8 rfl rfl)
theorem dL_law_2218 : decode cL_law 2218 = .ok (.iconst 0, 1) := dk_3 (dk_at dksL_law_85 11 rfl rfl)
theorem dL_law_2219 : decode cL_law 2219 = .ok (.ireturn, 1) := dk_172 (dk_at dksL_law_85 12 rfl rfl)
theorem dL_law_2220 : decode cL_law 2220 = .ok (.aload_n 1, 1) := dk_43 (dk_at dksL_law_85 13 rfl rfl)
theorem dL_law_2221 : decode cL_law 2221 = .ok (.invokevirtual 305, 3) := dk_182 1 49 (dk_at dksL_law_85 14 rfl rfl)
theorem dL_law_2224 : decode cL_law 2224 = .ok (.aload_n 2, 1) := dk_44 (dk_at dksL_law_85 17 rfl rfl)
theorem dL_law_2225 : decode cL_law 2225 = .ok (.invokevirtual 308, 3) := dk_182 1 52 (dk_at dksL_law_85 18 rfl rfl)
theorem dL_law_2228 : decode cL_law 2228 = .ok (.lcmp, 1) := dk_148 (dk_at dksL_law_85 21 rfl rfl)
theorem dL_law_2229 : decode cL_law 2229 = .ok (.ifCond .eq 609, 3) := dk_153 2 97 (dk_at dksL_law_86 0 rfl rfl)
theorem dL_law_2232 : decode cL_law 2232 = .ok (.iconst 0, 1) := dk_3 (dk_at dksL_law_86 3 rfl rfl)
theorem dL_law_2233 : decode cL_law 2233 = .ok (.ireturn, 1) := dk_172 (dk_at dksL_law_86 4 rfl rfl)
theorem dL_law_2234 : decode cL_law 2234 = .ok (.aload_n 1, 1) := dk_43 (dk_at dksL_law_86 5 rfl rfl)
theorem dL_law_2235 : decode cL_law 2235 = .ok (.aload 4, 2) := dk_25 4 (dk_at dksL_law_86 6 rfl rfl)
theorem dL_law_2237 : decode cL_law 2237 = .ok (.invokestatic 309, 3) := dk_184 1 53 (dk_at dksL_law_86 8 rfl rfl)
theorem dL_law_2240 : decode cL_law 2240 = .ok (.istore 6, 2) := dk_54 6 (dk_at dksL_law_86 11 rfl rfl)
theorem dL_law_2242 : decode cL_law 2242 = .ok (.aload_n 2, 1) := dk_44 (dk_at dksL_law_86 13 rfl rfl)
theorem dL_law_2243 : decode cL_law 2243 = .ok (.invokevirtual 312, 3) := dk_182 1 56 (dk_at dksL_law_86 14 rfl rfl)
theorem dL_law_2246 : decode cL_law 2246 = .ok (.dstore 7, 2) := dk_57 7 (dk_at dksL_law_86 17 rfl rfl)
theorem dL_law_2248 : decode cL_law 2248 = .ok (.aload_n 2, 1) := dk_44 (dk_at dksL_law_86 19 rfl rfl)
theorem dL_law_2249 : decode cL_law 2249 = .ok (.invokevirtual 161, 3) := dk_182 0 161 (dk_at dksL_law_86 20 rfl rfl)
theorem dL_law_2252 : decode cL_law 2252 = .ok (.iload 6, 2) := dk_21 6 (dk_at dksL_law_87 0 rfl rfl)
theorem dL_law_2254 : decode cL_law 2254 = .ok (.if_icmp .eq 5, 3) := dk_159 0 5 (dk_at dksL_law_87 2 rfl rfl)
theorem dL_law_2257 : decode cL_law 2257 = .ok (.iconst 0, 1) := dk_3 (dk_at dksL_law_87 5 rfl rfl)
theorem dL_law_2258 : decode cL_law 2258 = .ok (.ireturn, 1) := dk_172 (dk_at dksL_law_87 6 rfl rfl)
theorem dL_law_2259 : decode cL_law 2259 = .ok (.iload 6, 2) := dk_21 6 (dk_at dksL_law_87 7 rfl rfl)
theorem dL_law_2261 : decode cL_law 2261 = .ok (.ifCond .ne 35, 3) := dk_154 0 35 (dk_at dksL_law_87 9 rfl rfl)
theorem dL_law_2264 : decode cL_law 2264 = .ok (.aload 4, 2) := dk_25 4 (dk_at dksL_law_87 12 rfl rfl)
theorem dL_law_2266 : decode cL_law 2266 = .ok (.iconst 0, 1) := dk_3 (dk_at dksL_law_87 14 rfl rfl)
theorem dL_law_2267 : decode cL_law 2267 = .ok (.daload, 1) := dk_49 (dk_at dksL_law_87 15 rfl rfl)
theorem dL_law_2268 : decode cL_law 2268 = .ok (.dload 7, 2) := dk_24 7 (dk_at dksL_law_87 16 rfl rfl)
theorem dL_law_2270 : decode cL_law 2270 = .ok (.dcmp .l, 1) := dk_151 (dk_at dksL_law_87 18 rfl rfl)
theorem dL_law_2271 : decode cL_law 2271 = .ok (.ifCond .eq 25, 3) := dk_153 0 25 (dk_at dksL_law_87 19 rfl rfl)
theorem dL_law_2274 : decode cL_law 2274 = .ok (.aload 4, 2) := dk_25 4 (dk_at dksL_law_87 22 rfl rfl)
theorem dL_law_2276 : decode cL_law 2276 = .ok (.iconst 0, 1) := dk_3 (dk_at dksL_law_88 0 rfl rfl)
theorem dL_law_2277 : decode cL_law 2277 = .ok (.daload, 1) := dk_49 (dk_at dksL_law_88 1 rfl rfl)
theorem dL_law_2278 : decode cL_law 2278 = .ok (.aload 4, 2) := dk_25 4 (dk_at dksL_law_88 2 rfl rfl)
theorem dL_law_2280 : decode cL_law 2280 = .ok (.iconst 0, 1) := dk_3 (dk_at dksL_law_88 4 rfl rfl)
theorem dL_law_2281 : decode cL_law 2281 = .ok (.daload, 1) := dk_49 (dk_at dksL_law_88 5 rfl rfl)
theorem dL_law_2282 : decode cL_law 2282 = .ok (.dcmp .l, 1) := dk_151 (dk_at dksL_law_88 6 rfl rfl)
theorem dL_law_2283 : decode cL_law 2283 = .ok (.ifCond .eq 11, 3) := dk_153 0 11 (dk_at dksL_law_88 7 rfl rfl)
theorem dL_law_2286 : decode cL_law 2286 = .ok (.dload 7, 2) := dk_24 7 (dk_at dksL_law_88 10 rfl rfl)
theorem dL_law_2288 : decode cL_law 2288 = .ok (.dload 7, 2) := dk_24 7 (dk_at dksL_law_88 12 rfl rfl)
theorem dL_law_2290 : decode cL_law 2290 = .ok (.dcmp .l, 1) := dk_151 (dk_at dksL_law_88 14 rfl rfl)
theorem dL_law_2291 : decode cL_law 2291 = .ok (.ifCond .ne 5, 3) := dk_154 0 5 (dk_at dksL_law_88 15 rfl rfl)
theorem dL_law_2294 : decode cL_law 2294 = .ok (.iconst 0, 1) := dk_3 (dk_at dksL_law_88 18 rfl rfl)
theorem dL_law_2295 : decode cL_law 2295 = .ok (.ireturn, 1) := dk_172 (dk_at dksL_law_88 19 rfl rfl)
theorem dL_law_2296 : decode cL_law 2296 = .ok (.goto 542, 3) := dk_167 2 30 (dk_at dksL_law_88 20 rfl rfl)
theorem dL_law_2299 : decode cL_law 2299 = .ok (.aload_n 1, 1) := dk_43 (dk_at dksL_law_88 23 rfl rfl)
theorem dL_law_2300 : decode cL_law 2300 = .ok (.aload 4, 2) := dk_25 4 (dk_at dksL_law_89 0 rfl rfl)
theorem dL_law_2302 : decode cL_law 2302 = .ok (.invokestatic 313, 3) := dk_184 1 57 (dk_at dksL_law_89 2 rfl rfl)
theorem dL_law_2305 : decode cL_law 2305 = .ok (.istore 6, 2) := dk_54 6 (dk_at dksL_law_89 5 rfl rfl)
theorem dL_law_2307 : decode cL_law 2307 = .ok (.aload_n 2, 1) := dk_44 (dk_at dksL_law_89 7 rfl rfl)
theorem dL_law_2308 : decode cL_law 2308 = .ok (.invokevirtual 315, 3) := dk_182 1 59 (dk_at dksL_law_89 8 rfl rfl)
theorem dL_law_2311 : decode cL_law 2311 = .ok (.fstore 7, 2) := dk_56 7 (dk_at dksL_law_89 11 rfl rfl)
theorem dL_law_2313 : decode cL_law 2313 = .ok (.aload_n 2, 1) := dk_44 (dk_at dksL_law_89 13 rfl rfl)
theorem dL_law_2314 : decode cL_law 2314 = .ok (.invokevirtual 161, 3) := dk_182 0 161 (dk_at dksL_law_89 14 rfl rfl)
theorem dL_law_2317 : decode cL_law 2317 = .ok (.iload 6, 2) := dk_21 6 (dk_at dksL_law_89 17 rfl rfl)
theorem dL_law_2319 : decode cL_law 2319 = .ok (.if_icmp .eq 5, 3) := dk_159 0 5 (dk_at dksL_law_89 19 rfl rfl)
theorem dL_law_2322 : decode cL_law 2322 = .ok (.iconst 0, 1) := dk_3 (dk_at dksL_law_89 22 rfl rfl)
theorem dL_law_2323 : decode cL_law 2323 = .ok (.ireturn, 1) := dk_172 (dk_at dksL_law_89 23 rfl rfl)
theorem dL_law_2324 : decode cL_law 2324 = .ok (.iload 6, 2) := dk_21 6 (dk_at dksL_law_90 0 rfl rfl)
theorem dL_law_2326 : decode cL_law 2326 = .ok (.ifCond .ne 36, 3) := dk_154 0 36 (dk_at dksL_law_90 2 rfl rfl)
theorem dL_law_2329 : decode cL_law 2329 = .ok (.aload 4, 2) := dk_25 4 (dk_at dksL_law_90 5 rfl rfl)
theorem dL_law_2331 : decode cL_law 2331 = .ok (.iconst 0, 1) := dk_3 (dk_at dksL_law_90 7 rfl rfl)
theorem dL_law_2332 : decode cL_law 2332 = .ok (.daload, 1) := dk_49 (dk_at dksL_law_90 8 rfl rfl)
theorem dL_law_2333 : decode cL_law 2333 = .ok (.fload 7, 2) := dk_23 7 (dk_at dksL_law_90 9 rfl rfl)
theorem dL_law_2335 : decode cL_law 2335 = .ok (.f2d, 1) := dk_141 (dk_at dksL_law_90 11 rfl rfl)
theorem dL_law_2336 : decode cL_law 2336 = .ok (.dcmp .l, 1) := dk_151 (dk_at dksL_law_90 12 rfl rfl)
theorem dL_law_2337 : decode cL_law 2337 = .ok (.ifCond .eq 25, 3) := dk_153 0 25 (dk_at dksL_law_90 13 rfl rfl)
theorem dL_law_2340 : decode cL_law 2340 = .ok (.aload 4, 2) := dk_25 4 (dk_at dksL_law_90 16 rfl rfl)
theorem dL_law_2342 : decode cL_law 2342 = .ok (.iconst 0, 1) := dk_3 (dk_at dksL_law_90 18 rfl rfl)
theorem dL_law_2343 : decode cL_law 2343 = .ok (.daload, 1) := dk_49 (dk_at dksL_law_90 19 rfl rfl)
theorem dL_law_2344 : decode cL_law 2344 = .ok (.aload 4, 2) := dk_25 4 (dk_at dksL_law_90 20 rfl rfl)
theorem dL_law_2346 : decode cL_law 2346 = .ok (.iconst 0, 1) := dk_3 (dk_at dksL_law_90 22 rfl rfl)
theorem dL_law_2347 : decode cL_law 2347 = .ok (.daload, 1) := dk_49 (dk_at dksL_law_90 23 rfl rfl)
theorem dL_law_2348 : decode cL_law 2348 = .ok (.dcmp .l, 1) := dk_151 (dk_at dksL_law_91 0 rfl rfl)
theorem dL_law_2349 : decode cL_law 2349 = .ok (.ifCond .eq 11, 3) := dk_153 0 11 (dk_at dksL_law_91 1 rfl rfl)
theorem dL_law_2352 : decode cL_law 2352 = .ok (.fload 7, 2) := dk_23 7 (dk_at dksL_law_91 4 rfl rfl)
theorem dL_law_2354 : decode cL_law 2354 = .ok (.fload 7, 2) := dk_23 7 (dk_at dksL_law_91 6 rfl rfl)
theorem dL_law_2356 : decode cL_law 2356 = .ok (.fcmp .l, 1) := dk_149 (dk_at dksL_law_91 8 rfl rfl)
theorem dL_law_2357 : decode cL_law 2357 = .ok (.ifCond .ne 5, 3) := dk_154 0 5 (dk_at dksL_law_91 9 rfl rfl)
theorem dL_law_2360 : decode cL_law 2360 = .ok (.iconst 0, 1) := dk_3 (dk_at dksL_law_91 12 rfl rfl)
theorem dL_law_2361 : decode cL_law 2361 = .ok (.ireturn, 1) := dk_172 (dk_at dksL_law_91 13 rfl rfl)
theorem dL_law_2362 : decode cL_law 2362 = .ok (.goto 476, 3) := dk_167 1 220 (dk_at dksL_law_91 14 rfl rfl)
theorem dL_law_2365 : decode cL_law 2365 = .ok (.aload_n 1, 1) := dk_43 (dk_at dksL_law_91 17 rfl rfl)
theorem dL_law_2366 : decode cL_law 2366 = .ok (.invokevirtual 316, 3) := dk_182 1 60 (dk_at dksL_law_91 18 rfl rfl)
theorem dL_law_2369 : decode cL_law 2369 = .ok (.aload_n 2, 1) := dk_44 (dk_at dksL_law_91 21 rfl rfl)
theorem dL_law_2370 : decode cL_law 2370 = .ok (.invokevirtual 320, 3) := dk_182 1 64 (dk_at dksL_law_92 0 rfl rfl)
theorem dL_law_2373 : decode cL_law 2373 = .ok (.if_icmp .eq 465, 3) := dk_159 1 209 (dk_at dksL_law_92 3 rfl rfl)
theorem dL_law_2376 : decode cL_law 2376 = .ok (.iconst 0, 1) := dk_3 (dk_at dksL_law_92 6 rfl rfl)
theorem dL_law_2377 : decode cL_law 2377 = .ok (.ireturn, 1) := dk_172 (dk_at dksL_law_92 7 rfl rfl)
theorem dL_law_2378 : decode cL_law 2378 = .ok (.aload_n 1, 1) := dk_43 (dk_at dksL_law_92 8 rfl rfl)
theorem dL_law_2379 : decode cL_law 2379 = .ok (.aload_n 0, 1) := dk_42 (dk_at dksL_law_92 9 rfl rfl)
theorem dL_law_2380 : decode cL_law 2380 = .ok (.iload 5, 2) := dk_21 5 (dk_at dksL_law_92 10 rfl rfl)
theorem dL_law_2382 : decode cL_law 2382 = .ok (.iconst 1, 1) := dk_4 (dk_at dksL_law_92 12 rfl rfl)
theorem dL_law_2383 : decode cL_law 2383 = .ok (.iadd, 1) := dk_96 (dk_at dksL_law_92 13 rfl rfl)
theorem dL_law_2384 : decode cL_law 2384 = .ok (.iaload, 1) := dk_46 (dk_at dksL_law_92 14 rfl rfl)
theorem dL_law_2385 : decode cL_law 2385 = .ok (.aload_n 3, 1) := dk_45 (dk_at dksL_law_92 15 rfl rfl)
theorem dL_law_2386 : decode cL_law 2386 = .ok (.invokestatic 321, 3) := dk_184 1 65 (dk_at dksL_law_92 16 rfl rfl)
theorem dL_law_2389 : decode cL_law 2389 = .ok (.istore 6, 2) := dk_54 6 (dk_at dksL_law_92 19 rfl rfl)
theorem dL_law_2391 : decode cL_law 2391 = .ok (.aload_n 2, 1) := dk_44 (dk_at dksL_law_92 21 rfl rfl)
theorem dL_law_2392 : decode cL_law 2392 = .ok (.aload_n 0, 1) := dk_42 (dk_at dksL_law_92 22 rfl rfl)
theorem dL_law_2393 : decode cL_law 2393 = .ok (.iload 5, 2) := dk_21 5 (dk_at dksL_law_93 0 rfl rfl)
theorem dL_law_2395 : decode cL_law 2395 = .ok (.iconst 1, 1) := dk_4 (dk_at dksL_law_93 2 rfl rfl)
theorem dL_law_2396 : decode cL_law 2396 = .ok (.iadd, 1) := dk_96 (dk_at dksL_law_93 3 rfl rfl)
theorem dL_law_2397 : decode cL_law 2397 = .ok (.iaload, 1) := dk_46 (dk_at dksL_law_93 4 rfl rfl)
theorem dL_law_2398 : decode cL_law 2398 = .ok (.invokevirtual 323, 3) := dk_182 1 67 (dk_at dksL_law_93 5 rfl rfl)
theorem dL_law_2401 : decode cL_law 2401 = .ok (.istore 7, 2) := dk_54 7 (dk_at dksL_law_93 8 rfl rfl)
theorem dL_law_2403 : decode cL_law 2403 = .ok (.aload_n 2, 1) := dk_44 (dk_at dksL_law_93 10 rfl rfl)
theorem dL_law_2404 : decode cL_law 2404 = .ok (.invokevirtual 161, 3) := dk_182 0 161 (dk_at dksL_law_93 11 rfl rfl)
theorem dL_law_2407 : decode cL_law 2407 = .ok (.iload 6, 2) := dk_21 6 (dk_at dksL_law_93 14 rfl rfl)
theorem dL_law_2409 : decode cL_law 2409 = .ok (.if_icmp .eq 5, 3) := dk_159 0 5 (dk_at dksL_law_93 16 rfl rfl)
theorem dL_law_2412 : decode cL_law 2412 = .ok (.iconst 0, 1) := dk_3 (dk_at dksL_law_93 19 rfl rfl)
theorem dL_law_2413 : decode cL_law 2413 = .ok (.ireturn, 1) := dk_172 (dk_at dksL_law_93 20 rfl rfl)
theorem dL_law_2414 : decode cL_law 2414 = .ok (.iload 6, 2) := dk_21 6 (dk_at dksL_law_93 21 rfl rfl)
theorem dL_law_2416 : decode cL_law 2416 = .ok (.ifCond .ne 15, 3) := dk_154 0 15 (dk_at dksL_law_94 0 rfl rfl)
theorem dL_law_2419 : decode cL_law 2419 = .ok (.aload_n 3, 1) := dk_45 (dk_at dksL_law_94 3 rfl rfl)
theorem dL_law_2420 : decode cL_law 2420 = .ok (.iconst 0, 1) := dk_3 (dk_at dksL_law_94 4 rfl rfl)
theorem dL_law_2421 : decode cL_law 2421 = .ok (.laload, 1) := dk_47 (dk_at dksL_law_94 5 rfl rfl)
theorem dL_law_2422 : decode cL_law 2422 = .ok (.iload 7, 2) := dk_21 7 (dk_at dksL_law_94 6 rfl rfl)
theorem dL_law_2424 : decode cL_law 2424 = .ok (.i2l, 1) := dk_133 (dk_at dksL_law_94 8 rfl rfl)
theorem dL_law_2425 : decode cL_law 2425 = .ok (.lcmp, 1) := dk_148 (dk_at dksL_law_94 9 rfl rfl)
theorem dL_law_2426 : decode cL_law 2426 = .ok (.ifCond .eq 5, 3) := dk_153 0 5 (dk_at dksL_law_94 10 rfl rfl)
theorem dL_law_2429 : decode cL_law 2429 = .ok (.iconst 0, 1) := dk_3 (dk_at dksL_law_94 13 rfl rfl)
theorem dL_law_2430 : decode cL_law 2430 = .ok (.ireturn, 1) := dk_172 (dk_at dksL_law_94 14 rfl rfl)
theorem dL_law_2431 : decode cL_law 2431 = .ok (.goto 407, 3) := dk_167 1 151 (dk_at dksL_law_94 15 rfl rfl)
theorem dL_law_2434 : decode cL_law 2434 = .ok (.aload_n 1, 1) := dk_43 (dk_at dksL_law_94 18 rfl rfl)
theorem dL_law_2435 : decode cL_law 2435 = .ok (.invokevirtual 324, 3) := dk_182 1 68 (dk_at dksL_law_94 19 rfl rfl)
theorem dL_law_2438 : decode cL_law 2438 = .ok (.aload_n 2, 1) := dk_44 (dk_at dksL_law_94 22 rfl rfl)
theorem dL_law_2439 : decode cL_law 2439 = .ok (.invokevirtual 327, 3) := dk_182 1 71 (dk_at dksL_law_95 0 rfl rfl)
theorem dL_law_2442 : decode cL_law 2442 = .ok (.if_icmp .eq 396, 3) := dk_159 1 140 (dk_at dksL_law_95 3 rfl rfl)
theorem dL_law_2445 : decode cL_law 2445 = .ok (.iconst 0, 1) := dk_3 (dk_at dksL_law_95 6 rfl rfl)
theorem dL_law_2446 : decode cL_law 2446 = .ok (.ireturn, 1) := dk_172 (dk_at dksL_law_95 7 rfl rfl)
theorem dL_law_2447 : decode cL_law 2447 = .ok (.aload_n 1, 1) := dk_43 (dk_at dksL_law_95 8 rfl rfl)
theorem dL_law_2448 : decode cL_law 2448 = .ok (.aload_n 0, 1) := dk_42 (dk_at dksL_law_95 9 rfl rfl)
theorem dL_law_2449 : decode cL_law 2449 = .ok (.iload 5, 2) := dk_21 5 (dk_at dksL_law_95 10 rfl rfl)
theorem dL_law_2451 : decode cL_law 2451 = .ok (.iconst 1, 1) := dk_4 (dk_at dksL_law_95 12 rfl rfl)
theorem dL_law_2452 : decode cL_law 2452 = .ok (.iadd, 1) := dk_96 (dk_at dksL_law_95 13 rfl rfl)
theorem dL_law_2453 : decode cL_law 2453 = .ok (.iaload, 1) := dk_46 (dk_at dksL_law_95 14 rfl rfl)
theorem dL_law_2454 : decode cL_law 2454 = .ok (.aload_n 3, 1) := dk_45 (dk_at dksL_law_95 15 rfl rfl)
theorem dL_law_2455 : decode cL_law 2455 = .ok (.invokestatic 328, 3) := dk_184 1 72 (dk_at dksL_law_95 16 rfl rfl)
theorem dL_law_2458 : decode cL_law 2458 = .ok (.istore 6, 2) := dk_54 6 (dk_at dksL_law_95 19 rfl rfl)
theorem dL_law_2460 : decode cL_law 2460 = .ok (.aload_n 2, 1) := dk_44 (dk_at dksL_law_95 21 rfl rfl)
theorem dL_law_2461 : decode cL_law 2461 = .ok (.aload_n 0, 1) := dk_42 (dk_at dksL_law_95 22 rfl rfl)
theorem dL_law_2462 : decode cL_law 2462 = .ok (.iload 5, 2) := dk_21 5 (dk_at dksL_law_96 0 rfl rfl)
theorem dL_law_2464 : decode cL_law 2464 = .ok (.iconst 1, 1) := dk_4 (dk_at dksL_law_96 2 rfl rfl)
theorem dL_law_2465 : decode cL_law 2465 = .ok (.iadd, 1) := dk_96 (dk_at dksL_law_96 3 rfl rfl)
theorem dL_law_2466 : decode cL_law 2466 = .ok (.iaload, 1) := dk_46 (dk_at dksL_law_96 4 rfl rfl)
theorem dL_law_2467 : decode cL_law 2467 = .ok (.invokevirtual 330, 3) := dk_182 1 74 (dk_at dksL_law_96 5 rfl rfl)
theorem dL_law_2470 : decode cL_law 2470 = .ok (.istore 7, 2) := dk_54 7 (dk_at dksL_law_96 8 rfl rfl)
theorem dL_law_2472 : decode cL_law 2472 = .ok (.aload_n 2, 1) := dk_44 (dk_at dksL_law_96 10 rfl rfl)
theorem dL_law_2473 : decode cL_law 2473 = .ok (.invokevirtual 161, 3) := dk_182 0 161 (dk_at dksL_law_96 11 rfl rfl)
theorem dL_law_2476 : decode cL_law 2476 = .ok (.iload 6, 2) := dk_21 6 (dk_at dksL_law_96 14 rfl rfl)
theorem dL_law_2478 : decode cL_law 2478 = .ok (.if_icmp .eq 5, 3) := dk_159 0 5 (dk_at dksL_law_96 16 rfl rfl)
theorem dL_law_2481 : decode cL_law 2481 = .ok (.iconst 0, 1) := dk_3 (dk_at dksL_law_96 19 rfl rfl)
theorem dL_law_2482 : decode cL_law 2482 = .ok (.ireturn, 1) := dk_172 (dk_at dksL_law_96 20 rfl rfl)
theorem dL_law_2483 : decode cL_law 2483 = .ok (.iload 6, 2) := dk_21 6 (dk_at dksL_law_96 21 rfl rfl)
theorem dL_law_2485 : decode cL_law 2485 = .ok (.ifCond .ne 15, 3) := dk_154 0 15 (dk_at dksL_law_97 0 rfl rfl)
theorem dL_law_2488 : decode cL_law 2488 = .ok (.aload_n 3, 1) := dk_45 (dk_at dksL_law_97 3 rfl rfl)
theorem dL_law_2489 : decode cL_law 2489 = .ok (.iconst 0, 1) := dk_3 (dk_at dksL_law_97 4 rfl rfl)
theorem dL_law_2490 : decode cL_law 2490 = .ok (.laload, 1) := dk_47 (dk_at dksL_law_97 5 rfl rfl)
theorem dL_law_2491 : decode cL_law 2491 = .ok (.iload 7, 2) := dk_21 7 (dk_at dksL_law_97 6 rfl rfl)
theorem dL_law_2493 : decode cL_law 2493 = .ok (.i2l, 1) := dk_133 (dk_at dksL_law_97 8 rfl rfl)
theorem dL_law_2494 : decode cL_law 2494 = .ok (.lcmp, 1) := dk_148 (dk_at dksL_law_97 9 rfl rfl)
theorem dL_law_2495 : decode cL_law 2495 = .ok (.ifCond .eq 5, 3) := dk_153 0 5 (dk_at dksL_law_97 10 rfl rfl)
theorem dL_law_2498 : decode cL_law 2498 = .ok (.iconst 0, 1) := dk_3 (dk_at dksL_law_97 13 rfl rfl)
theorem dL_law_2499 : decode cL_law 2499 = .ok (.ireturn, 1) := dk_172 (dk_at dksL_law_97 14 rfl rfl)
theorem dL_law_2500 : decode cL_law 2500 = .ok (.goto 338, 3) := dk_167 1 82 (dk_at dksL_law_97 15 rfl rfl)
theorem dL_law_2503 : decode cL_law 2503 = .ok (.aload_n 1, 1) := dk_43 (dk_at dksL_law_97 18 rfl rfl)
theorem dL_law_2504 : decode cL_law 2504 = .ok (.aload_n 0, 1) := dk_42 (dk_at dksL_law_97 19 rfl rfl)
theorem dL_law_2505 : decode cL_law 2505 = .ok (.iload 5, 2) := dk_21 5 (dk_at dksL_law_97 20 rfl rfl)
theorem dL_law_2507 : decode cL_law 2507 = .ok (.iconst 1, 1) := dk_4 (dk_at dksL_law_97 22 rfl rfl)
theorem dL_law_2508 : decode cL_law 2508 = .ok (.iadd, 1) := dk_96 (dk_at dksL_law_97 23 rfl rfl)
theorem dL_law_2509 : decode cL_law 2509 = .ok (.iaload, 1) := dk_46 (dk_at dksL_law_98 0 rfl rfl)
theorem dL_law_2510 : decode cL_law 2510 = .ok (.i2c, 1) := dk_146 (dk_at dksL_law_98 1 rfl rfl)
theorem dL_law_2511 : decode cL_law 2511 = .ok (.aload_n 3, 1) := dk_45 (dk_at dksL_law_98 2 rfl rfl)
theorem dL_law_2512 : decode cL_law 2512 = .ok (.invokestatic 331, 3) := dk_184 1 75 (dk_at dksL_law_98 3 rfl rfl)
theorem dL_law_2515 : decode cL_law 2515 = .ok (.istore 6, 2) := dk_54 6 (dk_at dksL_law_98 6 rfl rfl)
theorem dL_law_2517 : decode cL_law 2517 = .ok (.aload_n 2, 1) := dk_44 (dk_at dksL_law_98 8 rfl rfl)
theorem dL_law_2518 : decode cL_law 2518 = .ok (.aload_n 0, 1) := dk_42 (dk_at dksL_law_98 9 rfl rfl)
theorem dL_law_2519 : decode cL_law 2519 = .ok (.iload 5, 2) := dk_21 5 (dk_at dksL_law_98 10 rfl rfl)
theorem dL_law_2521 : decode cL_law 2521 = .ok (.iconst 1, 1) := dk_4 (dk_at dksL_law_98 12 rfl rfl)
theorem dL_law_2522 : decode cL_law 2522 = .ok (.iadd, 1) := dk_96 (dk_at dksL_law_98 13 rfl rfl)
theorem dL_law_2523 : decode cL_law 2523 = .ok (.iaload, 1) := dk_46 (dk_at dksL_law_98 14 rfl rfl)
theorem dL_law_2524 : decode cL_law 2524 = .ok (.i2c, 1) := dk_146 (dk_at dksL_law_98 15 rfl rfl)
theorem dL_law_2525 : decode cL_law 2525 = .ok (.invokevirtual 333, 3) := dk_182 1 77 (dk_at dksL_law_98 16 rfl rfl)
theorem dL_law_2528 : decode cL_law 2528 = .ok (.istore 7, 2) := dk_54 7 (dk_at dksL_law_98 19 rfl rfl)
theorem dL_law_2530 : decode cL_law 2530 = .ok (.aload_n 2, 1) := dk_44 (dk_at dksL_law_98 21 rfl rfl)
theorem dL_law_2531 : decode cL_law 2531 = .ok (.invokevirtual 161, 3) := dk_182 0 161 (dk_at dksL_law_99 0 rfl rfl)
theorem dL_law_2534 : decode cL_law 2534 = .ok (.iload 6, 2) := dk_21 6 (dk_at dksL_law_99 3 rfl rfl)
theorem dL_law_2536 : decode cL_law 2536 = .ok (.if_icmp .eq 5, 3) := dk_159 0 5 (dk_at dksL_law_99 5 rfl rfl)
theorem dL_law_2539 : decode cL_law 2539 = .ok (.iconst 0, 1) := dk_3 (dk_at dksL_law_99 8 rfl rfl)
theorem dL_law_2540 : decode cL_law 2540 = .ok (.ireturn, 1) := dk_172 (dk_at dksL_law_99 9 rfl rfl)
theorem dL_law_2541 : decode cL_law 2541 = .ok (.iload 6, 2) := dk_21 6 (dk_at dksL_law_99 10 rfl rfl)
theorem dL_law_2543 : decode cL_law 2543 = .ok (.ifCond .ne 15, 3) := dk_154 0 15 (dk_at dksL_law_99 12 rfl rfl)
theorem dL_law_2546 : decode cL_law 2546 = .ok (.aload_n 3, 1) := dk_45 (dk_at dksL_law_99 15 rfl rfl)
theorem dL_law_2547 : decode cL_law 2547 = .ok (.iconst 0, 1) := dk_3 (dk_at dksL_law_99 16 rfl rfl)
theorem dL_law_2548 : decode cL_law 2548 = .ok (.laload, 1) := dk_47 (dk_at dksL_law_99 17 rfl rfl)
theorem dL_law_2549 : decode cL_law 2549 = .ok (.iload 7, 2) := dk_21 7 (dk_at dksL_law_99 18 rfl rfl)
theorem dL_law_2551 : decode cL_law 2551 = .ok (.i2l, 1) := dk_133 (dk_at dksL_law_99 20 rfl rfl)
theorem dL_law_2552 : decode cL_law 2552 = .ok (.lcmp, 1) := dk_148 (dk_at dksL_law_99 21 rfl rfl)
theorem dL_law_2553 : decode cL_law 2553 = .ok (.ifCond .eq 5, 3) := dk_153 0 5 (dk_at dksL_law_100 0 rfl rfl)
theorem dL_law_2556 : decode cL_law 2556 = .ok (.iconst 0, 1) := dk_3 (dk_at dksL_law_100 3 rfl rfl)
theorem dL_law_2557 : decode cL_law 2557 = .ok (.ireturn, 1) := dk_172 (dk_at dksL_law_100 4 rfl rfl)
theorem dL_law_2558 : decode cL_law 2558 = .ok (.goto 280, 3) := dk_167 1 24 (dk_at dksL_law_100 5 rfl rfl)
theorem dL_law_2561 : decode cL_law 2561 = .ok (.aload_n 1, 1) := dk_43 (dk_at dksL_law_100 8 rfl rfl)
theorem dL_law_2562 : decode cL_law 2562 = .ok (.aload_n 3, 1) := dk_45 (dk_at dksL_law_100 9 rfl rfl)
theorem dL_law_2563 : decode cL_law 2563 = .ok (.invokestatic 334, 3) := dk_184 1 78 (dk_at dksL_law_100 10 rfl rfl)
theorem dL_law_2566 : decode cL_law 2566 = .ok (.istore 6, 2) := dk_54 6 (dk_at dksL_law_100 13 rfl rfl)
theorem dL_law_2568 : decode cL_law 2568 = .ok (.aload_n 2, 1) := dk_44 (dk_at dksL_law_100 15 rfl rfl)
theorem dL_law_2569 : decode cL_law 2569 = .ok (.invokevirtual 336, 3) := dk_182 1 80 (dk_at dksL_law_100 16 rfl rfl)
theorem dL_law_2572 : decode cL_law 2572 = .ok (.istore 7, 2) := dk_54 7 (dk_at dksL_law_100 19 rfl rfl)
theorem dL_law_2574 : decode cL_law 2574 = .ok (.aload_n 2, 1) := dk_44 (dk_at dksL_law_100 21 rfl rfl)
theorem dL_law_2575 : decode cL_law 2575 = .ok (.invokevirtual 161, 3) := dk_182 0 161 (dk_at dksL_law_101 0 rfl rfl)
theorem dL_law_2578 : decode cL_law 2578 = .ok (.iload 6, 2) := dk_21 6 (dk_at dksL_law_101 3 rfl rfl)
theorem dL_law_2580 : decode cL_law 2580 = .ok (.if_icmp .eq 5, 3) := dk_159 0 5 (dk_at dksL_law_101 5 rfl rfl)
theorem dL_law_2583 : decode cL_law 2583 = .ok (.iconst 0, 1) := dk_3 (dk_at dksL_law_101 8 rfl rfl)
theorem dL_law_2584 : decode cL_law 2584 = .ok (.ireturn, 1) := dk_172 (dk_at dksL_law_101 9 rfl rfl)
theorem dL_law_2585 : decode cL_law 2585 = .ok (.iload 6, 2) := dk_21 6 (dk_at dksL_law_101 10 rfl rfl)
theorem dL_law_2587 : decode cL_law 2587 = .ok (.ifCond .ne 15, 3) := dk_154 0 15 (dk_at dksL_law_101 12 rfl rfl)
theorem dL_law_2590 : decode cL_law 2590 = .ok (.aload_n 3, 1) := dk_45 (dk_at dksL_law_101 15 rfl rfl)
theorem dL_law_2591 : decode cL_law 2591 = .ok (.iconst 0, 1) := dk_3 (dk_at dksL_law_101 16 rfl rfl)
theorem dL_law_2592 : decode cL_law 2592 = .ok (.laload, 1) := dk_47 (dk_at dksL_law_101 17 rfl rfl)
theorem dL_law_2593 : decode cL_law 2593 = .ok (.iload 7, 2) := dk_21 7 (dk_at dksL_law_101 18 rfl rfl)
theorem dL_law_2595 : decode cL_law 2595 = .ok (.i2l, 1) := dk_133 (dk_at dksL_law_101 20 rfl rfl)
theorem dL_law_2596 : decode cL_law 2596 = .ok (.lcmp, 1) := dk_148 (dk_at dksL_law_101 21 rfl rfl)
theorem dL_law_2597 : decode cL_law 2597 = .ok (.ifCond .eq 5, 3) := dk_153 0 5 (dk_at dksL_law_102 0 rfl rfl)
theorem dL_law_2600 : decode cL_law 2600 = .ok (.iconst 0, 1) := dk_3 (dk_at dksL_law_102 3 rfl rfl)
theorem dL_law_2601 : decode cL_law 2601 = .ok (.ireturn, 1) := dk_172 (dk_at dksL_law_102 4 rfl rfl)
theorem dL_law_2602 : decode cL_law 2602 = .ok (.goto 236, 3) := dk_167 0 236 (dk_at dksL_law_102 5 rfl rfl)
theorem dL_law_2605 : decode cL_law 2605 = .ok (.aload_n 1, 1) := dk_43 (dk_at dksL_law_102 8 rfl rfl)
theorem dL_law_2606 : decode cL_law 2606 = .ok (.aload_n 3, 1) := dk_45 (dk_at dksL_law_102 9 rfl rfl)
theorem dL_law_2607 : decode cL_law 2607 = .ok (.invokestatic 337, 3) := dk_184 1 81 (dk_at dksL_law_102 10 rfl rfl)
theorem dL_law_2610 : decode cL_law 2610 = .ok (.istore 6, 2) := dk_54 6 (dk_at dksL_law_102 13 rfl rfl)
theorem dL_law_2612 : decode cL_law 2612 = .ok (.aload_n 2, 1) := dk_44 (dk_at dksL_law_102 15 rfl rfl)
theorem dL_law_2613 : decode cL_law 2613 = .ok (.invokevirtual 339, 3) := dk_182 1 83 (dk_at dksL_law_102 16 rfl rfl)
theorem dL_law_2616 : decode cL_law 2616 = .ok (.istore 7, 2) := dk_54 7 (dk_at dksL_law_102 19 rfl rfl)
theorem dL_law_2618 : decode cL_law 2618 = .ok (.aload_n 2, 1) := dk_44 (dk_at dksL_law_102 21 rfl rfl)
theorem dL_law_2619 : decode cL_law 2619 = .ok (.invokevirtual 161, 3) := dk_182 0 161 (dk_at dksL_law_103 0 rfl rfl)
theorem dL_law_2622 : decode cL_law 2622 = .ok (.iload 6, 2) := dk_21 6 (dk_at dksL_law_103 3 rfl rfl)
theorem dL_law_2624 : decode cL_law 2624 = .ok (.if_icmp .eq 5, 3) := dk_159 0 5 (dk_at dksL_law_103 5 rfl rfl)
theorem dL_law_2627 : decode cL_law 2627 = .ok (.iconst 0, 1) := dk_3 (dk_at dksL_law_103 8 rfl rfl)
theorem dL_law_2628 : decode cL_law 2628 = .ok (.ireturn, 1) := dk_172 (dk_at dksL_law_103 9 rfl rfl)
theorem dL_law_2629 : decode cL_law 2629 = .ok (.iload 6, 2) := dk_21 6 (dk_at dksL_law_103 10 rfl rfl)
theorem dL_law_2631 : decode cL_law 2631 = .ok (.ifCond .ne 15, 3) := dk_154 0 15 (dk_at dksL_law_103 12 rfl rfl)
theorem dL_law_2634 : decode cL_law 2634 = .ok (.aload_n 3, 1) := dk_45 (dk_at dksL_law_103 15 rfl rfl)
theorem dL_law_2635 : decode cL_law 2635 = .ok (.iconst 0, 1) := dk_3 (dk_at dksL_law_103 16 rfl rfl)
theorem dL_law_2636 : decode cL_law 2636 = .ok (.laload, 1) := dk_47 (dk_at dksL_law_103 17 rfl rfl)
theorem dL_law_2637 : decode cL_law 2637 = .ok (.iload 7, 2) := dk_21 7 (dk_at dksL_law_103 18 rfl rfl)
theorem dL_law_2639 : decode cL_law 2639 = .ok (.i2l, 1) := dk_133 (dk_at dksL_law_103 20 rfl rfl)
theorem dL_law_2640 : decode cL_law 2640 = .ok (.lcmp, 1) := dk_148 (dk_at dksL_law_103 21 rfl rfl)
theorem dL_law_2641 : decode cL_law 2641 = .ok (.ifCond .eq 5, 3) := dk_153 0 5 (dk_at dksL_law_104 0 rfl rfl)
theorem dL_law_2644 : decode cL_law 2644 = .ok (.iconst 0, 1) := dk_3 (dk_at dksL_law_104 3 rfl rfl)
theorem dL_law_2645 : decode cL_law 2645 = .ok (.ireturn, 1) := dk_172 (dk_at dksL_law_104 4 rfl rfl)
theorem dL_law_2646 : decode cL_law 2646 = .ok (.goto 192, 3) := dk_167 0 192 (dk_at dksL_law_104 5 rfl rfl)
theorem dL_law_2649 : decode cL_law 2649 = .ok (.aload_n 1, 1) := dk_43 (dk_at dksL_law_104 8 rfl rfl)
theorem dL_law_2650 : decode cL_law 2650 = .ok (.aload_n 3, 1) := dk_45 (dk_at dksL_law_104 9 rfl rfl)
theorem dL_law_2651 : decode cL_law 2651 = .ok (.invokestatic 340, 3) := dk_184 1 84 (dk_at dksL_law_104 10 rfl rfl)
theorem dL_law_2654 : decode cL_law 2654 = .ok (.istore 6, 2) := dk_54 6 (dk_at dksL_law_104 13 rfl rfl)
theorem dL_law_2656 : decode cL_law 2656 = .ok (.aload_n 2, 1) := dk_44 (dk_at dksL_law_104 15 rfl rfl)
theorem dL_law_2657 : decode cL_law 2657 = .ok (.invokevirtual 342, 3) := dk_182 1 86 (dk_at dksL_law_104 16 rfl rfl)
theorem dL_law_2660 : decode cL_law 2660 = .ok (.istore 7, 2) := dk_54 7 (dk_at dksL_law_104 19 rfl rfl)
theorem dL_law_2662 : decode cL_law 2662 = .ok (.aload_n 2, 1) := dk_44 (dk_at dksL_law_104 21 rfl rfl)
theorem dL_law_2663 : decode cL_law 2663 = .ok (.invokevirtual 161, 3) := dk_182 0 161 (dk_at dksL_law_105 0 rfl rfl)
theorem dL_law_2666 : decode cL_law 2666 = .ok (.iload 6, 2) := dk_21 6 (dk_at dksL_law_105 3 rfl rfl)
theorem dL_law_2668 : decode cL_law 2668 = .ok (.if_icmp .eq 5, 3) := dk_159 0 5 (dk_at dksL_law_105 5 rfl rfl)
theorem dL_law_2671 : decode cL_law 2671 = .ok (.iconst 0, 1) := dk_3 (dk_at dksL_law_105 8 rfl rfl)
theorem dL_law_2672 : decode cL_law 2672 = .ok (.ireturn, 1) := dk_172 (dk_at dksL_law_105 9 rfl rfl)
theorem dL_law_2673 : decode cL_law 2673 = .ok (.iload 6, 2) := dk_21 6 (dk_at dksL_law_105 10 rfl rfl)
theorem dL_law_2675 : decode cL_law 2675 = .ok (.ifCond .ne 15, 3) := dk_154 0 15 (dk_at dksL_law_105 12 rfl rfl)
theorem dL_law_2678 : decode cL_law 2678 = .ok (.aload_n 3, 1) := dk_45 (dk_at dksL_law_105 15 rfl rfl)
theorem dL_law_2679 : decode cL_law 2679 = .ok (.iconst 0, 1) := dk_3 (dk_at dksL_law_105 16 rfl rfl)
theorem dL_law_2680 : decode cL_law 2680 = .ok (.laload, 1) := dk_47 (dk_at dksL_law_105 17 rfl rfl)
theorem dL_law_2681 : decode cL_law 2681 = .ok (.iload 7, 2) := dk_21 7 (dk_at dksL_law_105 18 rfl rfl)
theorem dL_law_2683 : decode cL_law 2683 = .ok (.i2l, 1) := dk_133 (dk_at dksL_law_105 20 rfl rfl)
theorem dL_law_2684 : decode cL_law 2684 = .ok (.lcmp, 1) := dk_148 (dk_at dksL_law_105 21 rfl rfl)
theorem dL_law_2685 : decode cL_law 2685 = .ok (.ifCond .eq 5, 3) := dk_153 0 5 (dk_at dksL_law_106 0 rfl rfl)
theorem dL_law_2688 : decode cL_law 2688 = .ok (.iconst 0, 1) := dk_3 (dk_at dksL_law_106 3 rfl rfl)
theorem dL_law_2689 : decode cL_law 2689 = .ok (.ireturn, 1) := dk_172 (dk_at dksL_law_106 4 rfl rfl)
theorem dL_law_2690 : decode cL_law 2690 = .ok (.goto 148, 3) := dk_167 0 148 (dk_at dksL_law_106 5 rfl rfl)
theorem dL_law_2693 : decode cL_law 2693 = .ok (.aload_n 1, 1) := dk_43 (dk_at dksL_law_106 8 rfl rfl)
theorem dL_law_2694 : decode cL_law 2694 = .ok (.aload_n 3, 1) := dk_45 (dk_at dksL_law_106 9 rfl rfl)
theorem dL_law_2695 : decode cL_law 2695 = .ok (.invokestatic 343, 3) := dk_184 1 87 (dk_at dksL_law_106 10 rfl rfl)
theorem dL_law_2698 : decode cL_law 2698 = .ok (.istore 6, 2) := dk_54 6 (dk_at dksL_law_106 13 rfl rfl)
theorem dL_law_2700 : decode cL_law 2700 = .ok (.aload_n 2, 1) := dk_44 (dk_at dksL_law_106 15 rfl rfl)
theorem dL_law_2701 : decode cL_law 2701 = .ok (.invokevirtual 345, 3) := dk_182 1 89 (dk_at dksL_law_106 16 rfl rfl)
theorem dL_law_2704 : decode cL_law 2704 = .ok (.istore 7, 2) := dk_54 7 (dk_at dksL_law_106 19 rfl rfl)
theorem dL_law_2706 : decode cL_law 2706 = .ok (.aload_n 2, 1) := dk_44 (dk_at dksL_law_106 21 rfl rfl)
theorem dL_law_2707 : decode cL_law 2707 = .ok (.invokevirtual 161, 3) := dk_182 0 161 (dk_at dksL_law_107 0 rfl rfl)
theorem dL_law_2710 : decode cL_law 2710 = .ok (.iload 6, 2) := dk_21 6 (dk_at dksL_law_107 3 rfl rfl)
theorem dL_law_2712 : decode cL_law 2712 = .ok (.if_icmp .eq 5, 3) := dk_159 0 5 (dk_at dksL_law_107 5 rfl rfl)
theorem dL_law_2715 : decode cL_law 2715 = .ok (.iconst 0, 1) := dk_3 (dk_at dksL_law_107 8 rfl rfl)
theorem dL_law_2716 : decode cL_law 2716 = .ok (.ireturn, 1) := dk_172 (dk_at dksL_law_107 9 rfl rfl)
theorem dL_law_2717 : decode cL_law 2717 = .ok (.iload 6, 2) := dk_21 6 (dk_at dksL_law_107 10 rfl rfl)
theorem dL_law_2719 : decode cL_law 2719 = .ok (.ifCond .ne 15, 3) := dk_154 0 15 (dk_at dksL_law_107 12 rfl rfl)
theorem dL_law_2722 : decode cL_law 2722 = .ok (.aload_n 3, 1) := dk_45 (dk_at dksL_law_107 15 rfl rfl)
theorem dL_law_2723 : decode cL_law 2723 = .ok (.iconst 0, 1) := dk_3 (dk_at dksL_law_107 16 rfl rfl)
theorem dL_law_2724 : decode cL_law 2724 = .ok (.laload, 1) := dk_47 (dk_at dksL_law_107 17 rfl rfl)
theorem dL_law_2725 : decode cL_law 2725 = .ok (.iload 7, 2) := dk_21 7 (dk_at dksL_law_107 18 rfl rfl)
theorem dL_law_2727 : decode cL_law 2727 = .ok (.i2l, 1) := dk_133 (dk_at dksL_law_107 20 rfl rfl)
theorem dL_law_2728 : decode cL_law 2728 = .ok (.lcmp, 1) := dk_148 (dk_at dksL_law_107 21 rfl rfl)
theorem dL_law_2729 : decode cL_law 2729 = .ok (.ifCond .eq 5, 3) := dk_153 0 5 (dk_at dksL_law_108 0 rfl rfl)
theorem dL_law_2732 : decode cL_law 2732 = .ok (.iconst 0, 1) := dk_3 (dk_at dksL_law_108 3 rfl rfl)
theorem dL_law_2733 : decode cL_law 2733 = .ok (.ireturn, 1) := dk_172 (dk_at dksL_law_108 4 rfl rfl)
theorem dL_law_2734 : decode cL_law 2734 = .ok (.goto 104, 3) := dk_167 0 104 (dk_at dksL_law_108 5 rfl rfl)
theorem dL_law_2737 : decode cL_law 2737 = .ok (.aload_n 1, 1) := dk_43 (dk_at dksL_law_108 8 rfl rfl)
theorem dL_law_2738 : decode cL_law 2738 = .ok (.aload_n 3, 1) := dk_45 (dk_at dksL_law_108 9 rfl rfl)
theorem dL_law_2739 : decode cL_law 2739 = .ok (.invokestatic 346, 3) := dk_184 1 90 (dk_at dksL_law_108 10 rfl rfl)
theorem dL_law_2742 : decode cL_law 2742 = .ok (.istore 6, 2) := dk_54 6 (dk_at dksL_law_108 13 rfl rfl)
theorem dL_law_2744 : decode cL_law 2744 = .ok (.aload_n 2, 1) := dk_44 (dk_at dksL_law_108 15 rfl rfl)
theorem dL_law_2745 : decode cL_law 2745 = .ok (.invokevirtual 348, 3) := dk_182 1 92 (dk_at dksL_law_108 16 rfl rfl)
theorem dL_law_2748 : decode cL_law 2748 = .ok (.istore 7, 2) := dk_54 7 (dk_at dksL_law_108 19 rfl rfl)
theorem dL_law_2750 : decode cL_law 2750 = .ok (.aload_n 2, 1) := dk_44 (dk_at dksL_law_108 21 rfl rfl)
theorem dL_law_2751 : decode cL_law 2751 = .ok (.invokevirtual 161, 3) := dk_182 0 161 (dk_at dksL_law_109 0 rfl rfl)
theorem dL_law_2754 : decode cL_law 2754 = .ok (.iload 6, 2) := dk_21 6 (dk_at dksL_law_109 3 rfl rfl)
theorem dL_law_2756 : decode cL_law 2756 = .ok (.if_icmp .eq 5, 3) := dk_159 0 5 (dk_at dksL_law_109 5 rfl rfl)
theorem dL_law_2759 : decode cL_law 2759 = .ok (.iconst 0, 1) := dk_3 (dk_at dksL_law_109 8 rfl rfl)
theorem dL_law_2760 : decode cL_law 2760 = .ok (.ireturn, 1) := dk_172 (dk_at dksL_law_109 9 rfl rfl)
theorem dL_law_2761 : decode cL_law 2761 = .ok (.iload 6, 2) := dk_21 6 (dk_at dksL_law_109 10 rfl rfl)
theorem dL_law_2763 : decode cL_law 2763 = .ok (.ifCond .ne 15, 3) := dk_154 0 15 (dk_at dksL_law_109 12 rfl rfl)
theorem dL_law_2766 : decode cL_law 2766 = .ok (.aload_n 3, 1) := dk_45 (dk_at dksL_law_109 15 rfl rfl)
theorem dL_law_2767 : decode cL_law 2767 = .ok (.iconst 0, 1) := dk_3 (dk_at dksL_law_109 16 rfl rfl)
theorem dL_law_2768 : decode cL_law 2768 = .ok (.laload, 1) := dk_47 (dk_at dksL_law_109 17 rfl rfl)
theorem dL_law_2769 : decode cL_law 2769 = .ok (.iload 7, 2) := dk_21 7 (dk_at dksL_law_109 18 rfl rfl)
theorem dL_law_2771 : decode cL_law 2771 = .ok (.i2l, 1) := dk_133 (dk_at dksL_law_109 20 rfl rfl)
theorem dL_law_2772 : decode cL_law 2772 = .ok (.lcmp, 1) := dk_148 (dk_at dksL_law_109 21 rfl rfl)
theorem dL_law_2773 : decode cL_law 2773 = .ok (.ifCond .eq 5, 3) := dk_153 0 5 (dk_at dksL_law_110 0 rfl rfl)
theorem dL_law_2776 : decode cL_law 2776 = .ok (.iconst 0, 1) := dk_3 (dk_at dksL_law_110 3 rfl rfl)
theorem dL_law_2777 : decode cL_law 2777 = .ok (.ireturn, 1) := dk_172 (dk_at dksL_law_110 4 rfl rfl)
theorem dL_law_2778 : decode cL_law 2778 = .ok (.goto 60, 3) := dk_167 0 60 (dk_at dksL_law_110 5 rfl rfl)
theorem dL_law_2781 : decode cL_law 2781 = .ok (.aload_n 1, 1) := dk_43 (dk_at dksL_law_110 8 rfl rfl)
theorem dL_law_2782 : decode cL_law 2782 = .ok (.invokevirtual 349, 3) := dk_182 1 93 (dk_at dksL_law_110 9 rfl rfl)
theorem dL_law_2785 : decode cL_law 2785 = .ok (.aload_n 2, 1) := dk_44 (dk_at dksL_law_110 12 rfl rfl)
theorem dL_law_2786 : decode cL_law 2786 = .ok (.invokevirtual 352, 3) := dk_182 1 96 (dk_at dksL_law_110 13 rfl rfl)
theorem dL_law_2789 : decode cL_law 2789 = .ok (.if_icmp .eq 49, 3) := dk_159 0 49 (dk_at dksL_law_110 16 rfl rfl)
theorem dL_law_2792 : decode cL_law 2792 = .ok (.iconst 0, 1) := dk_3 (dk_at dksL_law_110 19 rfl rfl)
theorem dL_law_2793 : decode cL_law 2793 = .ok (.ireturn, 1) := dk_172 (dk_at dksL_law_110 20 rfl rfl)
theorem dL_law_2794 : decode cL_law 2794 = .ok (.aload_n 1, 1) := dk_43 (dk_at dksL_law_110 21 rfl rfl)
theorem dL_law_2795 : decode cL_law 2795 = .ok (.aload_n 3, 1) := dk_45 (dk_at dksL_law_110 22 rfl rfl)
theorem dL_law_2796 : decode cL_law 2796 = .ok (.invokestatic 353, 3) := dk_184 1 97 (dk_at dksL_law_111 0 rfl rfl)
theorem dL_law_2799 : decode cL_law 2799 = .ok (.istore 6, 2) := dk_54 6 (dk_at dksL_law_111 3 rfl rfl)
theorem dL_law_2801 : decode cL_law 2801 = .ok (.aload_n 2, 1) := dk_44 (dk_at dksL_law_111 5 rfl rfl)
theorem dL_law_2802 : decode cL_law 2802 = .ok (.invokevirtual 355, 3) := dk_182 1 99 (dk_at dksL_law_111 6 rfl rfl)
theorem dL_law_2805 : decode cL_law 2805 = .ok (.istore 7, 2) := dk_54 7 (dk_at dksL_law_111 9 rfl rfl)
theorem dL_law_2807 : decode cL_law 2807 = .ok (.aload_n 2, 1) := dk_44 (dk_at dksL_law_111 11 rfl rfl)
theorem dL_law_2808 : decode cL_law 2808 = .ok (.invokevirtual 161, 3) := dk_182 0 161 (dk_at dksL_law_111 12 rfl rfl)
theorem dL_law_2811 : decode cL_law 2811 = .ok (.iload 6, 2) := dk_21 6 (dk_at dksL_law_111 15 rfl rfl)
theorem dL_law_2813 : decode cL_law 2813 = .ok (.if_icmp .eq 5, 3) := dk_159 0 5 (dk_at dksL_law_111 17 rfl rfl)
theorem dL_law_2816 : decode cL_law 2816 = .ok (.iconst 0, 1) := dk_3 (dk_at dksL_law_111 20 rfl rfl)
theorem dL_law_2817 : decode cL_law 2817 = .ok (.ireturn, 1) := dk_172 (dk_at dksL_law_111 21 rfl rfl)
theorem dL_law_2818 : decode cL_law 2818 = .ok (.iload 6, 2) := dk_21 6 (dk_at dksL_law_111 22 rfl rfl)
theorem dL_law_2820 : decode cL_law 2820 = .ok (.ifCond .ne 15, 3) := dk_154 0 15 (dk_at dksL_law_112 0 rfl rfl)
theorem dL_law_2823 : decode cL_law 2823 = .ok (.aload_n 3, 1) := dk_45 (dk_at dksL_law_112 3 rfl rfl)
theorem dL_law_2824 : decode cL_law 2824 = .ok (.iconst 0, 1) := dk_3 (dk_at dksL_law_112 4 rfl rfl)
theorem dL_law_2825 : decode cL_law 2825 = .ok (.laload, 1) := dk_47 (dk_at dksL_law_112 5 rfl rfl)
theorem dL_law_2826 : decode cL_law 2826 = .ok (.iload 7, 2) := dk_21 7 (dk_at dksL_law_112 6 rfl rfl)
theorem dL_law_2828 : decode cL_law 2828 = .ok (.i2l, 1) := dk_133 (dk_at dksL_law_112 8 rfl rfl)
theorem dL_law_2829 : decode cL_law 2829 = .ok (.lcmp, 1) := dk_148 (dk_at dksL_law_112 9 rfl rfl)
theorem dL_law_2830 : decode cL_law 2830 = .ok (.ifCond .eq 5, 3) := dk_153 0 5 (dk_at dksL_law_112 10 rfl rfl)
theorem dL_law_2833 : decode cL_law 2833 = .ok (.iconst 0, 1) := dk_3 (dk_at dksL_law_112 13 rfl rfl)
theorem dL_law_2834 : decode cL_law 2834 = .ok (.ireturn, 1) := dk_172 (dk_at dksL_law_112 14 rfl rfl)
theorem dL_law_2835 : decode cL_law 2835 = .ok (.goto 3, 3) := dk_167 0 3 (dk_at dksL_law_112 15 rfl rfl)
theorem dL_law_2838 : decode cL_law 2838 = .ok (.iinc 5 4, 3) := dk_132 5 4 (dk_at dksL_law_112 18 rfl rfl)
theorem dL_law_2841 : decode cL_law 2841 = .ok (.goto (-2813), 3) := dk_167 245 3 (dk_at dksL_law_112 21 rfl rfl)
theorem dL_law_2844 : decode cL_law 2844 = .ok (.iconst 1, 1) := dk_4 (dk_at dksL_law_113 0 rfl rfl)
theorem dL_law_2845 : decode cL_law 2845 = .ok (.ireturn, 1) := dk_172 (dk_at dksL_law_113 1 rfl rfl)
