/-! LifeofficeLaw -/
set_option maxRecDepth 100000
def RX0 : String := "LifeofficeLaw"
abbrev cX0_found : ByteArray := method_3_code
def yX0_found : MethodName := ⟨RX0, "found", "(LLifeoffice;II[J)I"⟩
def dkwX0_found_0 : List UInt8 := [45, 3, 42, 27, 28, 182, 0, 7, 133, 80, 167, 0, 7, 58, 4, 4, 172, 3, 172]
abbrev dktX0_found_0 : List UInt8 := dkwX0_found_0 ++ []
theorem dksX0_found_0 : cX0_found.data.toList.drop 0 = dktX0_found_0 := by decide +kernel
theorem dX0_found_0 : decode cX0_found 0 = .ok (.aload_n 3, 1) := dk_45 (dk_at dksX0_found_0 0 rfl rfl)
theorem dX0_found_1 : decode cX0_found 1 = .ok (.iconst 0, 1) := dk_3 (dk_at dksX0_found_0 1 rfl rfl)
theorem dX0_found_2 : decode cX0_found 2 = .ok (.aload_n 0, 1) := dk_42 (dk_at dksX0_found_0 2 rfl rfl)
theorem dX0_found_3 : decode cX0_found 3 = .ok (.iload_n 1, 1) := dk_27 (dk_at dksX0_found_0 3 rfl rfl)
theorem dX0_found_4 : decode cX0_found 4 = .ok (.iload_n 2, 1) := dk_28 (dk_at dksX0_found_0 4 rfl rfl)
theorem dX0_found_5 : decode cX0_found 5 = .ok (.invokevirtual 7, 3) := dk_182 0 7 (dk_at dksX0_found_0 5 rfl rfl)
theorem dX0_found_8 : decode cX0_found 8 = .ok (.i2l, 1) := dk_133 (dk_at dksX0_found_0 8 rfl rfl)
theorem dX0_found_9 : decode cX0_found 9 = .ok (.lastore, 1) := dk_80 (dk_at dksX0_found_0 9 rfl rfl)
theorem dX0_found_10 : decode cX0_found 10 = .ok (.goto 7, 3) := dk_167 0 7 (dk_at dksX0_found_0 10 rfl rfl)
theorem dX0_found_13 : decode cX0_found 13 = .ok (.astore 4, 2) := dk_58 4 (dk_at dksX0_found_0 13 rfl rfl)
theorem dX0_found_15 : decode cX0_found 15 = .ok (.iconst 1, 1) := dk_4 (dk_at dksX0_found_0 15 rfl rfl)
theorem dX0_found_16 : decode cX0_found 16 = .ok (.ireturn, 1) := dk_172 (dk_at dksX0_found_0 16 rfl rfl)
theorem dX0_found_17 : decode cX0_found 17 = .ok (.iconst 0, 1) := dk_3 (dk_at dksX0_found_0 17 rfl rfl)
theorem dX0_found_18 : decode cX0_found 18 = .ok (.ireturn, 1) := dk_172 (dk_at dksX0_found_0 18 rfl rfl)
abbrev cX0_setLaw : ByteArray := method_4_code
def yX0_setLaw : MethodName := ⟨RX0, "setLaw", "(LLifeoffice;IIIZ[J)I"⟩
def dkwX0_setLaw_1 : List UInt8 := [3, 172]
abbrev dktX0_setLaw_1 : List UInt8 := dkwX0_setLaw_1 ++ []
def dkwX0_setLaw_0 : List UInt8 := [25, 5, 3, 42, 27, 28, 29, 21, 4, 182, 0, 15, 80, 167, 0, 11, 58, 6, 4, 172, 58, 6, 5, 172]
abbrev dktX0_setLaw_0 : List UInt8 := dkwX0_setLaw_0 ++ dktX0_setLaw_1
theorem dksX0_setLaw_0 : cX0_setLaw.data.toList.drop 0 = dktX0_setLaw_0 := by decide +kernel
theorem dksX0_setLaw_1 : cX0_setLaw.data.toList.drop 24 = dktX0_setLaw_1 := dk_seg dksX0_setLaw_0 24 rfl rfl
theorem dX0_setLaw_0 : decode cX0_setLaw 0 = .ok (.aload 5, 2) := dk_25 5 (dk_at dksX0_setLaw_0 0 rfl rfl)
theorem dX0_setLaw_2 : decode cX0_setLaw 2 = .ok (.iconst 0, 1) := dk_3 (dk_at dksX0_setLaw_0 2 rfl rfl)
theorem dX0_setLaw_3 : decode cX0_setLaw 3 = .ok (.aload_n 0, 1) := dk_42 (dk_at dksX0_setLaw_0 3 rfl rfl)
theorem dX0_setLaw_4 : decode cX0_setLaw 4 = .ok (.iload_n 1, 1) := dk_27 (dk_at dksX0_setLaw_0 4 rfl rfl)
theorem dX0_setLaw_5 : decode cX0_setLaw 5 = .ok (.iload_n 2, 1) := dk_28 (dk_at dksX0_setLaw_0 5 rfl rfl)
theorem dX0_setLaw_6 : decode cX0_setLaw 6 = .ok (.iload_n 3, 1) := dk_29 (dk_at dksX0_setLaw_0 6 rfl rfl)
theorem dX0_setLaw_7 : decode cX0_setLaw 7 = .ok (.iload 4, 2) := dk_21 4 (dk_at dksX0_setLaw_0 7 rfl rfl)
theorem dX0_setLaw_9 : decode cX0_setLaw 9 = .ok (.invokevirtual 15, 3) := dk_182 0 15 (dk_at dksX0_setLaw_0 9 rfl rfl)
theorem dX0_setLaw_12 : decode cX0_setLaw 12 = .ok (.lastore, 1) := dk_80 (dk_at dksX0_setLaw_0 12 rfl rfl)
theorem dX0_setLaw_13 : decode cX0_setLaw 13 = .ok (.goto 11, 3) := dk_167 0 11 (dk_at dksX0_setLaw_0 13 rfl rfl)
theorem dX0_setLaw_16 : decode cX0_setLaw 16 = .ok (.astore 6, 2) := dk_58 6 (dk_at dksX0_setLaw_0 16 rfl rfl)
theorem dX0_setLaw_18 : decode cX0_setLaw 18 = .ok (.iconst 1, 1) := dk_4 (dk_at dksX0_setLaw_0 18 rfl rfl)
theorem dX0_setLaw_19 : decode cX0_setLaw 19 = .ok (.ireturn, 1) := dk_172 (dk_at dksX0_setLaw_0 19 rfl rfl)
theorem dX0_setLaw_20 : decode cX0_setLaw 20 = .ok (.astore 6, 2) := dk_58 6 (dk_at dksX0_setLaw_0 20 rfl rfl)
theorem dX0_setLaw_22 : decode cX0_setLaw 22 = .ok (.iconst 2, 1) := dk_5 (dk_at dksX0_setLaw_0 22 rfl rfl)
theorem dX0_setLaw_23 : decode cX0_setLaw 23 = .ok (.ireturn, 1) := dk_172 (dk_at dksX0_setLaw_0 23 rfl rfl)
theorem dX0_setLaw_24 : decode cX0_setLaw 24 = .ok (.iconst 0, 1) := dk_3 (dk_at dksX0_setLaw_1 0 rfl rfl)
theorem dX0_setLaw_25 : decode cX0_setLaw 25 = .ok (.ireturn, 1) := dk_172 (dk_at dksX0_setLaw_1 1 rfl rfl)
abbrev cX0_setImprovement : ByteArray := method_5_code
def yX0_setImprovement : MethodName := ⟨RX0, "setImprovement", "(LLifeoffice;I[J)I"⟩
def dkwX0_setImprovement_0 : List UInt8 := [44, 3, 42, 27, 182, 0, 21, 133, 80, 167, 0, 6, 78, 4, 172, 3, 172]
abbrev dktX0_setImprovement_0 : List UInt8 := dkwX0_setImprovement_0 ++ []
theorem dksX0_setImprovement_0 : cX0_setImprovement.data.toList.drop 0 = dktX0_setImprovement_0 := by decide +kernel
theorem dX0_setImprovement_0 : decode cX0_setImprovement 0 = .ok (.aload_n 2, 1) := dk_44 (dk_at dksX0_setImprovement_0 0 rfl rfl)
theorem dX0_setImprovement_1 : decode cX0_setImprovement 1 = .ok (.iconst 0, 1) := dk_3 (dk_at dksX0_setImprovement_0 1 rfl rfl)
theorem dX0_setImprovement_2 : decode cX0_setImprovement 2 = .ok (.aload_n 0, 1) := dk_42 (dk_at dksX0_setImprovement_0 2 rfl rfl)
theorem dX0_setImprovement_3 : decode cX0_setImprovement 3 = .ok (.iload_n 1, 1) := dk_27 (dk_at dksX0_setImprovement_0 3 rfl rfl)
theorem dX0_setImprovement_4 : decode cX0_setImprovement 4 = .ok (.invokevirtual 21, 3) := dk_182 0 21 (dk_at dksX0_setImprovement_0 4 rfl rfl)
theorem dX0_setImprovement_7 : decode cX0_setImprovement 7 = .ok (.i2l, 1) := dk_133 (dk_at dksX0_setImprovement_0 7 rfl rfl)
theorem dX0_setImprovement_8 : decode cX0_setImprovement 8 = .ok (.lastore, 1) := dk_80 (dk_at dksX0_setImprovement_0 8 rfl rfl)
theorem dX0_setImprovement_9 : decode cX0_setImprovement 9 = .ok (.goto 6, 3) := dk_167 0 6 (dk_at dksX0_setImprovement_0 9 rfl rfl)
theorem dX0_setImprovement_12 : decode cX0_setImprovement 12 = .ok (.astore_n 3, 1) := dk_78 (dk_at dksX0_setImprovement_0 12 rfl rfl)
theorem dX0_setImprovement_13 : decode cX0_setImprovement 13 = .ok (.iconst 1, 1) := dk_4 (dk_at dksX0_setImprovement_0 13 rfl rfl)
theorem dX0_setImprovement_14 : decode cX0_setImprovement 14 = .ok (.ireturn, 1) := dk_172 (dk_at dksX0_setImprovement_0 14 rfl rfl)
theorem dX0_setImprovement_15 : decode cX0_setImprovement 15 = .ok (.iconst 0, 1) := dk_3 (dk_at dksX0_setImprovement_0 15 rfl rfl)
theorem dX0_setImprovement_16 : decode cX0_setImprovement 16 = .ok (.ireturn, 1) := dk_172 (dk_at dksX0_setImprovement_0 16 rfl rfl)
abbrev cX0_setLoading : ByteArray := method_6_code
def yX0_setLoading : MethodName := ⟨RX0, "setLoading", "(LLifeoffice;II[J)I"⟩
def dkwX0_setLoading_0 : List UInt8 := [45, 3, 42, 27, 28, 182, 0, 25, 133, 80, 167, 0, 7, 58, 4, 4, 172, 3, 172]
abbrev dktX0_setLoading_0 : List UInt8 := dkwX0_setLoading_0 ++ []
theorem dksX0_setLoading_0 : cX0_setLoading.data.toList.drop 0 = dktX0_setLoading_0 := by decide +kernel
theorem dX0_setLoading_0 : decode cX0_setLoading 0 = .ok (.aload_n 3, 1) := dk_45 (dk_at dksX0_setLoading_0 0 rfl rfl)
theorem dX0_setLoading_1 : decode cX0_setLoading 1 = .ok (.iconst 0, 1) := dk_3 (dk_at dksX0_setLoading_0 1 rfl rfl)
theorem dX0_setLoading_2 : decode cX0_setLoading 2 = .ok (.aload_n 0, 1) := dk_42 (dk_at dksX0_setLoading_0 2 rfl rfl)
theorem dX0_setLoading_3 : decode cX0_setLoading 3 = .ok (.iload_n 1, 1) := dk_27 (dk_at dksX0_setLoading_0 3 rfl rfl)
theorem dX0_setLoading_4 : decode cX0_setLoading 4 = .ok (.iload_n 2, 1) := dk_28 (dk_at dksX0_setLoading_0 4 rfl rfl)
theorem dX0_setLoading_5 : decode cX0_setLoading 5 = .ok (.invokevirtual 25, 3) := dk_182 0 25 (dk_at dksX0_setLoading_0 5 rfl rfl)
theorem dX0_setLoading_8 : decode cX0_setLoading 8 = .ok (.i2l, 1) := dk_133 (dk_at dksX0_setLoading_0 8 rfl rfl)
theorem dX0_setLoading_9 : decode cX0_setLoading 9 = .ok (.lastore, 1) := dk_80 (dk_at dksX0_setLoading_0 9 rfl rfl)
theorem dX0_setLoading_10 : decode cX0_setLoading 10 = .ok (.goto 7, 3) := dk_167 0 7 (dk_at dksX0_setLoading_0 10 rfl rfl)
theorem dX0_setLoading_13 : decode cX0_setLoading 13 = .ok (.astore 4, 2) := dk_58 4 (dk_at dksX0_setLoading_0 13 rfl rfl)
theorem dX0_setLoading_15 : decode cX0_setLoading 15 = .ok (.iconst 1, 1) := dk_4 (dk_at dksX0_setLoading_0 15 rfl rfl)
theorem dX0_setLoading_16 : decode cX0_setLoading 16 = .ok (.ireturn, 1) := dk_172 (dk_at dksX0_setLoading_0 16 rfl rfl)
theorem dX0_setLoading_17 : decode cX0_setLoading 17 = .ok (.iconst 0, 1) := dk_3 (dk_at dksX0_setLoading_0 17 rfl rfl)
theorem dX0_setLoading_18 : decode cX0_setLoading 18 = .ok (.ireturn, 1) := dk_172 (dk_at dksX0_setLoading_0 18 rfl rfl)
abbrev cX0_mortality : ByteArray := method_7_code
def yX0_mortality : MethodName := ⟨RX0, "mortality", "(LLifeoffice;IIIII[J)I"⟩
def dkwX0_mortality_1 : List UInt8 := [58, 7, 5, 172, 3, 172]
abbrev dktX0_mortality_1 : List UInt8 := dkwX0_mortality_1 ++ []
def dkwX0_mortality_0 : List UInt8 := [25, 6, 3, 42, 27, 28, 29, 21, 4, 21, 5, 182, 0, 28, 133, 80, 167, 0, 11, 58, 7, 4, 172]
abbrev dktX0_mortality_0 : List UInt8 := dkwX0_mortality_0 ++ dktX0_mortality_1
theorem dksX0_mortality_0 : cX0_mortality.data.toList.drop 0 = dktX0_mortality_0 := by decide +kernel
theorem dksX0_mortality_1 : cX0_mortality.data.toList.drop 23 = dktX0_mortality_1 := dk_seg dksX0_mortality_0 23 rfl rfl
theorem dX0_mortality_0 : decode cX0_mortality 0 = .ok (.aload 6, 2) := dk_25 6 (dk_at dksX0_mortality_0 0 rfl rfl)
theorem dX0_mortality_2 : decode cX0_mortality 2 = .ok (.iconst 0, 1) := dk_3 (dk_at dksX0_mortality_0 2 rfl rfl)
theorem dX0_mortality_3 : decode cX0_mortality 3 = .ok (.aload_n 0, 1) := dk_42 (dk_at dksX0_mortality_0 3 rfl rfl)
theorem dX0_mortality_4 : decode cX0_mortality 4 = .ok (.iload_n 1, 1) := dk_27 (dk_at dksX0_mortality_0 4 rfl rfl)
theorem dX0_mortality_5 : decode cX0_mortality 5 = .ok (.iload_n 2, 1) := dk_28 (dk_at dksX0_mortality_0 5 rfl rfl)
theorem dX0_mortality_6 : decode cX0_mortality 6 = .ok (.iload_n 3, 1) := dk_29 (dk_at dksX0_mortality_0 6 rfl rfl)
theorem dX0_mortality_7 : decode cX0_mortality 7 = .ok (.iload 4, 2) := dk_21 4 (dk_at dksX0_mortality_0 7 rfl rfl)
theorem dX0_mortality_9 : decode cX0_mortality 9 = .ok (.iload 5, 2) := dk_21 5 (dk_at dksX0_mortality_0 9 rfl rfl)
theorem dX0_mortality_11 : decode cX0_mortality 11 = .ok (.invokevirtual 28, 3) := dk_182 0 28 (dk_at dksX0_mortality_0 11 rfl rfl)
theorem dX0_mortality_14 : decode cX0_mortality 14 = .ok (.i2l, 1) := dk_133 (dk_at dksX0_mortality_0 14 rfl rfl)
theorem dX0_mortality_15 : decode cX0_mortality 15 = .ok (.lastore, 1) := dk_80 (dk_at dksX0_mortality_0 15 rfl rfl)
theorem dX0_mortality_16 : decode cX0_mortality 16 = .ok (.goto 11, 3) := dk_167 0 11 (dk_at dksX0_mortality_0 16 rfl rfl)
theorem dX0_mortality_19 : decode cX0_mortality 19 = .ok (.astore 7, 2) := dk_58 7 (dk_at dksX0_mortality_0 19 rfl rfl)
theorem dX0_mortality_21 : decode cX0_mortality 21 = .ok (.iconst 1, 1) := dk_4 (dk_at dksX0_mortality_0 21 rfl rfl)
theorem dX0_mortality_22 : decode cX0_mortality 22 = .ok (.ireturn, 1) := dk_172 (dk_at dksX0_mortality_0 22 rfl rfl)
theorem dX0_mortality_23 : decode cX0_mortality 23 = .ok (.astore 7, 2) := dk_58 7 (dk_at dksX0_mortality_1 0 rfl rfl)
theorem dX0_mortality_25 : decode cX0_mortality 25 = .ok (.iconst 2, 1) := dk_5 (dk_at dksX0_mortality_1 2 rfl rfl)
theorem dX0_mortality_26 : decode cX0_mortality 26 = .ok (.ireturn, 1) := dk_172 (dk_at dksX0_mortality_1 3 rfl rfl)
theorem dX0_mortality_27 : decode cX0_mortality 27 = .ok (.iconst 0, 1) := dk_3 (dk_at dksX0_mortality_1 4 rfl rfl)
theorem dX0_mortality_28 : decode cX0_mortality 28 = .ok (.ireturn, 1) := dk_172 (dk_at dksX0_mortality_1 5 rfl rfl)
abbrev cX0_money : ByteArray := method_8_code
def yX0_money : MethodName := ⟨RX0, "money", "(LLifeoffice;I[J)I"⟩
def dkwX0_money_0 : List UInt8 := [44, 3, 42, 27, 182, 0, 32, 80, 167, 0, 6, 78, 4, 172, 3, 172]
abbrev dktX0_money_0 : List UInt8 := dkwX0_money_0 ++ []
theorem dksX0_money_0 : cX0_money.data.toList.drop 0 = dktX0_money_0 := by decide +kernel
theorem dX0_money_0 : decode cX0_money 0 = .ok (.aload_n 2, 1) := dk_44 (dk_at dksX0_money_0 0 rfl rfl)
theorem dX0_money_1 : decode cX0_money 1 = .ok (.iconst 0, 1) := dk_3 (dk_at dksX0_money_0 1 rfl rfl)
theorem dX0_money_2 : decode cX0_money 2 = .ok (.aload_n 0, 1) := dk_42 (dk_at dksX0_money_0 2 rfl rfl)
theorem dX0_money_3 : decode cX0_money 3 = .ok (.iload_n 1, 1) := dk_27 (dk_at dksX0_money_0 3 rfl rfl)
theorem dX0_money_4 : decode cX0_money 4 = .ok (.invokevirtual 32, 3) := dk_182 0 32 (dk_at dksX0_money_0 4 rfl rfl)
theorem dX0_money_7 : decode cX0_money 7 = .ok (.lastore, 1) := dk_80 (dk_at dksX0_money_0 7 rfl rfl)
theorem dX0_money_8 : decode cX0_money 8 = .ok (.goto 6, 3) := dk_167 0 6 (dk_at dksX0_money_0 8 rfl rfl)
theorem dX0_money_11 : decode cX0_money 11 = .ok (.astore_n 3, 1) := dk_78 (dk_at dksX0_money_0 11 rfl rfl)
theorem dX0_money_12 : decode cX0_money 12 = .ok (.iconst 1, 1) := dk_4 (dk_at dksX0_money_0 12 rfl rfl)
theorem dX0_money_13 : decode cX0_money 13 = .ok (.ireturn, 1) := dk_172 (dk_at dksX0_money_0 13 rfl rfl)
theorem dX0_money_14 : decode cX0_money 14 = .ok (.iconst 0, 1) := dk_3 (dk_at dksX0_money_0 14 rfl rfl)
theorem dX0_money_15 : decode cX0_money 15 = .ok (.ireturn, 1) := dk_172 (dk_at dksX0_money_0 15 rfl rfl)
abbrev cX0_quote : ByteArray := method_9_code
def yX0_quote : MethodName := ⟨RX0, "quote", "(LLifeoffice;IIIIII[J)I"⟩
def dkwX0_quote_1 : List UInt8 := [3, 172]
abbrev dktX0_quote_1 : List UInt8 := dkwX0_quote_1 ++ []
def dkwX0_quote_0 : List UInt8 := [25, 7, 3, 42, 27, 28, 29, 21, 4, 21, 5, 21, 6, 182, 0, 36, 80, 167, 0, 7, 58, 8, 4, 172]
abbrev dktX0_quote_0 : List UInt8 := dkwX0_quote_0 ++ dktX0_quote_1
theorem dksX0_quote_0 : cX0_quote.data.toList.drop 0 = dktX0_quote_0 := by decide +kernel
theorem dksX0_quote_1 : cX0_quote.data.toList.drop 24 = dktX0_quote_1 := dk_seg dksX0_quote_0 24 rfl rfl
theorem dX0_quote_0 : decode cX0_quote 0 = .ok (.aload 7, 2) := dk_25 7 (dk_at dksX0_quote_0 0 rfl rfl)
theorem dX0_quote_2 : decode cX0_quote 2 = .ok (.iconst 0, 1) := dk_3 (dk_at dksX0_quote_0 2 rfl rfl)
theorem dX0_quote_3 : decode cX0_quote 3 = .ok (.aload_n 0, 1) := dk_42 (dk_at dksX0_quote_0 3 rfl rfl)
theorem dX0_quote_4 : decode cX0_quote 4 = .ok (.iload_n 1, 1) := dk_27 (dk_at dksX0_quote_0 4 rfl rfl)
theorem dX0_quote_5 : decode cX0_quote 5 = .ok (.iload_n 2, 1) := dk_28 (dk_at dksX0_quote_0 5 rfl rfl)
theorem dX0_quote_6 : decode cX0_quote 6 = .ok (.iload_n 3, 1) := dk_29 (dk_at dksX0_quote_0 6 rfl rfl)
theorem dX0_quote_7 : decode cX0_quote 7 = .ok (.iload 4, 2) := dk_21 4 (dk_at dksX0_quote_0 7 rfl rfl)
theorem dX0_quote_9 : decode cX0_quote 9 = .ok (.iload 5, 2) := dk_21 5 (dk_at dksX0_quote_0 9 rfl rfl)
theorem dX0_quote_11 : decode cX0_quote 11 = .ok (.iload 6, 2) := dk_21 6 (dk_at dksX0_quote_0 11 rfl rfl)
theorem dX0_quote_13 : decode cX0_quote 13 = .ok (.invokevirtual 36, 3) := dk_182 0 36 (dk_at dksX0_quote_0 13 rfl rfl)
theorem dX0_quote_16 : decode cX0_quote 16 = .ok (.lastore, 1) := dk_80 (dk_at dksX0_quote_0 16 rfl rfl)
theorem dX0_quote_17 : decode cX0_quote 17 = .ok (.goto 7, 3) := dk_167 0 7 (dk_at dksX0_quote_0 17 rfl rfl)
theorem dX0_quote_20 : decode cX0_quote 20 = .ok (.astore 8, 2) := dk_58 8 (dk_at dksX0_quote_0 20 rfl rfl)
theorem dX0_quote_22 : decode cX0_quote 22 = .ok (.iconst 1, 1) := dk_4 (dk_at dksX0_quote_0 22 rfl rfl)
theorem dX0_quote_23 : decode cX0_quote 23 = .ok (.ireturn, 1) := dk_172 (dk_at dksX0_quote_0 23 rfl rfl)
theorem dX0_quote_24 : decode cX0_quote 24 = .ok (.iconst 0, 1) := dk_3 (dk_at dksX0_quote_1 0 rfl rfl)
theorem dX0_quote_25 : decode cX0_quote 25 = .ok (.ireturn, 1) := dk_172 (dk_at dksX0_quote_1 1 rfl rfl)
abbrev cX0_issue : ByteArray := method_10_code
def yX0_issue : MethodName := ⟨RX0, "issue", "(LLifeoffice;IIIIII[J)I"⟩
def dkwX0_issue_1 : List UInt8 := [172, 58, 8, 5, 172, 3, 172]
abbrev dktX0_issue_1 : List UInt8 := dkwX0_issue_1 ++ []
def dkwX0_issue_0 : List UInt8 := [25, 7, 3, 42, 27, 28, 29, 21, 4, 21, 5, 21, 6, 182, 0, 40, 133, 80, 167, 0, 11, 58, 8, 4]
abbrev dktX0_issue_0 : List UInt8 := dkwX0_issue_0 ++ dktX0_issue_1
theorem dksX0_issue_0 : cX0_issue.data.toList.drop 0 = dktX0_issue_0 := by decide +kernel
theorem dksX0_issue_1 : cX0_issue.data.toList.drop 24 = dktX0_issue_1 := dk_seg dksX0_issue_0 24 rfl rfl
theorem dX0_issue_0 : decode cX0_issue 0 = .ok (.aload 7, 2) := dk_25 7 (dk_at dksX0_issue_0 0 rfl rfl)
theorem dX0_issue_2 : decode cX0_issue 2 = .ok (.iconst 0, 1) := dk_3 (dk_at dksX0_issue_0 2 rfl rfl)
theorem dX0_issue_3 : decode cX0_issue 3 = .ok (.aload_n 0, 1) := dk_42 (dk_at dksX0_issue_0 3 rfl rfl)
theorem dX0_issue_4 : decode cX0_issue 4 = .ok (.iload_n 1, 1) := dk_27 (dk_at dksX0_issue_0 4 rfl rfl)
theorem dX0_issue_5 : decode cX0_issue 5 = .ok (.iload_n 2, 1) := dk_28 (dk_at dksX0_issue_0 5 rfl rfl)
theorem dX0_issue_6 : decode cX0_issue 6 = .ok (.iload_n 3, 1) := dk_29 (dk_at dksX0_issue_0 6 rfl rfl)
theorem dX0_issue_7 : decode cX0_issue 7 = .ok (.iload 4, 2) := dk_21 4 (dk_at dksX0_issue_0 7 rfl rfl)
theorem dX0_issue_9 : decode cX0_issue 9 = .ok (.iload 5, 2) := dk_21 5 (dk_at dksX0_issue_0 9 rfl rfl)
theorem dX0_issue_11 : decode cX0_issue 11 = .ok (.iload 6, 2) := dk_21 6 (dk_at dksX0_issue_0 11 rfl rfl)
theorem dX0_issue_13 : decode cX0_issue 13 = .ok (.invokevirtual 40, 3) := dk_182 0 40 (dk_at dksX0_issue_0 13 rfl rfl)
theorem dX0_issue_16 : decode cX0_issue 16 = .ok (.i2l, 1) := dk_133 (dk_at dksX0_issue_0 16 rfl rfl)
theorem dX0_issue_17 : decode cX0_issue 17 = .ok (.lastore, 1) := dk_80 (dk_at dksX0_issue_0 17 rfl rfl)
theorem dX0_issue_18 : decode cX0_issue 18 = .ok (.goto 11, 3) := dk_167 0 11 (dk_at dksX0_issue_0 18 rfl rfl)
theorem dX0_issue_21 : decode cX0_issue 21 = .ok (.astore 8, 2) := dk_58 8 (dk_at dksX0_issue_0 21 rfl rfl)
theorem dX0_issue_23 : decode cX0_issue 23 = .ok (.iconst 1, 1) := dk_4 (dk_at dksX0_issue_0 23 rfl rfl)
theorem dX0_issue_24 : decode cX0_issue 24 = .ok (.ireturn, 1) := dk_172 (dk_at dksX0_issue_1 0 rfl rfl)
theorem dX0_issue_25 : decode cX0_issue 25 = .ok (.astore 8, 2) := dk_58 8 (dk_at dksX0_issue_1 1 rfl rfl)
theorem dX0_issue_27 : decode cX0_issue 27 = .ok (.iconst 2, 1) := dk_5 (dk_at dksX0_issue_1 3 rfl rfl)
theorem dX0_issue_28 : decode cX0_issue 28 = .ok (.ireturn, 1) := dk_172 (dk_at dksX0_issue_1 4 rfl rfl)
theorem dX0_issue_29 : decode cX0_issue 29 = .ok (.iconst 0, 1) := dk_3 (dk_at dksX0_issue_1 5 rfl rfl)
theorem dX0_issue_30 : decode cX0_issue 30 = .ok (.ireturn, 1) := dk_172 (dk_at dksX0_issue_1 6 rfl rfl)
abbrev cX0_stateOf : ByteArray := method_11_code
def yX0_stateOf : MethodName := ⟨RX0, "stateOf", "(LLifeoffice;I[J)I"⟩
def dkwX0_stateOf_0 : List UInt8 := [44, 3, 42, 27, 182, 0, 46, 133, 80, 167, 0, 6, 78, 4, 172, 3, 172]
abbrev dktX0_stateOf_0 : List UInt8 := dkwX0_stateOf_0 ++ []
theorem dksX0_stateOf_0 : cX0_stateOf.data.toList.drop 0 = dktX0_stateOf_0 := by decide +kernel
theorem dX0_stateOf_0 : decode cX0_stateOf 0 = .ok (.aload_n 2, 1) := dk_44 (dk_at dksX0_stateOf_0 0 rfl rfl)
theorem dX0_stateOf_1 : decode cX0_stateOf 1 = .ok (.iconst 0, 1) := dk_3 (dk_at dksX0_stateOf_0 1 rfl rfl)
theorem dX0_stateOf_2 : decode cX0_stateOf 2 = .ok (.aload_n 0, 1) := dk_42 (dk_at dksX0_stateOf_0 2 rfl rfl)
theorem dX0_stateOf_3 : decode cX0_stateOf 3 = .ok (.iload_n 1, 1) := dk_27 (dk_at dksX0_stateOf_0 3 rfl rfl)
theorem dX0_stateOf_4 : decode cX0_stateOf 4 = .ok (.invokevirtual 46, 3) := dk_182 0 46 (dk_at dksX0_stateOf_0 4 rfl rfl)
theorem dX0_stateOf_7 : decode cX0_stateOf 7 = .ok (.i2l, 1) := dk_133 (dk_at dksX0_stateOf_0 7 rfl rfl)
theorem dX0_stateOf_8 : decode cX0_stateOf 8 = .ok (.lastore, 1) := dk_80 (dk_at dksX0_stateOf_0 8 rfl rfl)
theorem dX0_stateOf_9 : decode cX0_stateOf 9 = .ok (.goto 6, 3) := dk_167 0 6 (dk_at dksX0_stateOf_0 9 rfl rfl)
theorem dX0_stateOf_12 : decode cX0_stateOf 12 = .ok (.astore_n 3, 1) := dk_78 (dk_at dksX0_stateOf_0 12 rfl rfl)
theorem dX0_stateOf_13 : decode cX0_stateOf 13 = .ok (.iconst 1, 1) := dk_4 (dk_at dksX0_stateOf_0 13 rfl rfl)
theorem dX0_stateOf_14 : decode cX0_stateOf 14 = .ok (.ireturn, 1) := dk_172 (dk_at dksX0_stateOf_0 14 rfl rfl)
theorem dX0_stateOf_15 : decode cX0_stateOf 15 = .ok (.iconst 0, 1) := dk_3 (dk_at dksX0_stateOf_0 15 rfl rfl)
theorem dX0_stateOf_16 : decode cX0_stateOf 16 = .ok (.ireturn, 1) := dk_172 (dk_at dksX0_stateOf_0 16 rfl rfl)
abbrev cX0_policyAt : ByteArray := method_12_code
def yX0_policyAt : MethodName := ⟨RX0, "policyAt", "(LLifeoffice;II[J)I"⟩
def dkwX0_policyAt_0 : List UInt8 := [45, 3, 42, 27, 28, 182, 0, 49, 80, 167, 0, 11, 58, 4, 4, 172, 58, 4, 5, 172, 3, 172]
abbrev dktX0_policyAt_0 : List UInt8 := dkwX0_policyAt_0 ++ []
theorem dksX0_policyAt_0 : cX0_policyAt.data.toList.drop 0 = dktX0_policyAt_0 := by decide +kernel
theorem dX0_policyAt_0 : decode cX0_policyAt 0 = .ok (.aload_n 3, 1) := dk_45 (dk_at dksX0_policyAt_0 0 rfl rfl)
theorem dX0_policyAt_1 : decode cX0_policyAt 1 = .ok (.iconst 0, 1) := dk_3 (dk_at dksX0_policyAt_0 1 rfl rfl)
theorem dX0_policyAt_2 : decode cX0_policyAt 2 = .ok (.aload_n 0, 1) := dk_42 (dk_at dksX0_policyAt_0 2 rfl rfl)
theorem dX0_policyAt_3 : decode cX0_policyAt 3 = .ok (.iload_n 1, 1) := dk_27 (dk_at dksX0_policyAt_0 3 rfl rfl)
theorem dX0_policyAt_4 : decode cX0_policyAt 4 = .ok (.iload_n 2, 1) := dk_28 (dk_at dksX0_policyAt_0 4 rfl rfl)
theorem dX0_policyAt_5 : decode cX0_policyAt 5 = .ok (.invokevirtual 49, 3) := dk_182 0 49 (dk_at dksX0_policyAt_0 5 rfl rfl)
theorem dX0_policyAt_8 : decode cX0_policyAt 8 = .ok (.lastore, 1) := dk_80 (dk_at dksX0_policyAt_0 8 rfl rfl)
theorem dX0_policyAt_9 : decode cX0_policyAt 9 = .ok (.goto 11, 3) := dk_167 0 11 (dk_at dksX0_policyAt_0 9 rfl rfl)
theorem dX0_policyAt_12 : decode cX0_policyAt 12 = .ok (.astore 4, 2) := dk_58 4 (dk_at dksX0_policyAt_0 12 rfl rfl)
theorem dX0_policyAt_14 : decode cX0_policyAt 14 = .ok (.iconst 1, 1) := dk_4 (dk_at dksX0_policyAt_0 14 rfl rfl)
theorem dX0_policyAt_15 : decode cX0_policyAt 15 = .ok (.ireturn, 1) := dk_172 (dk_at dksX0_policyAt_0 15 rfl rfl)
theorem dX0_policyAt_16 : decode cX0_policyAt 16 = .ok (.astore 4, 2) := dk_58 4 (dk_at dksX0_policyAt_0 16 rfl rfl)
theorem dX0_policyAt_18 : decode cX0_policyAt 18 = .ok (.iconst 2, 1) := dk_5 (dk_at dksX0_policyAt_0 18 rfl rfl)
theorem dX0_policyAt_19 : decode cX0_policyAt 19 = .ok (.ireturn, 1) := dk_172 (dk_at dksX0_policyAt_0 19 rfl rfl)
theorem dX0_policyAt_20 : decode cX0_policyAt 20 = .ok (.iconst 0, 1) := dk_3 (dk_at dksX0_policyAt_0 20 rfl rfl)
theorem dX0_policyAt_21 : decode cX0_policyAt 21 = .ok (.ireturn, 1) := dk_172 (dk_at dksX0_policyAt_0 21 rfl rfl)
abbrev cX0_reserve : ByteArray := method_13_code
def yX0_reserve : MethodName := ⟨RX0, "reserve", "(LLifeoffice;II[J)I"⟩
def dkwX0_reserve_0 : List UInt8 := [45, 3, 42, 27, 28, 182, 0, 53, 80, 167, 0, 7, 58, 4, 4, 172, 3, 172]
abbrev dktX0_reserve_0 : List UInt8 := dkwX0_reserve_0 ++ []
theorem dksX0_reserve_0 : cX0_reserve.data.toList.drop 0 = dktX0_reserve_0 := by decide +kernel
theorem dX0_reserve_0 : decode cX0_reserve 0 = .ok (.aload_n 3, 1) := dk_45 (dk_at dksX0_reserve_0 0 rfl rfl)
theorem dX0_reserve_1 : decode cX0_reserve 1 = .ok (.iconst 0, 1) := dk_3 (dk_at dksX0_reserve_0 1 rfl rfl)
theorem dX0_reserve_2 : decode cX0_reserve 2 = .ok (.aload_n 0, 1) := dk_42 (dk_at dksX0_reserve_0 2 rfl rfl)
theorem dX0_reserve_3 : decode cX0_reserve 3 = .ok (.iload_n 1, 1) := dk_27 (dk_at dksX0_reserve_0 3 rfl rfl)
theorem dX0_reserve_4 : decode cX0_reserve 4 = .ok (.iload_n 2, 1) := dk_28 (dk_at dksX0_reserve_0 4 rfl rfl)
theorem dX0_reserve_5 : decode cX0_reserve 5 = .ok (.invokevirtual 53, 3) := dk_182 0 53 (dk_at dksX0_reserve_0 5 rfl rfl)
theorem dX0_reserve_8 : decode cX0_reserve 8 = .ok (.lastore, 1) := dk_80 (dk_at dksX0_reserve_0 8 rfl rfl)
theorem dX0_reserve_9 : decode cX0_reserve 9 = .ok (.goto 7, 3) := dk_167 0 7 (dk_at dksX0_reserve_0 9 rfl rfl)
theorem dX0_reserve_12 : decode cX0_reserve 12 = .ok (.astore 4, 2) := dk_58 4 (dk_at dksX0_reserve_0 12 rfl rfl)
theorem dX0_reserve_14 : decode cX0_reserve 14 = .ok (.iconst 1, 1) := dk_4 (dk_at dksX0_reserve_0 14 rfl rfl)
theorem dX0_reserve_15 : decode cX0_reserve 15 = .ok (.ireturn, 1) := dk_172 (dk_at dksX0_reserve_0 15 rfl rfl)
theorem dX0_reserve_16 : decode cX0_reserve 16 = .ok (.iconst 0, 1) := dk_3 (dk_at dksX0_reserve_0 16 rfl rfl)
theorem dX0_reserve_17 : decode cX0_reserve 17 = .ok (.ireturn, 1) := dk_172 (dk_at dksX0_reserve_0 17 rfl rfl)
abbrev cX0_reserves : ByteArray := method_14_code
def yX0_reserves : MethodName := ⟨RX0, "reserves", "(LLifeoffice;I[J)I"⟩
def dkwX0_reserves_0 : List UInt8 := [44, 3, 42, 27, 182, 0, 56, 80, 167, 0, 6, 78, 4, 172, 3, 172]
abbrev dktX0_reserves_0 : List UInt8 := dkwX0_reserves_0 ++ []
theorem dksX0_reserves_0 : cX0_reserves.data.toList.drop 0 = dktX0_reserves_0 := by decide +kernel
theorem dX0_reserves_0 : decode cX0_reserves 0 = .ok (.aload_n 2, 1) := dk_44 (dk_at dksX0_reserves_0 0 rfl rfl)
theorem dX0_reserves_1 : decode cX0_reserves 1 = .ok (.iconst 0, 1) := dk_3 (dk_at dksX0_reserves_0 1 rfl rfl)
theorem dX0_reserves_2 : decode cX0_reserves 2 = .ok (.aload_n 0, 1) := dk_42 (dk_at dksX0_reserves_0 2 rfl rfl)
theorem dX0_reserves_3 : decode cX0_reserves 3 = .ok (.iload_n 1, 1) := dk_27 (dk_at dksX0_reserves_0 3 rfl rfl)
theorem dX0_reserves_4 : decode cX0_reserves 4 = .ok (.invokevirtual 56, 3) := dk_182 0 56 (dk_at dksX0_reserves_0 4 rfl rfl)
theorem dX0_reserves_7 : decode cX0_reserves 7 = .ok (.lastore, 1) := dk_80 (dk_at dksX0_reserves_0 7 rfl rfl)
theorem dX0_reserves_8 : decode cX0_reserves 8 = .ok (.goto 6, 3) := dk_167 0 6 (dk_at dksX0_reserves_0 8 rfl rfl)
theorem dX0_reserves_11 : decode cX0_reserves 11 = .ok (.astore_n 3, 1) := dk_78 (dk_at dksX0_reserves_0 11 rfl rfl)
theorem dX0_reserves_12 : decode cX0_reserves 12 = .ok (.iconst 1, 1) := dk_4 (dk_at dksX0_reserves_0 12 rfl rfl)
theorem dX0_reserves_13 : decode cX0_reserves 13 = .ok (.ireturn, 1) := dk_172 (dk_at dksX0_reserves_0 13 rfl rfl)
theorem dX0_reserves_14 : decode cX0_reserves 14 = .ok (.iconst 0, 1) := dk_3 (dk_at dksX0_reserves_0 14 rfl rfl)
theorem dX0_reserves_15 : decode cX0_reserves 15 = .ok (.ireturn, 1) := dk_172 (dk_at dksX0_reserves_0 15 rfl rfl)
abbrev cX0_makePaidUp : ByteArray := method_15_code
def yX0_makePaidUp : MethodName := ⟨RX0, "makePaidUp", "(LLifeoffice;I[J)I"⟩
def dkwX0_makePaidUp_0 : List UInt8 := [44, 3, 42, 27, 182, 0, 59, 133, 80, 167, 0, 9, 78, 4, 172, 78, 5, 172, 3, 172]
abbrev dktX0_makePaidUp_0 : List UInt8 := dkwX0_makePaidUp_0 ++ []
theorem dksX0_makePaidUp_0 : cX0_makePaidUp.data.toList.drop 0 = dktX0_makePaidUp_0 := by decide +kernel
theorem dX0_makePaidUp_0 : decode cX0_makePaidUp 0 = .ok (.aload_n 2, 1) := dk_44 (dk_at dksX0_makePaidUp_0 0 rfl rfl)
theorem dX0_makePaidUp_1 : decode cX0_makePaidUp 1 = .ok (.iconst 0, 1) := dk_3 (dk_at dksX0_makePaidUp_0 1 rfl rfl)
theorem dX0_makePaidUp_2 : decode cX0_makePaidUp 2 = .ok (.aload_n 0, 1) := dk_42 (dk_at dksX0_makePaidUp_0 2 rfl rfl)
theorem dX0_makePaidUp_3 : decode cX0_makePaidUp 3 = .ok (.iload_n 1, 1) := dk_27 (dk_at dksX0_makePaidUp_0 3 rfl rfl)
theorem dX0_makePaidUp_4 : decode cX0_makePaidUp 4 = .ok (.invokevirtual 59, 3) := dk_182 0 59 (dk_at dksX0_makePaidUp_0 4 rfl rfl)
theorem dX0_makePaidUp_7 : decode cX0_makePaidUp 7 = .ok (.i2l, 1) := dk_133 (dk_at dksX0_makePaidUp_0 7 rfl rfl)
theorem dX0_makePaidUp_8 : decode cX0_makePaidUp 8 = .ok (.lastore, 1) := dk_80 (dk_at dksX0_makePaidUp_0 8 rfl rfl)
theorem dX0_makePaidUp_9 : decode cX0_makePaidUp 9 = .ok (.goto 9, 3) := dk_167 0 9 (dk_at dksX0_makePaidUp_0 9 rfl rfl)
theorem dX0_makePaidUp_12 : decode cX0_makePaidUp 12 = .ok (.astore_n 3, 1) := dk_78 (dk_at dksX0_makePaidUp_0 12 rfl rfl)
theorem dX0_makePaidUp_13 : decode cX0_makePaidUp 13 = .ok (.iconst 1, 1) := dk_4 (dk_at dksX0_makePaidUp_0 13 rfl rfl)
theorem dX0_makePaidUp_14 : decode cX0_makePaidUp 14 = .ok (.ireturn, 1) := dk_172 (dk_at dksX0_makePaidUp_0 14 rfl rfl)
theorem dX0_makePaidUp_15 : decode cX0_makePaidUp 15 = .ok (.astore_n 3, 1) := dk_78 (dk_at dksX0_makePaidUp_0 15 rfl rfl)
theorem dX0_makePaidUp_16 : decode cX0_makePaidUp 16 = .ok (.iconst 2, 1) := dk_5 (dk_at dksX0_makePaidUp_0 16 rfl rfl)
theorem dX0_makePaidUp_17 : decode cX0_makePaidUp 17 = .ok (.ireturn, 1) := dk_172 (dk_at dksX0_makePaidUp_0 17 rfl rfl)
theorem dX0_makePaidUp_18 : decode cX0_makePaidUp 18 = .ok (.iconst 0, 1) := dk_3 (dk_at dksX0_makePaidUp_0 18 rfl rfl)
theorem dX0_makePaidUp_19 : decode cX0_makePaidUp 19 = .ok (.ireturn, 1) := dk_172 (dk_at dksX0_makePaidUp_0 19 rfl rfl)
abbrev cX0_lend : ByteArray := method_16_code
def yX0_lend : MethodName := ⟨RX0, "lend", "(LLifeoffice;II[J)I"⟩
def dkwX0_lend_1 : List UInt8 := [3, 172]
abbrev dktX0_lend_1 : List UInt8 := dkwX0_lend_1 ++ []
def dkwX0_lend_0 : List UInt8 := [45, 3, 42, 27, 28, 182, 0, 62, 80, 167, 0, 15, 58, 4, 4, 172, 58, 4, 5, 172, 58, 4, 6, 172]
abbrev dktX0_lend_0 : List UInt8 := dkwX0_lend_0 ++ dktX0_lend_1
theorem dksX0_lend_0 : cX0_lend.data.toList.drop 0 = dktX0_lend_0 := by decide +kernel
theorem dksX0_lend_1 : cX0_lend.data.toList.drop 24 = dktX0_lend_1 := dk_seg dksX0_lend_0 24 rfl rfl
theorem dX0_lend_0 : decode cX0_lend 0 = .ok (.aload_n 3, 1) := dk_45 (dk_at dksX0_lend_0 0 rfl rfl)
theorem dX0_lend_1 : decode cX0_lend 1 = .ok (.iconst 0, 1) := dk_3 (dk_at dksX0_lend_0 1 rfl rfl)
theorem dX0_lend_2 : decode cX0_lend 2 = .ok (.aload_n 0, 1) := dk_42 (dk_at dksX0_lend_0 2 rfl rfl)
theorem dX0_lend_3 : decode cX0_lend 3 = .ok (.iload_n 1, 1) := dk_27 (dk_at dksX0_lend_0 3 rfl rfl)
theorem dX0_lend_4 : decode cX0_lend 4 = .ok (.iload_n 2, 1) := dk_28 (dk_at dksX0_lend_0 4 rfl rfl)
theorem dX0_lend_5 : decode cX0_lend 5 = .ok (.invokevirtual 62, 3) := dk_182 0 62 (dk_at dksX0_lend_0 5 rfl rfl)
theorem dX0_lend_8 : decode cX0_lend 8 = .ok (.lastore, 1) := dk_80 (dk_at dksX0_lend_0 8 rfl rfl)
theorem dX0_lend_9 : decode cX0_lend 9 = .ok (.goto 15, 3) := dk_167 0 15 (dk_at dksX0_lend_0 9 rfl rfl)
theorem dX0_lend_12 : decode cX0_lend 12 = .ok (.astore 4, 2) := dk_58 4 (dk_at dksX0_lend_0 12 rfl rfl)
theorem dX0_lend_14 : decode cX0_lend 14 = .ok (.iconst 1, 1) := dk_4 (dk_at dksX0_lend_0 14 rfl rfl)
theorem dX0_lend_15 : decode cX0_lend 15 = .ok (.ireturn, 1) := dk_172 (dk_at dksX0_lend_0 15 rfl rfl)
theorem dX0_lend_16 : decode cX0_lend 16 = .ok (.astore 4, 2) := dk_58 4 (dk_at dksX0_lend_0 16 rfl rfl)
theorem dX0_lend_18 : decode cX0_lend 18 = .ok (.iconst 2, 1) := dk_5 (dk_at dksX0_lend_0 18 rfl rfl)
theorem dX0_lend_19 : decode cX0_lend 19 = .ok (.ireturn, 1) := dk_172 (dk_at dksX0_lend_0 19 rfl rfl)
theorem dX0_lend_20 : decode cX0_lend 20 = .ok (.astore 4, 2) := dk_58 4 (dk_at dksX0_lend_0 20 rfl rfl)
theorem dX0_lend_22 : decode cX0_lend 22 = .ok (.iconst 3, 1) := dk_6 (dk_at dksX0_lend_0 22 rfl rfl)
theorem dX0_lend_23 : decode cX0_lend 23 = .ok (.ireturn, 1) := dk_172 (dk_at dksX0_lend_0 23 rfl rfl)
theorem dX0_lend_24 : decode cX0_lend 24 = .ok (.iconst 0, 1) := dk_3 (dk_at dksX0_lend_1 0 rfl rfl)
theorem dX0_lend_25 : decode cX0_lend 25 = .ok (.ireturn, 1) := dk_172 (dk_at dksX0_lend_1 1 rfl rfl)
abbrev cX0_repay : ByteArray := method_17_code
def yX0_repay : MethodName := ⟨RX0, "repay", "(LLifeoffice;II[J)I"⟩
def dkwX0_repay_1 : List UInt8 := [3, 172]
abbrev dktX0_repay_1 : List UInt8 := dkwX0_repay_1 ++ []
def dkwX0_repay_0 : List UInt8 := [45, 3, 42, 27, 28, 182, 0, 65, 80, 167, 0, 15, 58, 4, 4, 172, 58, 4, 5, 172, 58, 4, 6, 172]
abbrev dktX0_repay_0 : List UInt8 := dkwX0_repay_0 ++ dktX0_repay_1
theorem dksX0_repay_0 : cX0_repay.data.toList.drop 0 = dktX0_repay_0 := by decide +kernel
theorem dksX0_repay_1 : cX0_repay.data.toList.drop 24 = dktX0_repay_1 := dk_seg dksX0_repay_0 24 rfl rfl
theorem dX0_repay_0 : decode cX0_repay 0 = .ok (.aload_n 3, 1) := dk_45 (dk_at dksX0_repay_0 0 rfl rfl)
theorem dX0_repay_1 : decode cX0_repay 1 = .ok (.iconst 0, 1) := dk_3 (dk_at dksX0_repay_0 1 rfl rfl)
theorem dX0_repay_2 : decode cX0_repay 2 = .ok (.aload_n 0, 1) := dk_42 (dk_at dksX0_repay_0 2 rfl rfl)
theorem dX0_repay_3 : decode cX0_repay 3 = .ok (.iload_n 1, 1) := dk_27 (dk_at dksX0_repay_0 3 rfl rfl)
theorem dX0_repay_4 : decode cX0_repay 4 = .ok (.iload_n 2, 1) := dk_28 (dk_at dksX0_repay_0 4 rfl rfl)
theorem dX0_repay_5 : decode cX0_repay 5 = .ok (.invokevirtual 65, 3) := dk_182 0 65 (dk_at dksX0_repay_0 5 rfl rfl)
theorem dX0_repay_8 : decode cX0_repay 8 = .ok (.lastore, 1) := dk_80 (dk_at dksX0_repay_0 8 rfl rfl)
theorem dX0_repay_9 : decode cX0_repay 9 = .ok (.goto 15, 3) := dk_167 0 15 (dk_at dksX0_repay_0 9 rfl rfl)
theorem dX0_repay_12 : decode cX0_repay 12 = .ok (.astore 4, 2) := dk_58 4 (dk_at dksX0_repay_0 12 rfl rfl)
theorem dX0_repay_14 : decode cX0_repay 14 = .ok (.iconst 1, 1) := dk_4 (dk_at dksX0_repay_0 14 rfl rfl)
theorem dX0_repay_15 : decode cX0_repay 15 = .ok (.ireturn, 1) := dk_172 (dk_at dksX0_repay_0 15 rfl rfl)
theorem dX0_repay_16 : decode cX0_repay 16 = .ok (.astore 4, 2) := dk_58 4 (dk_at dksX0_repay_0 16 rfl rfl)
theorem dX0_repay_18 : decode cX0_repay 18 = .ok (.iconst 2, 1) := dk_5 (dk_at dksX0_repay_0 18 rfl rfl)
theorem dX0_repay_19 : decode cX0_repay 19 = .ok (.ireturn, 1) := dk_172 (dk_at dksX0_repay_0 19 rfl rfl)
theorem dX0_repay_20 : decode cX0_repay 20 = .ok (.astore 4, 2) := dk_58 4 (dk_at dksX0_repay_0 20 rfl rfl)
theorem dX0_repay_22 : decode cX0_repay 22 = .ok (.iconst 3, 1) := dk_6 (dk_at dksX0_repay_0 22 rfl rfl)
theorem dX0_repay_23 : decode cX0_repay 23 = .ok (.ireturn, 1) := dk_172 (dk_at dksX0_repay_0 23 rfl rfl)
theorem dX0_repay_24 : decode cX0_repay 24 = .ok (.iconst 0, 1) := dk_3 (dk_at dksX0_repay_1 0 rfl rfl)
theorem dX0_repay_25 : decode cX0_repay 25 = .ok (.ireturn, 1) := dk_172 (dk_at dksX0_repay_1 1 rfl rfl)
abbrev cX0_tellDeath : ByteArray := method_18_code
def yX0_tellDeath : MethodName := ⟨RX0, "tellDeath", "(LLifeoffice;II[J)I"⟩
def dkwX0_tellDeath_1 : List UInt8 := [3, 172]
abbrev dktX0_tellDeath_1 : List UInt8 := dkwX0_tellDeath_1 ++ []
def dkwX0_tellDeath_0 : List UInt8 := [45, 3, 42, 27, 28, 182, 0, 68, 80, 167, 0, 15, 58, 4, 4, 172, 58, 4, 5, 172, 58, 4, 6, 172]
abbrev dktX0_tellDeath_0 : List UInt8 := dkwX0_tellDeath_0 ++ dktX0_tellDeath_1
theorem dksX0_tellDeath_0 : cX0_tellDeath.data.toList.drop 0 = dktX0_tellDeath_0 := by decide +kernel
theorem dksX0_tellDeath_1 : cX0_tellDeath.data.toList.drop 24 = dktX0_tellDeath_1 := dk_seg dksX0_tellDeath_0 24 rfl rfl
theorem dX0_tellDeath_0 : decode cX0_tellDeath 0 = .ok (.aload_n 3, 1) := dk_45 (dk_at dksX0_tellDeath_0 0 rfl rfl)
theorem dX0_tellDeath_1 : decode cX0_tellDeath 1 = .ok (.iconst 0, 1) := dk_3 (dk_at dksX0_tellDeath_0 1 rfl rfl)
theorem dX0_tellDeath_2 : decode cX0_tellDeath 2 = .ok (.aload_n 0, 1) := dk_42 (dk_at dksX0_tellDeath_0 2 rfl rfl)
theorem dX0_tellDeath_3 : decode cX0_tellDeath 3 = .ok (.iload_n 1, 1) := dk_27 (dk_at dksX0_tellDeath_0 3 rfl rfl)
theorem dX0_tellDeath_4 : decode cX0_tellDeath 4 = .ok (.iload_n 2, 1) := dk_28 (dk_at dksX0_tellDeath_0 4 rfl rfl)
theorem dX0_tellDeath_5 : decode cX0_tellDeath 5 = .ok (.invokevirtual 68, 3) := dk_182 0 68 (dk_at dksX0_tellDeath_0 5 rfl rfl)
theorem dX0_tellDeath_8 : decode cX0_tellDeath 8 = .ok (.lastore, 1) := dk_80 (dk_at dksX0_tellDeath_0 8 rfl rfl)
theorem dX0_tellDeath_9 : decode cX0_tellDeath 9 = .ok (.goto 15, 3) := dk_167 0 15 (dk_at dksX0_tellDeath_0 9 rfl rfl)
theorem dX0_tellDeath_12 : decode cX0_tellDeath 12 = .ok (.astore 4, 2) := dk_58 4 (dk_at dksX0_tellDeath_0 12 rfl rfl)
theorem dX0_tellDeath_14 : decode cX0_tellDeath 14 = .ok (.iconst 1, 1) := dk_4 (dk_at dksX0_tellDeath_0 14 rfl rfl)
theorem dX0_tellDeath_15 : decode cX0_tellDeath 15 = .ok (.ireturn, 1) := dk_172 (dk_at dksX0_tellDeath_0 15 rfl rfl)
theorem dX0_tellDeath_16 : decode cX0_tellDeath 16 = .ok (.astore 4, 2) := dk_58 4 (dk_at dksX0_tellDeath_0 16 rfl rfl)
theorem dX0_tellDeath_18 : decode cX0_tellDeath 18 = .ok (.iconst 2, 1) := dk_5 (dk_at dksX0_tellDeath_0 18 rfl rfl)
theorem dX0_tellDeath_19 : decode cX0_tellDeath 19 = .ok (.ireturn, 1) := dk_172 (dk_at dksX0_tellDeath_0 19 rfl rfl)
theorem dX0_tellDeath_20 : decode cX0_tellDeath 20 = .ok (.astore 4, 2) := dk_58 4 (dk_at dksX0_tellDeath_0 20 rfl rfl)
theorem dX0_tellDeath_22 : decode cX0_tellDeath 22 = .ok (.iconst 3, 1) := dk_6 (dk_at dksX0_tellDeath_0 22 rfl rfl)
theorem dX0_tellDeath_23 : decode cX0_tellDeath 23 = .ok (.ireturn, 1) := dk_172 (dk_at dksX0_tellDeath_0 23 rfl rfl)
theorem dX0_tellDeath_24 : decode cX0_tellDeath 24 = .ok (.iconst 0, 1) := dk_3 (dk_at dksX0_tellDeath_1 0 rfl rfl)
theorem dX0_tellDeath_25 : decode cX0_tellDeath 25 = .ok (.ireturn, 1) := dk_172 (dk_at dksX0_tellDeath_1 1 rfl rfl)
abbrev cX0_tellLate : ByteArray := method_19_code
def yX0_tellLate : MethodName := ⟨RX0, "tellLate", "(LLifeoffice;II[J)I"⟩
def dkwX0_tellLate_1 : List UInt8 := [3, 172]
abbrev dktX0_tellLate_1 : List UInt8 := dkwX0_tellLate_1 ++ []
def dkwX0_tellLate_0 : List UInt8 := [45, 3, 42, 27, 28, 182, 0, 71, 80, 167, 0, 15, 58, 4, 4, 172, 58, 4, 5, 172, 58, 4, 6, 172]
abbrev dktX0_tellLate_0 : List UInt8 := dkwX0_tellLate_0 ++ dktX0_tellLate_1
theorem dksX0_tellLate_0 : cX0_tellLate.data.toList.drop 0 = dktX0_tellLate_0 := by decide +kernel
theorem dksX0_tellLate_1 : cX0_tellLate.data.toList.drop 24 = dktX0_tellLate_1 := dk_seg dksX0_tellLate_0 24 rfl rfl
theorem dX0_tellLate_0 : decode cX0_tellLate 0 = .ok (.aload_n 3, 1) := dk_45 (dk_at dksX0_tellLate_0 0 rfl rfl)
theorem dX0_tellLate_1 : decode cX0_tellLate 1 = .ok (.iconst 0, 1) := dk_3 (dk_at dksX0_tellLate_0 1 rfl rfl)
theorem dX0_tellLate_2 : decode cX0_tellLate 2 = .ok (.aload_n 0, 1) := dk_42 (dk_at dksX0_tellLate_0 2 rfl rfl)
theorem dX0_tellLate_3 : decode cX0_tellLate 3 = .ok (.iload_n 1, 1) := dk_27 (dk_at dksX0_tellLate_0 3 rfl rfl)
theorem dX0_tellLate_4 : decode cX0_tellLate 4 = .ok (.iload_n 2, 1) := dk_28 (dk_at dksX0_tellLate_0 4 rfl rfl)
theorem dX0_tellLate_5 : decode cX0_tellLate 5 = .ok (.invokevirtual 71, 3) := dk_182 0 71 (dk_at dksX0_tellLate_0 5 rfl rfl)
theorem dX0_tellLate_8 : decode cX0_tellLate 8 = .ok (.lastore, 1) := dk_80 (dk_at dksX0_tellLate_0 8 rfl rfl)
theorem dX0_tellLate_9 : decode cX0_tellLate 9 = .ok (.goto 15, 3) := dk_167 0 15 (dk_at dksX0_tellLate_0 9 rfl rfl)
theorem dX0_tellLate_12 : decode cX0_tellLate 12 = .ok (.astore 4, 2) := dk_58 4 (dk_at dksX0_tellLate_0 12 rfl rfl)
theorem dX0_tellLate_14 : decode cX0_tellLate 14 = .ok (.iconst 1, 1) := dk_4 (dk_at dksX0_tellLate_0 14 rfl rfl)
theorem dX0_tellLate_15 : decode cX0_tellLate 15 = .ok (.ireturn, 1) := dk_172 (dk_at dksX0_tellLate_0 15 rfl rfl)
theorem dX0_tellLate_16 : decode cX0_tellLate 16 = .ok (.astore 4, 2) := dk_58 4 (dk_at dksX0_tellLate_0 16 rfl rfl)
theorem dX0_tellLate_18 : decode cX0_tellLate 18 = .ok (.iconst 2, 1) := dk_5 (dk_at dksX0_tellLate_0 18 rfl rfl)
theorem dX0_tellLate_19 : decode cX0_tellLate 19 = .ok (.ireturn, 1) := dk_172 (dk_at dksX0_tellLate_0 19 rfl rfl)
theorem dX0_tellLate_20 : decode cX0_tellLate 20 = .ok (.astore 4, 2) := dk_58 4 (dk_at dksX0_tellLate_0 20 rfl rfl)
theorem dX0_tellLate_22 : decode cX0_tellLate 22 = .ok (.iconst 3, 1) := dk_6 (dk_at dksX0_tellLate_0 22 rfl rfl)
theorem dX0_tellLate_23 : decode cX0_tellLate 23 = .ok (.ireturn, 1) := dk_172 (dk_at dksX0_tellLate_0 23 rfl rfl)
theorem dX0_tellLate_24 : decode cX0_tellLate 24 = .ok (.iconst 0, 1) := dk_3 (dk_at dksX0_tellLate_1 0 rfl rfl)
theorem dX0_tellLate_25 : decode cX0_tellLate 25 = .ok (.ireturn, 1) := dk_172 (dk_at dksX0_tellLate_1 1 rfl rfl)
abbrev cX0_tellSurrender : ByteArray := method_20_code
def yX0_tellSurrender : MethodName := ⟨RX0, "tellSurrender", "(LLifeoffice;I[J)I"⟩
def dkwX0_tellSurrender_0 : List UInt8 := [44, 3, 42, 27, 182, 0, 74, 80, 167, 0, 9, 78, 4, 172, 78, 5, 172, 3, 172]
abbrev dktX0_tellSurrender_0 : List UInt8 := dkwX0_tellSurrender_0 ++ []
theorem dksX0_tellSurrender_0 : cX0_tellSurrender.data.toList.drop 0 = dktX0_tellSurrender_0 := by decide +kernel
theorem dX0_tellSurrender_0 : decode cX0_tellSurrender 0 = .ok (.aload_n 2, 1) := dk_44 (dk_at dksX0_tellSurrender_0 0 rfl rfl)
theorem dX0_tellSurrender_1 : decode cX0_tellSurrender 1 = .ok (.iconst 0, 1) := dk_3 (dk_at dksX0_tellSurrender_0 1 rfl rfl)
theorem dX0_tellSurrender_2 : decode cX0_tellSurrender 2 = .ok (.aload_n 0, 1) := dk_42 (dk_at dksX0_tellSurrender_0 2 rfl rfl)
theorem dX0_tellSurrender_3 : decode cX0_tellSurrender 3 = .ok (.iload_n 1, 1) := dk_27 (dk_at dksX0_tellSurrender_0 3 rfl rfl)
theorem dX0_tellSurrender_4 : decode cX0_tellSurrender 4 = .ok (.invokevirtual 74, 3) := dk_182 0 74 (dk_at dksX0_tellSurrender_0 4 rfl rfl)
theorem dX0_tellSurrender_7 : decode cX0_tellSurrender 7 = .ok (.lastore, 1) := dk_80 (dk_at dksX0_tellSurrender_0 7 rfl rfl)
theorem dX0_tellSurrender_8 : decode cX0_tellSurrender 8 = .ok (.goto 9, 3) := dk_167 0 9 (dk_at dksX0_tellSurrender_0 8 rfl rfl)
theorem dX0_tellSurrender_11 : decode cX0_tellSurrender 11 = .ok (.astore_n 3, 1) := dk_78 (dk_at dksX0_tellSurrender_0 11 rfl rfl)
theorem dX0_tellSurrender_12 : decode cX0_tellSurrender 12 = .ok (.iconst 1, 1) := dk_4 (dk_at dksX0_tellSurrender_0 12 rfl rfl)
theorem dX0_tellSurrender_13 : decode cX0_tellSurrender 13 = .ok (.ireturn, 1) := dk_172 (dk_at dksX0_tellSurrender_0 13 rfl rfl)
theorem dX0_tellSurrender_14 : decode cX0_tellSurrender 14 = .ok (.astore_n 3, 1) := dk_78 (dk_at dksX0_tellSurrender_0 14 rfl rfl)
theorem dX0_tellSurrender_15 : decode cX0_tellSurrender 15 = .ok (.iconst 2, 1) := dk_5 (dk_at dksX0_tellSurrender_0 15 rfl rfl)
theorem dX0_tellSurrender_16 : decode cX0_tellSurrender 16 = .ok (.ireturn, 1) := dk_172 (dk_at dksX0_tellSurrender_0 16 rfl rfl)
theorem dX0_tellSurrender_17 : decode cX0_tellSurrender 17 = .ok (.iconst 0, 1) := dk_3 (dk_at dksX0_tellSurrender_0 17 rfl rfl)
theorem dX0_tellSurrender_18 : decode cX0_tellSurrender 18 = .ok (.ireturn, 1) := dk_172 (dk_at dksX0_tellSurrender_0 18 rfl rfl)
abbrev cX0_lapse : ByteArray := method_21_code
def yX0_lapse : MethodName := ⟨RX0, "lapse", "(LLifeoffice;I[J)I"⟩
def dkwX0_lapse_0 : List UInt8 := [44, 3, 42, 27, 182, 0, 77, 80, 167, 0, 9, 78, 4, 172, 78, 5, 172, 3, 172]
abbrev dktX0_lapse_0 : List UInt8 := dkwX0_lapse_0 ++ []
theorem dksX0_lapse_0 : cX0_lapse.data.toList.drop 0 = dktX0_lapse_0 := by decide +kernel
theorem dX0_lapse_0 : decode cX0_lapse 0 = .ok (.aload_n 2, 1) := dk_44 (dk_at dksX0_lapse_0 0 rfl rfl)
theorem dX0_lapse_1 : decode cX0_lapse 1 = .ok (.iconst 0, 1) := dk_3 (dk_at dksX0_lapse_0 1 rfl rfl)
theorem dX0_lapse_2 : decode cX0_lapse 2 = .ok (.aload_n 0, 1) := dk_42 (dk_at dksX0_lapse_0 2 rfl rfl)
theorem dX0_lapse_3 : decode cX0_lapse 3 = .ok (.iload_n 1, 1) := dk_27 (dk_at dksX0_lapse_0 3 rfl rfl)
theorem dX0_lapse_4 : decode cX0_lapse 4 = .ok (.invokevirtual 77, 3) := dk_182 0 77 (dk_at dksX0_lapse_0 4 rfl rfl)
theorem dX0_lapse_7 : decode cX0_lapse 7 = .ok (.lastore, 1) := dk_80 (dk_at dksX0_lapse_0 7 rfl rfl)
theorem dX0_lapse_8 : decode cX0_lapse 8 = .ok (.goto 9, 3) := dk_167 0 9 (dk_at dksX0_lapse_0 8 rfl rfl)
theorem dX0_lapse_11 : decode cX0_lapse 11 = .ok (.astore_n 3, 1) := dk_78 (dk_at dksX0_lapse_0 11 rfl rfl)
theorem dX0_lapse_12 : decode cX0_lapse 12 = .ok (.iconst 1, 1) := dk_4 (dk_at dksX0_lapse_0 12 rfl rfl)
theorem dX0_lapse_13 : decode cX0_lapse 13 = .ok (.ireturn, 1) := dk_172 (dk_at dksX0_lapse_0 13 rfl rfl)
theorem dX0_lapse_14 : decode cX0_lapse 14 = .ok (.astore_n 3, 1) := dk_78 (dk_at dksX0_lapse_0 14 rfl rfl)
theorem dX0_lapse_15 : decode cX0_lapse 15 = .ok (.iconst 2, 1) := dk_5 (dk_at dksX0_lapse_0 15 rfl rfl)
theorem dX0_lapse_16 : decode cX0_lapse 16 = .ok (.ireturn, 1) := dk_172 (dk_at dksX0_lapse_0 16 rfl rfl)
theorem dX0_lapse_17 : decode cX0_lapse 17 = .ok (.iconst 0, 1) := dk_3 (dk_at dksX0_lapse_0 17 rfl rfl)
theorem dX0_lapse_18 : decode cX0_lapse 18 = .ok (.ireturn, 1) := dk_172 (dk_at dksX0_lapse_0 18 rfl rfl)
abbrev cX0_reinstate : ByteArray := method_22_code
def yX0_reinstate : MethodName := ⟨RX0, "reinstate", "(LLifeoffice;I[J)I"⟩
def dkwX0_reinstate_0 : List UInt8 := [44, 3, 42, 27, 182, 0, 80, 80, 167, 0, 9, 78, 4, 172, 78, 5, 172, 3, 172]
abbrev dktX0_reinstate_0 : List UInt8 := dkwX0_reinstate_0 ++ []
theorem dksX0_reinstate_0 : cX0_reinstate.data.toList.drop 0 = dktX0_reinstate_0 := by decide +kernel
theorem dX0_reinstate_0 : decode cX0_reinstate 0 = .ok (.aload_n 2, 1) := dk_44 (dk_at dksX0_reinstate_0 0 rfl rfl)
theorem dX0_reinstate_1 : decode cX0_reinstate 1 = .ok (.iconst 0, 1) := dk_3 (dk_at dksX0_reinstate_0 1 rfl rfl)
theorem dX0_reinstate_2 : decode cX0_reinstate 2 = .ok (.aload_n 0, 1) := dk_42 (dk_at dksX0_reinstate_0 2 rfl rfl)
theorem dX0_reinstate_3 : decode cX0_reinstate 3 = .ok (.iload_n 1, 1) := dk_27 (dk_at dksX0_reinstate_0 3 rfl rfl)
theorem dX0_reinstate_4 : decode cX0_reinstate 4 = .ok (.invokevirtual 80, 3) := dk_182 0 80 (dk_at dksX0_reinstate_0 4 rfl rfl)
theorem dX0_reinstate_7 : decode cX0_reinstate 7 = .ok (.lastore, 1) := dk_80 (dk_at dksX0_reinstate_0 7 rfl rfl)
theorem dX0_reinstate_8 : decode cX0_reinstate 8 = .ok (.goto 9, 3) := dk_167 0 9 (dk_at dksX0_reinstate_0 8 rfl rfl)
theorem dX0_reinstate_11 : decode cX0_reinstate 11 = .ok (.astore_n 3, 1) := dk_78 (dk_at dksX0_reinstate_0 11 rfl rfl)
theorem dX0_reinstate_12 : decode cX0_reinstate 12 = .ok (.iconst 1, 1) := dk_4 (dk_at dksX0_reinstate_0 12 rfl rfl)
theorem dX0_reinstate_13 : decode cX0_reinstate 13 = .ok (.ireturn, 1) := dk_172 (dk_at dksX0_reinstate_0 13 rfl rfl)
theorem dX0_reinstate_14 : decode cX0_reinstate 14 = .ok (.astore_n 3, 1) := dk_78 (dk_at dksX0_reinstate_0 14 rfl rfl)
theorem dX0_reinstate_15 : decode cX0_reinstate 15 = .ok (.iconst 2, 1) := dk_5 (dk_at dksX0_reinstate_0 15 rfl rfl)
theorem dX0_reinstate_16 : decode cX0_reinstate 16 = .ok (.ireturn, 1) := dk_172 (dk_at dksX0_reinstate_0 16 rfl rfl)
theorem dX0_reinstate_17 : decode cX0_reinstate 17 = .ok (.iconst 0, 1) := dk_3 (dk_at dksX0_reinstate_0 17 rfl rfl)
theorem dX0_reinstate_18 : decode cX0_reinstate 18 = .ok (.ireturn, 1) := dk_172 (dk_at dksX0_reinstate_0 18 rfl rfl)
abbrev cX0_setGuarantee : ByteArray := method_23_code
def yX0_setGuarantee : MethodName := ⟨RX0, "setGuarantee", "(LLifeoffice;II[J)I"⟩
def dkwX0_setGuarantee_1 : List UInt8 := [172, 3, 172]
abbrev dktX0_setGuarantee_1 : List UInt8 := dkwX0_setGuarantee_1 ++ []
def dkwX0_setGuarantee_0 : List UInt8 := [45, 3, 42, 27, 28, 182, 0, 83, 133, 80, 167, 0, 15, 58, 4, 4, 172, 58, 4, 5, 172, 58, 4, 6]
abbrev dktX0_setGuarantee_0 : List UInt8 := dkwX0_setGuarantee_0 ++ dktX0_setGuarantee_1
theorem dksX0_setGuarantee_0 : cX0_setGuarantee.data.toList.drop 0 = dktX0_setGuarantee_0 := by decide +kernel
theorem dksX0_setGuarantee_1 : cX0_setGuarantee.data.toList.drop 24 = dktX0_setGuarantee_1 := dk_seg dksX0_setGuarantee_0 24 rfl rfl
theorem dX0_setGuarantee_0 : decode cX0_setGuarantee 0 = .ok (.aload_n 3, 1) := dk_45 (dk_at dksX0_setGuarantee_0 0 rfl rfl)
theorem dX0_setGuarantee_1 : decode cX0_setGuarantee 1 = .ok (.iconst 0, 1) := dk_3 (dk_at dksX0_setGuarantee_0 1 rfl rfl)
theorem dX0_setGuarantee_2 : decode cX0_setGuarantee 2 = .ok (.aload_n 0, 1) := dk_42 (dk_at dksX0_setGuarantee_0 2 rfl rfl)
theorem dX0_setGuarantee_3 : decode cX0_setGuarantee 3 = .ok (.iload_n 1, 1) := dk_27 (dk_at dksX0_setGuarantee_0 3 rfl rfl)
theorem dX0_setGuarantee_4 : decode cX0_setGuarantee 4 = .ok (.iload_n 2, 1) := dk_28 (dk_at dksX0_setGuarantee_0 4 rfl rfl)
theorem dX0_setGuarantee_5 : decode cX0_setGuarantee 5 = .ok (.invokevirtual 83, 3) := dk_182 0 83 (dk_at dksX0_setGuarantee_0 5 rfl rfl)
theorem dX0_setGuarantee_8 : decode cX0_setGuarantee 8 = .ok (.i2l, 1) := dk_133 (dk_at dksX0_setGuarantee_0 8 rfl rfl)
theorem dX0_setGuarantee_9 : decode cX0_setGuarantee 9 = .ok (.lastore, 1) := dk_80 (dk_at dksX0_setGuarantee_0 9 rfl rfl)
theorem dX0_setGuarantee_10 : decode cX0_setGuarantee 10 = .ok (.goto 15, 3) := dk_167 0 15 (dk_at dksX0_setGuarantee_0 10 rfl rfl)
theorem dX0_setGuarantee_13 : decode cX0_setGuarantee 13 = .ok (.astore 4, 2) := dk_58 4 (dk_at dksX0_setGuarantee_0 13 rfl rfl)
theorem dX0_setGuarantee_15 : decode cX0_setGuarantee 15 = .ok (.iconst 1, 1) := dk_4 (dk_at dksX0_setGuarantee_0 15 rfl rfl)
theorem dX0_setGuarantee_16 : decode cX0_setGuarantee 16 = .ok (.ireturn, 1) := dk_172 (dk_at dksX0_setGuarantee_0 16 rfl rfl)
theorem dX0_setGuarantee_17 : decode cX0_setGuarantee 17 = .ok (.astore 4, 2) := dk_58 4 (dk_at dksX0_setGuarantee_0 17 rfl rfl)
theorem dX0_setGuarantee_19 : decode cX0_setGuarantee 19 = .ok (.iconst 2, 1) := dk_5 (dk_at dksX0_setGuarantee_0 19 rfl rfl)
theorem dX0_setGuarantee_20 : decode cX0_setGuarantee 20 = .ok (.ireturn, 1) := dk_172 (dk_at dksX0_setGuarantee_0 20 rfl rfl)
theorem dX0_setGuarantee_21 : decode cX0_setGuarantee 21 = .ok (.astore 4, 2) := dk_58 4 (dk_at dksX0_setGuarantee_0 21 rfl rfl)
theorem dX0_setGuarantee_23 : decode cX0_setGuarantee 23 = .ok (.iconst 3, 1) := dk_6 (dk_at dksX0_setGuarantee_0 23 rfl rfl)
theorem dX0_setGuarantee_24 : decode cX0_setGuarantee 24 = .ok (.ireturn, 1) := dk_172 (dk_at dksX0_setGuarantee_1 0 rfl rfl)
theorem dX0_setGuarantee_25 : decode cX0_setGuarantee 25 = .ok (.iconst 0, 1) := dk_3 (dk_at dksX0_setGuarantee_1 1 rfl rfl)
theorem dX0_setGuarantee_26 : decode cX0_setGuarantee 26 = .ok (.ireturn, 1) := dk_172 (dk_at dksX0_setGuarantee_1 2 rfl rfl)
abbrev cX0_optionValue : ByteArray := method_24_code
def yX0_optionValue : MethodName := ⟨RX0, "optionValue", "(LLifeoffice;II[J)I"⟩
def dkwX0_optionValue_1 : List UInt8 := [3, 172]
abbrev dktX0_optionValue_1 : List UInt8 := dkwX0_optionValue_1 ++ []
def dkwX0_optionValue_0 : List UInt8 := [45, 3, 42, 27, 28, 182, 0, 86, 80, 167, 0, 15, 58, 4, 4, 172, 58, 4, 5, 172, 58, 4, 6, 172]
abbrev dktX0_optionValue_0 : List UInt8 := dkwX0_optionValue_0 ++ dktX0_optionValue_1
theorem dksX0_optionValue_0 : cX0_optionValue.data.toList.drop 0 = dktX0_optionValue_0 := by decide +kernel
theorem dksX0_optionValue_1 : cX0_optionValue.data.toList.drop 24 = dktX0_optionValue_1 := dk_seg dksX0_optionValue_0 24 rfl rfl
theorem dX0_optionValue_0 : decode cX0_optionValue 0 = .ok (.aload_n 3, 1) := dk_45 (dk_at dksX0_optionValue_0 0 rfl rfl)
theorem dX0_optionValue_1 : decode cX0_optionValue 1 = .ok (.iconst 0, 1) := dk_3 (dk_at dksX0_optionValue_0 1 rfl rfl)
theorem dX0_optionValue_2 : decode cX0_optionValue 2 = .ok (.aload_n 0, 1) := dk_42 (dk_at dksX0_optionValue_0 2 rfl rfl)
theorem dX0_optionValue_3 : decode cX0_optionValue 3 = .ok (.iload_n 1, 1) := dk_27 (dk_at dksX0_optionValue_0 3 rfl rfl)
theorem dX0_optionValue_4 : decode cX0_optionValue 4 = .ok (.iload_n 2, 1) := dk_28 (dk_at dksX0_optionValue_0 4 rfl rfl)
theorem dX0_optionValue_5 : decode cX0_optionValue 5 = .ok (.invokevirtual 86, 3) := dk_182 0 86 (dk_at dksX0_optionValue_0 5 rfl rfl)
theorem dX0_optionValue_8 : decode cX0_optionValue 8 = .ok (.lastore, 1) := dk_80 (dk_at dksX0_optionValue_0 8 rfl rfl)
theorem dX0_optionValue_9 : decode cX0_optionValue 9 = .ok (.goto 15, 3) := dk_167 0 15 (dk_at dksX0_optionValue_0 9 rfl rfl)
theorem dX0_optionValue_12 : decode cX0_optionValue 12 = .ok (.astore 4, 2) := dk_58 4 (dk_at dksX0_optionValue_0 12 rfl rfl)
theorem dX0_optionValue_14 : decode cX0_optionValue 14 = .ok (.iconst 1, 1) := dk_4 (dk_at dksX0_optionValue_0 14 rfl rfl)
theorem dX0_optionValue_15 : decode cX0_optionValue 15 = .ok (.ireturn, 1) := dk_172 (dk_at dksX0_optionValue_0 15 rfl rfl)
theorem dX0_optionValue_16 : decode cX0_optionValue 16 = .ok (.astore 4, 2) := dk_58 4 (dk_at dksX0_optionValue_0 16 rfl rfl)
theorem dX0_optionValue_18 : decode cX0_optionValue 18 = .ok (.iconst 2, 1) := dk_5 (dk_at dksX0_optionValue_0 18 rfl rfl)
theorem dX0_optionValue_19 : decode cX0_optionValue 19 = .ok (.ireturn, 1) := dk_172 (dk_at dksX0_optionValue_0 19 rfl rfl)
theorem dX0_optionValue_20 : decode cX0_optionValue 20 = .ok (.astore 4, 2) := dk_58 4 (dk_at dksX0_optionValue_0 20 rfl rfl)
theorem dX0_optionValue_22 : decode cX0_optionValue 22 = .ok (.iconst 3, 1) := dk_6 (dk_at dksX0_optionValue_0 22 rfl rfl)
theorem dX0_optionValue_23 : decode cX0_optionValue 23 = .ok (.ireturn, 1) := dk_172 (dk_at dksX0_optionValue_0 23 rfl rfl)
theorem dX0_optionValue_24 : decode cX0_optionValue 24 = .ok (.iconst 0, 1) := dk_3 (dk_at dksX0_optionValue_1 0 rfl rfl)
theorem dX0_optionValue_25 : decode cX0_optionValue 25 = .ok (.ireturn, 1) := dk_172 (dk_at dksX0_optionValue_1 1 rfl rfl)
abbrev cX0_byReserve : ByteArray := method_25_code
def yX0_byReserve : MethodName := ⟨RX0, "byReserve", "(LLifeoffice;I[J)I"⟩
def dkwX0_byReserve_0 : List UInt8 := [44, 3, 42, 27, 182, 0, 89, 133, 80, 167, 0, 6, 78, 4, 172, 3, 172]
abbrev dktX0_byReserve_0 : List UInt8 := dkwX0_byReserve_0 ++ []
theorem dksX0_byReserve_0 : cX0_byReserve.data.toList.drop 0 = dktX0_byReserve_0 := by decide +kernel
theorem dX0_byReserve_0 : decode cX0_byReserve 0 = .ok (.aload_n 2, 1) := dk_44 (dk_at dksX0_byReserve_0 0 rfl rfl)
theorem dX0_byReserve_1 : decode cX0_byReserve 1 = .ok (.iconst 0, 1) := dk_3 (dk_at dksX0_byReserve_0 1 rfl rfl)
theorem dX0_byReserve_2 : decode cX0_byReserve 2 = .ok (.aload_n 0, 1) := dk_42 (dk_at dksX0_byReserve_0 2 rfl rfl)
theorem dX0_byReserve_3 : decode cX0_byReserve 3 = .ok (.iload_n 1, 1) := dk_27 (dk_at dksX0_byReserve_0 3 rfl rfl)
theorem dX0_byReserve_4 : decode cX0_byReserve 4 = .ok (.invokevirtual 89, 3) := dk_182 0 89 (dk_at dksX0_byReserve_0 4 rfl rfl)
theorem dX0_byReserve_7 : decode cX0_byReserve 7 = .ok (.i2l, 1) := dk_133 (dk_at dksX0_byReserve_0 7 rfl rfl)
theorem dX0_byReserve_8 : decode cX0_byReserve 8 = .ok (.lastore, 1) := dk_80 (dk_at dksX0_byReserve_0 8 rfl rfl)
theorem dX0_byReserve_9 : decode cX0_byReserve 9 = .ok (.goto 6, 3) := dk_167 0 6 (dk_at dksX0_byReserve_0 9 rfl rfl)
theorem dX0_byReserve_12 : decode cX0_byReserve 12 = .ok (.astore_n 3, 1) := dk_78 (dk_at dksX0_byReserve_0 12 rfl rfl)
theorem dX0_byReserve_13 : decode cX0_byReserve 13 = .ok (.iconst 1, 1) := dk_4 (dk_at dksX0_byReserve_0 13 rfl rfl)
theorem dX0_byReserve_14 : decode cX0_byReserve 14 = .ok (.ireturn, 1) := dk_172 (dk_at dksX0_byReserve_0 14 rfl rfl)
theorem dX0_byReserve_15 : decode cX0_byReserve 15 = .ok (.iconst 0, 1) := dk_3 (dk_at dksX0_byReserve_0 15 rfl rfl)
theorem dX0_byReserve_16 : decode cX0_byReserve 16 = .ok (.ireturn, 1) := dk_172 (dk_at dksX0_byReserve_0 16 rfl rfl)
abbrev cX0_declare : ByteArray := method_26_code
def yX0_declare : MethodName := ⟨RX0, "declare", "(LLifeoffice;I[J)I"⟩
def dkwX0_declare_0 : List UInt8 := [44, 3, 42, 27, 182, 0, 94, 80, 167, 0, 9, 78, 4, 172, 78, 5, 172, 3, 172]
abbrev dktX0_declare_0 : List UInt8 := dkwX0_declare_0 ++ []
theorem dksX0_declare_0 : cX0_declare.data.toList.drop 0 = dktX0_declare_0 := by decide +kernel
theorem dX0_declare_0 : decode cX0_declare 0 = .ok (.aload_n 2, 1) := dk_44 (dk_at dksX0_declare_0 0 rfl rfl)
theorem dX0_declare_1 : decode cX0_declare 1 = .ok (.iconst 0, 1) := dk_3 (dk_at dksX0_declare_0 1 rfl rfl)
theorem dX0_declare_2 : decode cX0_declare 2 = .ok (.aload_n 0, 1) := dk_42 (dk_at dksX0_declare_0 2 rfl rfl)
theorem dX0_declare_3 : decode cX0_declare 3 = .ok (.iload_n 1, 1) := dk_27 (dk_at dksX0_declare_0 3 rfl rfl)
theorem dX0_declare_4 : decode cX0_declare 4 = .ok (.invokevirtual 94, 3) := dk_182 0 94 (dk_at dksX0_declare_0 4 rfl rfl)
theorem dX0_declare_7 : decode cX0_declare 7 = .ok (.lastore, 1) := dk_80 (dk_at dksX0_declare_0 7 rfl rfl)
theorem dX0_declare_8 : decode cX0_declare 8 = .ok (.goto 9, 3) := dk_167 0 9 (dk_at dksX0_declare_0 8 rfl rfl)
theorem dX0_declare_11 : decode cX0_declare 11 = .ok (.astore_n 3, 1) := dk_78 (dk_at dksX0_declare_0 11 rfl rfl)
theorem dX0_declare_12 : decode cX0_declare 12 = .ok (.iconst 1, 1) := dk_4 (dk_at dksX0_declare_0 12 rfl rfl)
theorem dX0_declare_13 : decode cX0_declare 13 = .ok (.ireturn, 1) := dk_172 (dk_at dksX0_declare_0 13 rfl rfl)
theorem dX0_declare_14 : decode cX0_declare 14 = .ok (.astore_n 3, 1) := dk_78 (dk_at dksX0_declare_0 14 rfl rfl)
theorem dX0_declare_15 : decode cX0_declare 15 = .ok (.iconst 2, 1) := dk_5 (dk_at dksX0_declare_0 15 rfl rfl)
theorem dX0_declare_16 : decode cX0_declare 16 = .ok (.ireturn, 1) := dk_172 (dk_at dksX0_declare_0 16 rfl rfl)
theorem dX0_declare_17 : decode cX0_declare 17 = .ok (.iconst 0, 1) := dk_3 (dk_at dksX0_declare_0 17 rfl rfl)
theorem dX0_declare_18 : decode cX0_declare 18 = .ok (.ireturn, 1) := dk_172 (dk_at dksX0_declare_0 18 rfl rfl)
abbrev cX0_setSmoothing : ByteArray := method_27_code
def yX0_setSmoothing : MethodName := ⟨RX0, "setSmoothing", "(LLifeoffice;I[J)I"⟩
def dkwX0_setSmoothing_0 : List UInt8 := [44, 3, 42, 27, 182, 0, 97, 133, 80, 167, 0, 6, 78, 4, 172, 3, 172]
abbrev dktX0_setSmoothing_0 : List UInt8 := dkwX0_setSmoothing_0 ++ []
theorem dksX0_setSmoothing_0 : cX0_setSmoothing.data.toList.drop 0 = dktX0_setSmoothing_0 := by decide +kernel
theorem dX0_setSmoothing_0 : decode cX0_setSmoothing 0 = .ok (.aload_n 2, 1) := dk_44 (dk_at dksX0_setSmoothing_0 0 rfl rfl)
theorem dX0_setSmoothing_1 : decode cX0_setSmoothing 1 = .ok (.iconst 0, 1) := dk_3 (dk_at dksX0_setSmoothing_0 1 rfl rfl)
theorem dX0_setSmoothing_2 : decode cX0_setSmoothing 2 = .ok (.aload_n 0, 1) := dk_42 (dk_at dksX0_setSmoothing_0 2 rfl rfl)
theorem dX0_setSmoothing_3 : decode cX0_setSmoothing 3 = .ok (.iload_n 1, 1) := dk_27 (dk_at dksX0_setSmoothing_0 3 rfl rfl)
theorem dX0_setSmoothing_4 : decode cX0_setSmoothing 4 = .ok (.invokevirtual 97, 3) := dk_182 0 97 (dk_at dksX0_setSmoothing_0 4 rfl rfl)
theorem dX0_setSmoothing_7 : decode cX0_setSmoothing 7 = .ok (.i2l, 1) := dk_133 (dk_at dksX0_setSmoothing_0 7 rfl rfl)
theorem dX0_setSmoothing_8 : decode cX0_setSmoothing 8 = .ok (.lastore, 1) := dk_80 (dk_at dksX0_setSmoothing_0 8 rfl rfl)
theorem dX0_setSmoothing_9 : decode cX0_setSmoothing 9 = .ok (.goto 6, 3) := dk_167 0 6 (dk_at dksX0_setSmoothing_0 9 rfl rfl)
theorem dX0_setSmoothing_12 : decode cX0_setSmoothing 12 = .ok (.astore_n 3, 1) := dk_78 (dk_at dksX0_setSmoothing_0 12 rfl rfl)
theorem dX0_setSmoothing_13 : decode cX0_setSmoothing 13 = .ok (.iconst 1, 1) := dk_4 (dk_at dksX0_setSmoothing_0 13 rfl rfl)
theorem dX0_setSmoothing_14 : decode cX0_setSmoothing 14 = .ok (.ireturn, 1) := dk_172 (dk_at dksX0_setSmoothing_0 14 rfl rfl)
theorem dX0_setSmoothing_15 : decode cX0_setSmoothing 15 = .ok (.iconst 0, 1) := dk_3 (dk_at dksX0_setSmoothing_0 15 rfl rfl)
theorem dX0_setSmoothing_16 : decode cX0_setSmoothing 16 = .ok (.ireturn, 1) := dk_172 (dk_at dksX0_setSmoothing_0 16 rfl rfl)
abbrev cX0_setFinal : ByteArray := method_28_code
def yX0_setFinal : MethodName := ⟨RX0, "setFinal", "(LLifeoffice;I[J)I"⟩
def dkwX0_setFinal_0 : List UInt8 := [44, 3, 42, 27, 182, 0, 100, 133, 80, 167, 0, 9, 78, 4, 172, 78, 5, 172, 3, 172]
abbrev dktX0_setFinal_0 : List UInt8 := dkwX0_setFinal_0 ++ []
theorem dksX0_setFinal_0 : cX0_setFinal.data.toList.drop 0 = dktX0_setFinal_0 := by decide +kernel
theorem dX0_setFinal_0 : decode cX0_setFinal 0 = .ok (.aload_n 2, 1) := dk_44 (dk_at dksX0_setFinal_0 0 rfl rfl)
theorem dX0_setFinal_1 : decode cX0_setFinal 1 = .ok (.iconst 0, 1) := dk_3 (dk_at dksX0_setFinal_0 1 rfl rfl)
theorem dX0_setFinal_2 : decode cX0_setFinal 2 = .ok (.aload_n 0, 1) := dk_42 (dk_at dksX0_setFinal_0 2 rfl rfl)
theorem dX0_setFinal_3 : decode cX0_setFinal 3 = .ok (.iload_n 1, 1) := dk_27 (dk_at dksX0_setFinal_0 3 rfl rfl)
theorem dX0_setFinal_4 : decode cX0_setFinal 4 = .ok (.invokevirtual 100, 3) := dk_182 0 100 (dk_at dksX0_setFinal_0 4 rfl rfl)
theorem dX0_setFinal_7 : decode cX0_setFinal 7 = .ok (.i2l, 1) := dk_133 (dk_at dksX0_setFinal_0 7 rfl rfl)
theorem dX0_setFinal_8 : decode cX0_setFinal 8 = .ok (.lastore, 1) := dk_80 (dk_at dksX0_setFinal_0 8 rfl rfl)
theorem dX0_setFinal_9 : decode cX0_setFinal 9 = .ok (.goto 9, 3) := dk_167 0 9 (dk_at dksX0_setFinal_0 9 rfl rfl)
theorem dX0_setFinal_12 : decode cX0_setFinal 12 = .ok (.astore_n 3, 1) := dk_78 (dk_at dksX0_setFinal_0 12 rfl rfl)
theorem dX0_setFinal_13 : decode cX0_setFinal 13 = .ok (.iconst 1, 1) := dk_4 (dk_at dksX0_setFinal_0 13 rfl rfl)
theorem dX0_setFinal_14 : decode cX0_setFinal 14 = .ok (.ireturn, 1) := dk_172 (dk_at dksX0_setFinal_0 14 rfl rfl)
theorem dX0_setFinal_15 : decode cX0_setFinal 15 = .ok (.astore_n 3, 1) := dk_78 (dk_at dksX0_setFinal_0 15 rfl rfl)
theorem dX0_setFinal_16 : decode cX0_setFinal 16 = .ok (.iconst 2, 1) := dk_5 (dk_at dksX0_setFinal_0 16 rfl rfl)
theorem dX0_setFinal_17 : decode cX0_setFinal 17 = .ok (.ireturn, 1) := dk_172 (dk_at dksX0_setFinal_0 17 rfl rfl)
theorem dX0_setFinal_18 : decode cX0_setFinal 18 = .ok (.iconst 0, 1) := dk_3 (dk_at dksX0_setFinal_0 18 rfl rfl)
theorem dX0_setFinal_19 : decode cX0_setFinal 19 = .ok (.ireturn, 1) := dk_172 (dk_at dksX0_setFinal_0 19 rfl rfl)
abbrev cX0_buyBond : ByteArray := method_29_code
def yX0_buyBond : MethodName := ⟨RX0, "buyBond", "(LLifeoffice;III[J)I"⟩
def dkwX0_buyBond_1 : List UInt8 := [172]
abbrev dktX0_buyBond_1 : List UInt8 := dkwX0_buyBond_1 ++ []
def dkwX0_buyBond_0 : List UInt8 := [25, 4, 3, 42, 27, 28, 29, 182, 0, 103, 133, 80, 167, 0, 11, 58, 5, 4, 172, 58, 5, 5, 172, 3]
abbrev dktX0_buyBond_0 : List UInt8 := dkwX0_buyBond_0 ++ dktX0_buyBond_1
theorem dksX0_buyBond_0 : cX0_buyBond.data.toList.drop 0 = dktX0_buyBond_0 := by decide +kernel
theorem dksX0_buyBond_1 : cX0_buyBond.data.toList.drop 24 = dktX0_buyBond_1 := dk_seg dksX0_buyBond_0 24 rfl rfl
theorem dX0_buyBond_0 : decode cX0_buyBond 0 = .ok (.aload 4, 2) := dk_25 4 (dk_at dksX0_buyBond_0 0 rfl rfl)
theorem dX0_buyBond_2 : decode cX0_buyBond 2 = .ok (.iconst 0, 1) := dk_3 (dk_at dksX0_buyBond_0 2 rfl rfl)
theorem dX0_buyBond_3 : decode cX0_buyBond 3 = .ok (.aload_n 0, 1) := dk_42 (dk_at dksX0_buyBond_0 3 rfl rfl)
theorem dX0_buyBond_4 : decode cX0_buyBond 4 = .ok (.iload_n 1, 1) := dk_27 (dk_at dksX0_buyBond_0 4 rfl rfl)
theorem dX0_buyBond_5 : decode cX0_buyBond 5 = .ok (.iload_n 2, 1) := dk_28 (dk_at dksX0_buyBond_0 5 rfl rfl)
theorem dX0_buyBond_6 : decode cX0_buyBond 6 = .ok (.iload_n 3, 1) := dk_29 (dk_at dksX0_buyBond_0 6 rfl rfl)
theorem dX0_buyBond_7 : decode cX0_buyBond 7 = .ok (.invokevirtual 103, 3) := dk_182 0 103 (dk_at dksX0_buyBond_0 7 rfl rfl)
theorem dX0_buyBond_10 : decode cX0_buyBond 10 = .ok (.i2l, 1) := dk_133 (dk_at dksX0_buyBond_0 10 rfl rfl)
theorem dX0_buyBond_11 : decode cX0_buyBond 11 = .ok (.lastore, 1) := dk_80 (dk_at dksX0_buyBond_0 11 rfl rfl)
theorem dX0_buyBond_12 : decode cX0_buyBond 12 = .ok (.goto 11, 3) := dk_167 0 11 (dk_at dksX0_buyBond_0 12 rfl rfl)
theorem dX0_buyBond_15 : decode cX0_buyBond 15 = .ok (.astore 5, 2) := dk_58 5 (dk_at dksX0_buyBond_0 15 rfl rfl)
theorem dX0_buyBond_17 : decode cX0_buyBond 17 = .ok (.iconst 1, 1) := dk_4 (dk_at dksX0_buyBond_0 17 rfl rfl)
theorem dX0_buyBond_18 : decode cX0_buyBond 18 = .ok (.ireturn, 1) := dk_172 (dk_at dksX0_buyBond_0 18 rfl rfl)
theorem dX0_buyBond_19 : decode cX0_buyBond 19 = .ok (.astore 5, 2) := dk_58 5 (dk_at dksX0_buyBond_0 19 rfl rfl)
theorem dX0_buyBond_21 : decode cX0_buyBond 21 = .ok (.iconst 2, 1) := dk_5 (dk_at dksX0_buyBond_0 21 rfl rfl)
theorem dX0_buyBond_22 : decode cX0_buyBond 22 = .ok (.ireturn, 1) := dk_172 (dk_at dksX0_buyBond_0 22 rfl rfl)
theorem dX0_buyBond_23 : decode cX0_buyBond 23 = .ok (.iconst 0, 1) := dk_3 (dk_at dksX0_buyBond_0 23 rfl rfl)
theorem dX0_buyBond_24 : decode cX0_buyBond 24 = .ok (.ireturn, 1) := dk_172 (dk_at dksX0_buyBond_1 0 rfl rfl)
abbrev cX0_bondAt : ByteArray := method_30_code
def yX0_bondAt : MethodName := ⟨RX0, "bondAt", "(LLifeoffice;II[J)I"⟩
def dkwX0_bondAt_0 : List UInt8 := [45, 3, 42, 27, 28, 182, 0, 107, 133, 80, 167, 0, 11, 58, 4, 4, 172, 58, 4, 5, 172, 3, 172]
abbrev dktX0_bondAt_0 : List UInt8 := dkwX0_bondAt_0 ++ []
theorem dksX0_bondAt_0 : cX0_bondAt.data.toList.drop 0 = dktX0_bondAt_0 := by decide +kernel
theorem dX0_bondAt_0 : decode cX0_bondAt 0 = .ok (.aload_n 3, 1) := dk_45 (dk_at dksX0_bondAt_0 0 rfl rfl)
theorem dX0_bondAt_1 : decode cX0_bondAt 1 = .ok (.iconst 0, 1) := dk_3 (dk_at dksX0_bondAt_0 1 rfl rfl)
theorem dX0_bondAt_2 : decode cX0_bondAt 2 = .ok (.aload_n 0, 1) := dk_42 (dk_at dksX0_bondAt_0 2 rfl rfl)
theorem dX0_bondAt_3 : decode cX0_bondAt 3 = .ok (.iload_n 1, 1) := dk_27 (dk_at dksX0_bondAt_0 3 rfl rfl)
theorem dX0_bondAt_4 : decode cX0_bondAt 4 = .ok (.iload_n 2, 1) := dk_28 (dk_at dksX0_bondAt_0 4 rfl rfl)
theorem dX0_bondAt_5 : decode cX0_bondAt 5 = .ok (.invokevirtual 107, 3) := dk_182 0 107 (dk_at dksX0_bondAt_0 5 rfl rfl)
theorem dX0_bondAt_8 : decode cX0_bondAt 8 = .ok (.i2l, 1) := dk_133 (dk_at dksX0_bondAt_0 8 rfl rfl)
theorem dX0_bondAt_9 : decode cX0_bondAt 9 = .ok (.lastore, 1) := dk_80 (dk_at dksX0_bondAt_0 9 rfl rfl)
theorem dX0_bondAt_10 : decode cX0_bondAt 10 = .ok (.goto 11, 3) := dk_167 0 11 (dk_at dksX0_bondAt_0 10 rfl rfl)
theorem dX0_bondAt_13 : decode cX0_bondAt 13 = .ok (.astore 4, 2) := dk_58 4 (dk_at dksX0_bondAt_0 13 rfl rfl)
theorem dX0_bondAt_15 : decode cX0_bondAt 15 = .ok (.iconst 1, 1) := dk_4 (dk_at dksX0_bondAt_0 15 rfl rfl)
theorem dX0_bondAt_16 : decode cX0_bondAt 16 = .ok (.ireturn, 1) := dk_172 (dk_at dksX0_bondAt_0 16 rfl rfl)
theorem dX0_bondAt_17 : decode cX0_bondAt 17 = .ok (.astore 4, 2) := dk_58 4 (dk_at dksX0_bondAt_0 17 rfl rfl)
theorem dX0_bondAt_19 : decode cX0_bondAt 19 = .ok (.iconst 2, 1) := dk_5 (dk_at dksX0_bondAt_0 19 rfl rfl)
theorem dX0_bondAt_20 : decode cX0_bondAt 20 = .ok (.ireturn, 1) := dk_172 (dk_at dksX0_bondAt_0 20 rfl rfl)
theorem dX0_bondAt_21 : decode cX0_bondAt 21 = .ok (.iconst 0, 1) := dk_3 (dk_at dksX0_bondAt_0 21 rfl rfl)
theorem dX0_bondAt_22 : decode cX0_bondAt 22 = .ok (.ireturn, 1) := dk_172 (dk_at dksX0_bondAt_0 22 rfl rfl)
abbrev cX0_defaults : ByteArray := method_31_code
def yX0_defaults : MethodName := ⟨RX0, "defaults", "(LLifeoffice;II[J)I"⟩
def dkwX0_defaults_0 : List UInt8 := [45, 3, 42, 27, 28, 182, 0, 110, 133, 80, 167, 0, 11, 58, 4, 4, 172, 58, 4, 5, 172, 3, 172]
abbrev dktX0_defaults_0 : List UInt8 := dkwX0_defaults_0 ++ []
theorem dksX0_defaults_0 : cX0_defaults.data.toList.drop 0 = dktX0_defaults_0 := by decide +kernel
theorem dX0_defaults_0 : decode cX0_defaults 0 = .ok (.aload_n 3, 1) := dk_45 (dk_at dksX0_defaults_0 0 rfl rfl)
theorem dX0_defaults_1 : decode cX0_defaults 1 = .ok (.iconst 0, 1) := dk_3 (dk_at dksX0_defaults_0 1 rfl rfl)
theorem dX0_defaults_2 : decode cX0_defaults 2 = .ok (.aload_n 0, 1) := dk_42 (dk_at dksX0_defaults_0 2 rfl rfl)
theorem dX0_defaults_3 : decode cX0_defaults 3 = .ok (.iload_n 1, 1) := dk_27 (dk_at dksX0_defaults_0 3 rfl rfl)
theorem dX0_defaults_4 : decode cX0_defaults 4 = .ok (.iload_n 2, 1) := dk_28 (dk_at dksX0_defaults_0 4 rfl rfl)
theorem dX0_defaults_5 : decode cX0_defaults 5 = .ok (.invokevirtual 110, 3) := dk_182 0 110 (dk_at dksX0_defaults_0 5 rfl rfl)
theorem dX0_defaults_8 : decode cX0_defaults 8 = .ok (.i2l, 1) := dk_133 (dk_at dksX0_defaults_0 8 rfl rfl)
theorem dX0_defaults_9 : decode cX0_defaults 9 = .ok (.lastore, 1) := dk_80 (dk_at dksX0_defaults_0 9 rfl rfl)
theorem dX0_defaults_10 : decode cX0_defaults 10 = .ok (.goto 11, 3) := dk_167 0 11 (dk_at dksX0_defaults_0 10 rfl rfl)
theorem dX0_defaults_13 : decode cX0_defaults 13 = .ok (.astore 4, 2) := dk_58 4 (dk_at dksX0_defaults_0 13 rfl rfl)
theorem dX0_defaults_15 : decode cX0_defaults 15 = .ok (.iconst 1, 1) := dk_4 (dk_at dksX0_defaults_0 15 rfl rfl)
theorem dX0_defaults_16 : decode cX0_defaults 16 = .ok (.ireturn, 1) := dk_172 (dk_at dksX0_defaults_0 16 rfl rfl)
theorem dX0_defaults_17 : decode cX0_defaults 17 = .ok (.astore 4, 2) := dk_58 4 (dk_at dksX0_defaults_0 17 rfl rfl)
theorem dX0_defaults_19 : decode cX0_defaults 19 = .ok (.iconst 2, 1) := dk_5 (dk_at dksX0_defaults_0 19 rfl rfl)
theorem dX0_defaults_20 : decode cX0_defaults 20 = .ok (.ireturn, 1) := dk_172 (dk_at dksX0_defaults_0 20 rfl rfl)
theorem dX0_defaults_21 : decode cX0_defaults 21 = .ok (.iconst 0, 1) := dk_3 (dk_at dksX0_defaults_0 21 rfl rfl)
theorem dX0_defaults_22 : decode cX0_defaults 22 = .ok (.ireturn, 1) := dk_172 (dk_at dksX0_defaults_0 22 rfl rfl)
abbrev cX0_setReinsurance : ByteArray := method_32_code
def yX0_setReinsurance : MethodName := ⟨RX0, "setReinsurance", "(LLifeoffice;II[J)I"⟩
def dkwX0_setReinsurance_0 : List UInt8 := [45, 3, 42, 27, 28, 182, 0, 113, 133, 80, 167, 0, 7, 58, 4, 4, 172, 3, 172]
abbrev dktX0_setReinsurance_0 : List UInt8 := dkwX0_setReinsurance_0 ++ []
theorem dksX0_setReinsurance_0 : cX0_setReinsurance.data.toList.drop 0 = dktX0_setReinsurance_0 := by decide +kernel
theorem dX0_setReinsurance_0 : decode cX0_setReinsurance 0 = .ok (.aload_n 3, 1) := dk_45 (dk_at dksX0_setReinsurance_0 0 rfl rfl)
theorem dX0_setReinsurance_1 : decode cX0_setReinsurance 1 = .ok (.iconst 0, 1) := dk_3 (dk_at dksX0_setReinsurance_0 1 rfl rfl)
theorem dX0_setReinsurance_2 : decode cX0_setReinsurance 2 = .ok (.aload_n 0, 1) := dk_42 (dk_at dksX0_setReinsurance_0 2 rfl rfl)
theorem dX0_setReinsurance_3 : decode cX0_setReinsurance 3 = .ok (.iload_n 1, 1) := dk_27 (dk_at dksX0_setReinsurance_0 3 rfl rfl)
theorem dX0_setReinsurance_4 : decode cX0_setReinsurance 4 = .ok (.iload_n 2, 1) := dk_28 (dk_at dksX0_setReinsurance_0 4 rfl rfl)
theorem dX0_setReinsurance_5 : decode cX0_setReinsurance 5 = .ok (.invokevirtual 113, 3) := dk_182 0 113 (dk_at dksX0_setReinsurance_0 5 rfl rfl)
theorem dX0_setReinsurance_8 : decode cX0_setReinsurance 8 = .ok (.i2l, 1) := dk_133 (dk_at dksX0_setReinsurance_0 8 rfl rfl)
theorem dX0_setReinsurance_9 : decode cX0_setReinsurance 9 = .ok (.lastore, 1) := dk_80 (dk_at dksX0_setReinsurance_0 9 rfl rfl)
theorem dX0_setReinsurance_10 : decode cX0_setReinsurance 10 = .ok (.goto 7, 3) := dk_167 0 7 (dk_at dksX0_setReinsurance_0 10 rfl rfl)
theorem dX0_setReinsurance_13 : decode cX0_setReinsurance 13 = .ok (.astore 4, 2) := dk_58 4 (dk_at dksX0_setReinsurance_0 13 rfl rfl)
theorem dX0_setReinsurance_15 : decode cX0_setReinsurance 15 = .ok (.iconst 1, 1) := dk_4 (dk_at dksX0_setReinsurance_0 15 rfl rfl)
theorem dX0_setReinsurance_16 : decode cX0_setReinsurance 16 = .ok (.ireturn, 1) := dk_172 (dk_at dksX0_setReinsurance_0 16 rfl rfl)
theorem dX0_setReinsurance_17 : decode cX0_setReinsurance 17 = .ok (.iconst 0, 1) := dk_3 (dk_at dksX0_setReinsurance_0 17 rfl rfl)
theorem dX0_setReinsurance_18 : decode cX0_setReinsurance 18 = .ok (.ireturn, 1) := dk_172 (dk_at dksX0_setReinsurance_0 18 rfl rfl)
abbrev cX0_closeYear : ByteArray := method_33_code
def yX0_closeYear : MethodName := ⟨RX0, "closeYear", "(LLifeoffice;II[J)I"⟩
def dkwX0_closeYear_0 : List UInt8 := [45, 3, 42, 27, 28, 182, 0, 116, 80, 167, 0, 11, 58, 4, 4, 172, 58, 4, 5, 172, 3, 172]
abbrev dktX0_closeYear_0 : List UInt8 := dkwX0_closeYear_0 ++ []
theorem dksX0_closeYear_0 : cX0_closeYear.data.toList.drop 0 = dktX0_closeYear_0 := by decide +kernel
theorem dX0_closeYear_0 : decode cX0_closeYear 0 = .ok (.aload_n 3, 1) := dk_45 (dk_at dksX0_closeYear_0 0 rfl rfl)
theorem dX0_closeYear_1 : decode cX0_closeYear 1 = .ok (.iconst 0, 1) := dk_3 (dk_at dksX0_closeYear_0 1 rfl rfl)
theorem dX0_closeYear_2 : decode cX0_closeYear 2 = .ok (.aload_n 0, 1) := dk_42 (dk_at dksX0_closeYear_0 2 rfl rfl)
theorem dX0_closeYear_3 : decode cX0_closeYear 3 = .ok (.iload_n 1, 1) := dk_27 (dk_at dksX0_closeYear_0 3 rfl rfl)
theorem dX0_closeYear_4 : decode cX0_closeYear 4 = .ok (.iload_n 2, 1) := dk_28 (dk_at dksX0_closeYear_0 4 rfl rfl)
theorem dX0_closeYear_5 : decode cX0_closeYear 5 = .ok (.invokevirtual 116, 3) := dk_182 0 116 (dk_at dksX0_closeYear_0 5 rfl rfl)
theorem dX0_closeYear_8 : decode cX0_closeYear 8 = .ok (.lastore, 1) := dk_80 (dk_at dksX0_closeYear_0 8 rfl rfl)
theorem dX0_closeYear_9 : decode cX0_closeYear 9 = .ok (.goto 11, 3) := dk_167 0 11 (dk_at dksX0_closeYear_0 9 rfl rfl)
theorem dX0_closeYear_12 : decode cX0_closeYear 12 = .ok (.astore 4, 2) := dk_58 4 (dk_at dksX0_closeYear_0 12 rfl rfl)
theorem dX0_closeYear_14 : decode cX0_closeYear 14 = .ok (.iconst 1, 1) := dk_4 (dk_at dksX0_closeYear_0 14 rfl rfl)
theorem dX0_closeYear_15 : decode cX0_closeYear 15 = .ok (.ireturn, 1) := dk_172 (dk_at dksX0_closeYear_0 15 rfl rfl)
theorem dX0_closeYear_16 : decode cX0_closeYear 16 = .ok (.astore 4, 2) := dk_58 4 (dk_at dksX0_closeYear_0 16 rfl rfl)
theorem dX0_closeYear_18 : decode cX0_closeYear 18 = .ok (.iconst 2, 1) := dk_5 (dk_at dksX0_closeYear_0 18 rfl rfl)
theorem dX0_closeYear_19 : decode cX0_closeYear 19 = .ok (.ireturn, 1) := dk_172 (dk_at dksX0_closeYear_0 19 rfl rfl)
theorem dX0_closeYear_20 : decode cX0_closeYear 20 = .ok (.iconst 0, 1) := dk_3 (dk_at dksX0_closeYear_0 20 rfl rfl)
theorem dX0_closeYear_21 : decode cX0_closeYear 21 = .ok (.ireturn, 1) := dk_172 (dk_at dksX0_closeYear_0 21 rfl rfl)
abbrev cX0_surplus : ByteArray := method_34_code
def yX0_surplus : MethodName := ⟨RX0, "surplus", "(LLifeoffice;I[J)I"⟩
def dkwX0_surplus_0 : List UInt8 := [44, 3, 42, 27, 182, 0, 119, 80, 167, 0, 6, 78, 4, 172, 3, 172]
abbrev dktX0_surplus_0 : List UInt8 := dkwX0_surplus_0 ++ []
theorem dksX0_surplus_0 : cX0_surplus.data.toList.drop 0 = dktX0_surplus_0 := by decide +kernel
theorem dX0_surplus_0 : decode cX0_surplus 0 = .ok (.aload_n 2, 1) := dk_44 (dk_at dksX0_surplus_0 0 rfl rfl)
theorem dX0_surplus_1 : decode cX0_surplus 1 = .ok (.iconst 0, 1) := dk_3 (dk_at dksX0_surplus_0 1 rfl rfl)
theorem dX0_surplus_2 : decode cX0_surplus 2 = .ok (.aload_n 0, 1) := dk_42 (dk_at dksX0_surplus_0 2 rfl rfl)
theorem dX0_surplus_3 : decode cX0_surplus 3 = .ok (.iload_n 1, 1) := dk_27 (dk_at dksX0_surplus_0 3 rfl rfl)
theorem dX0_surplus_4 : decode cX0_surplus 4 = .ok (.invokevirtual 119, 3) := dk_182 0 119 (dk_at dksX0_surplus_0 4 rfl rfl)
theorem dX0_surplus_7 : decode cX0_surplus 7 = .ok (.lastore, 1) := dk_80 (dk_at dksX0_surplus_0 7 rfl rfl)
theorem dX0_surplus_8 : decode cX0_surplus 8 = .ok (.goto 6, 3) := dk_167 0 6 (dk_at dksX0_surplus_0 8 rfl rfl)
theorem dX0_surplus_11 : decode cX0_surplus 11 = .ok (.astore_n 3, 1) := dk_78 (dk_at dksX0_surplus_0 11 rfl rfl)
theorem dX0_surplus_12 : decode cX0_surplus 12 = .ok (.iconst 1, 1) := dk_4 (dk_at dksX0_surplus_0 12 rfl rfl)
theorem dX0_surplus_13 : decode cX0_surplus 13 = .ok (.ireturn, 1) := dk_172 (dk_at dksX0_surplus_0 13 rfl rfl)
theorem dX0_surplus_14 : decode cX0_surplus 14 = .ok (.iconst 0, 1) := dk_3 (dk_at dksX0_surplus_0 14 rfl rfl)
theorem dX0_surplus_15 : decode cX0_surplus 15 = .ok (.ireturn, 1) := dk_172 (dk_at dksX0_surplus_0 15 rfl rfl)
abbrev cX0_experience : ByteArray := method_35_code
def yX0_experience : MethodName := ⟨RX0, "experience", "(LLifeoffice;I[J)I"⟩
def dkwX0_experience_0 : List UInt8 := [44, 3, 42, 27, 182, 0, 122, 80, 167, 0, 6, 78, 4, 172, 3, 172]
abbrev dktX0_experience_0 : List UInt8 := dkwX0_experience_0 ++ []
theorem dksX0_experience_0 : cX0_experience.data.toList.drop 0 = dktX0_experience_0 := by decide +kernel
theorem dX0_experience_0 : decode cX0_experience 0 = .ok (.aload_n 2, 1) := dk_44 (dk_at dksX0_experience_0 0 rfl rfl)
theorem dX0_experience_1 : decode cX0_experience 1 = .ok (.iconst 0, 1) := dk_3 (dk_at dksX0_experience_0 1 rfl rfl)
theorem dX0_experience_2 : decode cX0_experience 2 = .ok (.aload_n 0, 1) := dk_42 (dk_at dksX0_experience_0 2 rfl rfl)
theorem dX0_experience_3 : decode cX0_experience 3 = .ok (.iload_n 1, 1) := dk_27 (dk_at dksX0_experience_0 3 rfl rfl)
theorem dX0_experience_4 : decode cX0_experience 4 = .ok (.invokevirtual 122, 3) := dk_182 0 122 (dk_at dksX0_experience_0 4 rfl rfl)
theorem dX0_experience_7 : decode cX0_experience 7 = .ok (.lastore, 1) := dk_80 (dk_at dksX0_experience_0 7 rfl rfl)
theorem dX0_experience_8 : decode cX0_experience 8 = .ok (.goto 6, 3) := dk_167 0 6 (dk_at dksX0_experience_0 8 rfl rfl)
theorem dX0_experience_11 : decode cX0_experience 11 = .ok (.astore_n 3, 1) := dk_78 (dk_at dksX0_experience_0 11 rfl rfl)
theorem dX0_experience_12 : decode cX0_experience 12 = .ok (.iconst 1, 1) := dk_4 (dk_at dksX0_experience_0 12 rfl rfl)
theorem dX0_experience_13 : decode cX0_experience 13 = .ok (.ireturn, 1) := dk_172 (dk_at dksX0_experience_0 13 rfl rfl)
theorem dX0_experience_14 : decode cX0_experience 14 = .ok (.iconst 0, 1) := dk_3 (dk_at dksX0_experience_0 14 rfl rfl)
theorem dX0_experience_15 : decode cX0_experience 15 = .ok (.ireturn, 1) := dk_172 (dk_at dksX0_experience_0 15 rfl rfl)
abbrev cX0_expectedPayments : ByteArray := method_36_code
def yX0_expectedPayments : MethodName := ⟨RX0, "expectedPayments", "(LLifeoffice;I[J)I"⟩
def dkwX0_expectedPayments_0 : List UInt8 := [44, 3, 42, 27, 182, 0, 125, 80, 167, 0, 6, 78, 4, 172, 3, 172]
abbrev dktX0_expectedPayments_0 : List UInt8 := dkwX0_expectedPayments_0 ++ []
theorem dksX0_expectedPayments_0 : cX0_expectedPayments.data.toList.drop 0 = dktX0_expectedPayments_0 := by decide +kernel
theorem dX0_expectedPayments_0 : decode cX0_expectedPayments 0 = .ok (.aload_n 2, 1) := dk_44 (dk_at dksX0_expectedPayments_0 0 rfl rfl)
theorem dX0_expectedPayments_1 : decode cX0_expectedPayments 1 = .ok (.iconst 0, 1) := dk_3 (dk_at dksX0_expectedPayments_0 1 rfl rfl)
theorem dX0_expectedPayments_2 : decode cX0_expectedPayments 2 = .ok (.aload_n 0, 1) := dk_42 (dk_at dksX0_expectedPayments_0 2 rfl rfl)
theorem dX0_expectedPayments_3 : decode cX0_expectedPayments 3 = .ok (.iload_n 1, 1) := dk_27 (dk_at dksX0_expectedPayments_0 3 rfl rfl)
theorem dX0_expectedPayments_4 : decode cX0_expectedPayments 4 = .ok (.invokevirtual 125, 3) := dk_182 0 125 (dk_at dksX0_expectedPayments_0 4 rfl rfl)
theorem dX0_expectedPayments_7 : decode cX0_expectedPayments 7 = .ok (.lastore, 1) := dk_80 (dk_at dksX0_expectedPayments_0 7 rfl rfl)
theorem dX0_expectedPayments_8 : decode cX0_expectedPayments 8 = .ok (.goto 6, 3) := dk_167 0 6 (dk_at dksX0_expectedPayments_0 8 rfl rfl)
theorem dX0_expectedPayments_11 : decode cX0_expectedPayments 11 = .ok (.astore_n 3, 1) := dk_78 (dk_at dksX0_expectedPayments_0 11 rfl rfl)
theorem dX0_expectedPayments_12 : decode cX0_expectedPayments 12 = .ok (.iconst 1, 1) := dk_4 (dk_at dksX0_expectedPayments_0 12 rfl rfl)
theorem dX0_expectedPayments_13 : decode cX0_expectedPayments 13 = .ok (.ireturn, 1) := dk_172 (dk_at dksX0_expectedPayments_0 13 rfl rfl)
theorem dX0_expectedPayments_14 : decode cX0_expectedPayments 14 = .ok (.iconst 0, 1) := dk_3 (dk_at dksX0_expectedPayments_0 14 rfl rfl)
theorem dX0_expectedPayments_15 : decode cX0_expectedPayments 15 = .ok (.ireturn, 1) := dk_172 (dk_at dksX0_expectedPayments_0 15 rfl rfl)
abbrev cX0_bondPayments : ByteArray := method_37_code
def yX0_bondPayments : MethodName := ⟨RX0, "bondPayments", "(LLifeoffice;I[J)I"⟩
def dkwX0_bondPayments_0 : List UInt8 := [44, 3, 42, 27, 182, 0, 128, 80, 167, 0, 6, 78, 4, 172, 3, 172]
abbrev dktX0_bondPayments_0 : List UInt8 := dkwX0_bondPayments_0 ++ []
theorem dksX0_bondPayments_0 : cX0_bondPayments.data.toList.drop 0 = dktX0_bondPayments_0 := by decide +kernel
theorem dX0_bondPayments_0 : decode cX0_bondPayments 0 = .ok (.aload_n 2, 1) := dk_44 (dk_at dksX0_bondPayments_0 0 rfl rfl)
theorem dX0_bondPayments_1 : decode cX0_bondPayments 1 = .ok (.iconst 0, 1) := dk_3 (dk_at dksX0_bondPayments_0 1 rfl rfl)
theorem dX0_bondPayments_2 : decode cX0_bondPayments 2 = .ok (.aload_n 0, 1) := dk_42 (dk_at dksX0_bondPayments_0 2 rfl rfl)
theorem dX0_bondPayments_3 : decode cX0_bondPayments 3 = .ok (.iload_n 1, 1) := dk_27 (dk_at dksX0_bondPayments_0 3 rfl rfl)
theorem dX0_bondPayments_4 : decode cX0_bondPayments 4 = .ok (.invokevirtual 128, 3) := dk_182 0 128 (dk_at dksX0_bondPayments_0 4 rfl rfl)
theorem dX0_bondPayments_7 : decode cX0_bondPayments 7 = .ok (.lastore, 1) := dk_80 (dk_at dksX0_bondPayments_0 7 rfl rfl)
theorem dX0_bondPayments_8 : decode cX0_bondPayments 8 = .ok (.goto 6, 3) := dk_167 0 6 (dk_at dksX0_bondPayments_0 8 rfl rfl)
theorem dX0_bondPayments_11 : decode cX0_bondPayments 11 = .ok (.astore_n 3, 1) := dk_78 (dk_at dksX0_bondPayments_0 11 rfl rfl)
theorem dX0_bondPayments_12 : decode cX0_bondPayments 12 = .ok (.iconst 1, 1) := dk_4 (dk_at dksX0_bondPayments_0 12 rfl rfl)
theorem dX0_bondPayments_13 : decode cX0_bondPayments 13 = .ok (.ireturn, 1) := dk_172 (dk_at dksX0_bondPayments_0 13 rfl rfl)
theorem dX0_bondPayments_14 : decode cX0_bondPayments 14 = .ok (.iconst 0, 1) := dk_3 (dk_at dksX0_bondPayments_0 14 rfl rfl)
theorem dX0_bondPayments_15 : decode cX0_bondPayments 15 = .ok (.ireturn, 1) := dk_172 (dk_at dksX0_bondPayments_0 15 rfl rfl)
abbrev cX0_close : ByteArray := method_38_code
def yX0_close : MethodName := ⟨RX0, "close", "(LLifeoffice;[J)I"⟩
def dkwX0_close_0 : List UInt8 := [43, 3, 42, 182, 0, 131, 133, 80, 167, 0, 6, 77, 4, 172, 3, 172]
abbrev dktX0_close_0 : List UInt8 := dkwX0_close_0 ++ []
theorem dksX0_close_0 : cX0_close.data.toList.drop 0 = dktX0_close_0 := by decide +kernel
theorem dX0_close_0 : decode cX0_close 0 = .ok (.aload_n 1, 1) := dk_43 (dk_at dksX0_close_0 0 rfl rfl)
theorem dX0_close_1 : decode cX0_close 1 = .ok (.iconst 0, 1) := dk_3 (dk_at dksX0_close_0 1 rfl rfl)
theorem dX0_close_2 : decode cX0_close 2 = .ok (.aload_n 0, 1) := dk_42 (dk_at dksX0_close_0 2 rfl rfl)
theorem dX0_close_3 : decode cX0_close 3 = .ok (.invokevirtual 131, 3) := dk_182 0 131 (dk_at dksX0_close_0 3 rfl rfl)
theorem dX0_close_6 : decode cX0_close 6 = .ok (.i2l, 1) := dk_133 (dk_at dksX0_close_0 6 rfl rfl)
theorem dX0_close_7 : decode cX0_close 7 = .ok (.lastore, 1) := dk_80 (dk_at dksX0_close_0 7 rfl rfl)
theorem dX0_close_8 : decode cX0_close 8 = .ok (.goto 6, 3) := dk_167 0 6 (dk_at dksX0_close_0 8 rfl rfl)
theorem dX0_close_11 : decode cX0_close 11 = .ok (.astore_n 2, 1) := dk_77 (dk_at dksX0_close_0 11 rfl rfl)
theorem dX0_close_12 : decode cX0_close 12 = .ok (.iconst 1, 1) := dk_4 (dk_at dksX0_close_0 12 rfl rfl)
theorem dX0_close_13 : decode cX0_close 13 = .ok (.ireturn, 1) := dk_172 (dk_at dksX0_close_0 13 rfl rfl)
theorem dX0_close_14 : decode cX0_close 14 = .ok (.iconst 0, 1) := dk_3 (dk_at dksX0_close_0 14 rfl rfl)
theorem dX0_close_15 : decode cX0_close 15 = .ok (.ireturn, 1) := dk_172 (dk_at dksX0_close_0 15 rfl rfl)
abbrev cX0_distribute : ByteArray := method_39_code
def yX0_distribute : MethodName := ⟨RX0, "distribute", "(LLifeoffice;I[J)I"⟩
def dkwX0_distribute_0 : List UInt8 := [44, 3, 42, 27, 182, 0, 135, 80, 167, 0, 9, 78, 4, 172, 78, 5, 172, 3, 172]
abbrev dktX0_distribute_0 : List UInt8 := dkwX0_distribute_0 ++ []
theorem dksX0_distribute_0 : cX0_distribute.data.toList.drop 0 = dktX0_distribute_0 := by decide +kernel
theorem dX0_distribute_0 : decode cX0_distribute 0 = .ok (.aload_n 2, 1) := dk_44 (dk_at dksX0_distribute_0 0 rfl rfl)
theorem dX0_distribute_1 : decode cX0_distribute 1 = .ok (.iconst 0, 1) := dk_3 (dk_at dksX0_distribute_0 1 rfl rfl)
theorem dX0_distribute_2 : decode cX0_distribute 2 = .ok (.aload_n 0, 1) := dk_42 (dk_at dksX0_distribute_0 2 rfl rfl)
theorem dX0_distribute_3 : decode cX0_distribute 3 = .ok (.iload_n 1, 1) := dk_27 (dk_at dksX0_distribute_0 3 rfl rfl)
theorem dX0_distribute_4 : decode cX0_distribute 4 = .ok (.invokevirtual 135, 3) := dk_182 0 135 (dk_at dksX0_distribute_0 4 rfl rfl)
theorem dX0_distribute_7 : decode cX0_distribute 7 = .ok (.lastore, 1) := dk_80 (dk_at dksX0_distribute_0 7 rfl rfl)
theorem dX0_distribute_8 : decode cX0_distribute 8 = .ok (.goto 9, 3) := dk_167 0 9 (dk_at dksX0_distribute_0 8 rfl rfl)
theorem dX0_distribute_11 : decode cX0_distribute 11 = .ok (.astore_n 3, 1) := dk_78 (dk_at dksX0_distribute_0 11 rfl rfl)
theorem dX0_distribute_12 : decode cX0_distribute 12 = .ok (.iconst 1, 1) := dk_4 (dk_at dksX0_distribute_0 12 rfl rfl)
theorem dX0_distribute_13 : decode cX0_distribute 13 = .ok (.ireturn, 1) := dk_172 (dk_at dksX0_distribute_0 13 rfl rfl)
theorem dX0_distribute_14 : decode cX0_distribute 14 = .ok (.astore_n 3, 1) := dk_78 (dk_at dksX0_distribute_0 14 rfl rfl)
theorem dX0_distribute_15 : decode cX0_distribute 15 = .ok (.iconst 2, 1) := dk_5 (dk_at dksX0_distribute_0 15 rfl rfl)
theorem dX0_distribute_16 : decode cX0_distribute 16 = .ok (.ireturn, 1) := dk_172 (dk_at dksX0_distribute_0 16 rfl rfl)
theorem dX0_distribute_17 : decode cX0_distribute 17 = .ok (.iconst 0, 1) := dk_3 (dk_at dksX0_distribute_0 17 rfl rfl)
theorem dX0_distribute_18 : decode cX0_distribute 18 = .ok (.ireturn, 1) := dk_172 (dk_at dksX0_distribute_0 18 rfl rfl)
abbrev cX0_generation : ByteArray := method_40_code
def yX0_generation : MethodName := ⟨RX0, "generation", "(LLifeoffice;II[J)I"⟩
def dkwX0_generation_0 : List UInt8 := [45, 3, 42, 27, 28, 182, 0, 138, 80, 167, 0, 7, 58, 4, 4, 172, 3, 172]
abbrev dktX0_generation_0 : List UInt8 := dkwX0_generation_0 ++ []
theorem dksX0_generation_0 : cX0_generation.data.toList.drop 0 = dktX0_generation_0 := by decide +kernel
theorem dX0_generation_0 : decode cX0_generation 0 = .ok (.aload_n 3, 1) := dk_45 (dk_at dksX0_generation_0 0 rfl rfl)
theorem dX0_generation_1 : decode cX0_generation 1 = .ok (.iconst 0, 1) := dk_3 (dk_at dksX0_generation_0 1 rfl rfl)
theorem dX0_generation_2 : decode cX0_generation 2 = .ok (.aload_n 0, 1) := dk_42 (dk_at dksX0_generation_0 2 rfl rfl)
theorem dX0_generation_3 : decode cX0_generation 3 = .ok (.iload_n 1, 1) := dk_27 (dk_at dksX0_generation_0 3 rfl rfl)
theorem dX0_generation_4 : decode cX0_generation 4 = .ok (.iload_n 2, 1) := dk_28 (dk_at dksX0_generation_0 4 rfl rfl)
theorem dX0_generation_5 : decode cX0_generation 5 = .ok (.invokevirtual 138, 3) := dk_182 0 138 (dk_at dksX0_generation_0 5 rfl rfl)
theorem dX0_generation_8 : decode cX0_generation 8 = .ok (.lastore, 1) := dk_80 (dk_at dksX0_generation_0 8 rfl rfl)
theorem dX0_generation_9 : decode cX0_generation 9 = .ok (.goto 7, 3) := dk_167 0 7 (dk_at dksX0_generation_0 9 rfl rfl)
theorem dX0_generation_12 : decode cX0_generation 12 = .ok (.astore 4, 2) := dk_58 4 (dk_at dksX0_generation_0 12 rfl rfl)
theorem dX0_generation_14 : decode cX0_generation 14 = .ok (.iconst 1, 1) := dk_4 (dk_at dksX0_generation_0 14 rfl rfl)
theorem dX0_generation_15 : decode cX0_generation 15 = .ok (.ireturn, 1) := dk_172 (dk_at dksX0_generation_0 15 rfl rfl)
theorem dX0_generation_16 : decode cX0_generation 16 = .ok (.iconst 0, 1) := dk_3 (dk_at dksX0_generation_0 16 rfl rfl)
theorem dX0_generation_17 : decode cX0_generation 17 = .ok (.ireturn, 1) := dk_172 (dk_at dksX0_generation_0 17 rfl rfl)
theorem q80 : (Jvm.Cond.initialized "LifeofficeLaw") ∈ lw_all := lw_g (lw_at lw_m1 0 rfl) rfl
theorem q124 : (Jvm.Cond.classLink "LifeofficeLaw" (8 : Nat) "Lifeoffice") ∈ lw_all := lw_g (lw_at lw_m1 44 rfl) rfl
theorem q126 : (Jvm.Cond.methodLink "LifeofficeLaw" (141 : Nat) ({ cls := "Lifeoffice", name := "<init>", desc := "()V" } : Jvm.MethodName)) ∈ lw_all := lw_g (lw_at lw_m1 46 rfl) rfl
theorem q360 : (Jvm.Cond.methodLink "LifeofficeLaw" (154 : Nat) ({ cls := "Lifeoffice", name := "year", desc := "()I" } : Jvm.MethodName)) ∈ lw_all := lw_g (lw_at lw_m2 40 rfl) rfl
theorem q364 : (Jvm.Cond.methodLink "LifeofficeLaw" (183 : Nat) ({ cls := "Lifeoffice", name := "policies", desc := "()I" } : Jvm.MethodName)) ∈ lw_all := lw_g (lw_at lw_m2 44 rfl) rfl
theorem q372 : (Jvm.Cond.methodLink "LifeofficeLaw" (263 : Nat) ({ cls := "Lifeoffice", name := "adopt", desc := "()I" } : Jvm.MethodName)) ∈ lw_all := lw_g (lw_at lw_m2 52 rfl) rfl
theorem q722 : (Jvm.Cond.methodLink "LifeofficeLaw" (273 : Nat) ({ cls := "Lifeoffice", name := "firstShort", desc := "()I" } : Jvm.MethodName)) ∈ lw_all := lw_g (lw_at lw_m3 162 rfl) rfl
theorem q957 : (Jvm.Cond.methodLink "LifeofficeLaw" (287 : Nat) ({ cls := "Lifeoffice", name := "errors", desc := "()I" } : Jvm.MethodName)) ∈ lw_all := lw_g (lw_at lw_m4 157 rfl) rfl
theorem q1031 : (Jvm.Cond.methodLink "LifeofficeLaw" (291 : Nat) ({ cls := "Lifeoffice", name := "cover", desc := "()D" } : Jvm.MethodName)) ∈ lw_all := lw_g (lw_at lw_m4 231 rfl) rfl
theorem q1035 : (Jvm.Cond.methodLink "LifeofficeLaw" (296 : Nat) ({ cls := "Lifeoffice", name := "meanAge", desc := "()F" } : Jvm.MethodName)) ∈ lw_all := lw_g (lw_at lw_m4 235 rfl) rfl
theorem q1040 : (Jvm.Cond.methodLink "LifeofficeLaw" (145 : Nat) ({ cls := "LifeofficeLaw", name := "found", desc := "(LLifeoffice;II[J)I" } : Jvm.MethodName)) ∈ lw_all := lw_g (lw_at lw_m5 0 rfl) rfl
theorem q1041 : (Jvm.Cond.static ({ cls := "LifeofficeLaw", name := "found", desc := "(LLifeoffice;II[J)I" } : Jvm.MethodName)) ∈ lw_all := lw_g (lw_at lw_m5 1 rfl) rfl
theorem q1042 : (Jvm.Cond.codeWith ({ cls := "LifeofficeLaw", name := "found", desc := "(LLifeoffice;II[J)I" } : Jvm.MethodName) method_3_code (5 : Nat) (Option.some Jvm.ClassFile.FieldType.int) [((0 : Nat), (10 : Nat), (13 : Nat), (13 : Nat))]) ∈ lw_all := lw_g (lw_at lw_m5 2 rfl) rfl
theorem q1043 : (Jvm.Cond.classLink "LifeofficeLaw" (13 : Nat) "java/lang/IllegalArgumentException") ∈ lw_all := lw_g (lw_at lw_m5 3 rfl) rfl
theorem q1044 : (Jvm.Cond.methodLink "LifeofficeLaw" (7 : Nat) ({ cls := "Lifeoffice", name := "found", desc := "(II)I" } : Jvm.MethodName)) ∈ lw_all := lw_g (lw_at lw_m5 4 rfl) rfl
theorem q1069 : (Jvm.Cond.methodLink "LifeofficeLaw" (158 : Nat) ({ cls := "LifeofficeLaw", name := "setLaw", desc := "(LLifeoffice;IIIZ[J)I" } : Jvm.MethodName)) ∈ lw_all := lw_g (lw_at lw_m5 29 rfl) rfl
theorem q1070 : (Jvm.Cond.static ({ cls := "LifeofficeLaw", name := "setLaw", desc := "(LLifeoffice;IIIZ[J)I" } : Jvm.MethodName)) ∈ lw_all := lw_g (lw_at lw_m5 30 rfl) rfl
theorem q1071 : (Jvm.Cond.codeWith ({ cls := "LifeofficeLaw", name := "setLaw", desc := "(LLifeoffice;IIIZ[J)I" } : Jvm.MethodName) method_4_code (7 : Nat) (Option.some Jvm.ClassFile.FieldType.int) [((0 : Nat), (13 : Nat), (16 : Nat), (19 : Nat)), ((0 : Nat), (13 : Nat), (20 : Nat), (13 : Nat))]) ∈ lw_all := lw_g (lw_at lw_m5 31 rfl) rfl
theorem q1072 : (Jvm.Cond.classLink "LifeofficeLaw" (19 : Nat) "java/lang/IndexOutOfBoundsException") ∈ lw_all := lw_g (lw_at lw_m5 32 rfl) rfl
theorem q1105 : (Jvm.Cond.methodLink "LifeofficeLaw" (15 : Nat) ({ cls := "Lifeoffice", name := "setLaw", desc := "(IIIZ)J" } : Jvm.MethodName)) ∈ lw_all := lw_g (lw_at lw_m5 65 rfl) rfl
theorem q1132 : (Jvm.Cond.methodLink "LifeofficeLaw" (162 : Nat) ({ cls := "LifeofficeLaw", name := "setImprovement", desc := "(LLifeoffice;I[J)I" } : Jvm.MethodName)) ∈ lw_all := lw_g (lw_at lw_m5 92 rfl) rfl
theorem q1133 : (Jvm.Cond.static ({ cls := "LifeofficeLaw", name := "setImprovement", desc := "(LLifeoffice;I[J)I" } : Jvm.MethodName)) ∈ lw_all := lw_g (lw_at lw_m5 93 rfl) rfl
theorem q1134 : (Jvm.Cond.codeWith ({ cls := "LifeofficeLaw", name := "setImprovement", desc := "(LLifeoffice;I[J)I" } : Jvm.MethodName) method_5_code (4 : Nat) (Option.some Jvm.ClassFile.FieldType.int) [((0 : Nat), (9 : Nat), (12 : Nat), (13 : Nat))]) ∈ lw_all := lw_g (lw_at lw_m5 94 rfl) rfl
theorem q1135 : (Jvm.Cond.methodLink "LifeofficeLaw" (21 : Nat) ({ cls := "Lifeoffice", name := "setImprovement", desc := "(I)I" } : Jvm.MethodName)) ∈ lw_all := lw_g (lw_at lw_m5 95 rfl) rfl
theorem q1140 : (Jvm.Cond.methodLink "LifeofficeLaw" (166 : Nat) ({ cls := "LifeofficeLaw", name := "setLoading", desc := "(LLifeoffice;II[J)I" } : Jvm.MethodName)) ∈ lw_all := lw_g (lw_at lw_m5 100 rfl) rfl
theorem q1141 : (Jvm.Cond.static ({ cls := "LifeofficeLaw", name := "setLoading", desc := "(LLifeoffice;II[J)I" } : Jvm.MethodName)) ∈ lw_all := lw_g (lw_at lw_m5 101 rfl) rfl
theorem q1142 : (Jvm.Cond.codeWith ({ cls := "LifeofficeLaw", name := "setLoading", desc := "(LLifeoffice;II[J)I" } : Jvm.MethodName) method_6_code (5 : Nat) (Option.some Jvm.ClassFile.FieldType.int) [((0 : Nat), (10 : Nat), (13 : Nat), (13 : Nat))]) ∈ lw_all := lw_g (lw_at lw_m5 102 rfl) rfl
theorem q1143 : (Jvm.Cond.methodLink "LifeofficeLaw" (25 : Nat) ({ cls := "Lifeoffice", name := "setLoading", desc := "(II)I" } : Jvm.MethodName)) ∈ lw_all := lw_g (lw_at lw_m5 103 rfl) rfl
theorem q1148 : (Jvm.Cond.methodLink "LifeofficeLaw" (169 : Nat) ({ cls := "LifeofficeLaw", name := "mortality", desc := "(LLifeoffice;IIIII[J)I" } : Jvm.MethodName)) ∈ lw_all := lw_g (lw_at lw_m5 108 rfl) rfl
theorem q1149 : (Jvm.Cond.static ({ cls := "LifeofficeLaw", name := "mortality", desc := "(LLifeoffice;IIIII[J)I" } : Jvm.MethodName)) ∈ lw_all := lw_g (lw_at lw_m5 109 rfl) rfl
theorem q1150 : (Jvm.Cond.codeWith ({ cls := "LifeofficeLaw", name := "mortality", desc := "(LLifeoffice;IIIII[J)I" } : Jvm.MethodName) method_7_code (8 : Nat) (Option.some Jvm.ClassFile.FieldType.int) [((0 : Nat), (16 : Nat), (19 : Nat), (19 : Nat)), ((0 : Nat), (16 : Nat), (23 : Nat), (13 : Nat))]) ∈ lw_all := lw_g (lw_at lw_m5 110 rfl) rfl
theorem q1151 : (Jvm.Cond.methodLink "LifeofficeLaw" (28 : Nat) ({ cls := "Lifeoffice", name := "mortality", desc := "(IIIII)I" } : Jvm.MethodName)) ∈ lw_all := lw_g (lw_at lw_m5 111 rfl) rfl
theorem q1177 : (Jvm.Cond.methodLink "LifeofficeLaw" (173 : Nat) ({ cls := "LifeofficeLaw", name := "money", desc := "(LLifeoffice;I[J)I" } : Jvm.MethodName)) ∈ lw_all := lw_g (lw_at lw_m5 137 rfl) rfl
theorem q1178 : (Jvm.Cond.static ({ cls := "LifeofficeLaw", name := "money", desc := "(LLifeoffice;I[J)I" } : Jvm.MethodName)) ∈ lw_all := lw_g (lw_at lw_m5 138 rfl) rfl
theorem q1179 : (Jvm.Cond.codeWith ({ cls := "LifeofficeLaw", name := "money", desc := "(LLifeoffice;I[J)I" } : Jvm.MethodName) method_8_code (4 : Nat) (Option.some Jvm.ClassFile.FieldType.int) [((0 : Nat), (8 : Nat), (11 : Nat), (13 : Nat))]) ∈ lw_all := lw_g (lw_at lw_m5 139 rfl) rfl
theorem q1180 : (Jvm.Cond.methodLink "LifeofficeLaw" (32 : Nat) ({ cls := "Lifeoffice", name := "money", desc := "(I)J" } : Jvm.MethodName)) ∈ lw_all := lw_g (lw_at lw_m5 140 rfl) rfl
theorem q1185 : (Jvm.Cond.methodLink "LifeofficeLaw" (176 : Nat) ({ cls := "LifeofficeLaw", name := "quote", desc := "(LLifeoffice;IIIIII[J)I" } : Jvm.MethodName)) ∈ lw_all := lw_g (lw_at lw_m5 145 rfl) rfl
theorem q1186 : (Jvm.Cond.static ({ cls := "LifeofficeLaw", name := "quote", desc := "(LLifeoffice;IIIIII[J)I" } : Jvm.MethodName)) ∈ lw_all := lw_g (lw_at lw_m5 146 rfl) rfl
theorem q1187 : (Jvm.Cond.codeWith ({ cls := "LifeofficeLaw", name := "quote", desc := "(LLifeoffice;IIIIII[J)I" } : Jvm.MethodName) method_9_code (9 : Nat) (Option.some Jvm.ClassFile.FieldType.int) [((0 : Nat), (17 : Nat), (20 : Nat), (13 : Nat))]) ∈ lw_all := lw_g (lw_at lw_m5 147 rfl) rfl
theorem q1188 : (Jvm.Cond.methodLink "LifeofficeLaw" (36 : Nat) ({ cls := "Lifeoffice", name := "quote", desc := "(IIIIII)J" } : Jvm.MethodName)) ∈ lw_all := lw_g (lw_at lw_m5 148 rfl) rfl
theorem q1282 : (Jvm.Cond.methodLink "LifeofficeLaw" (180 : Nat) ({ cls := "LifeofficeLaw", name := "issue", desc := "(LLifeoffice;IIIIII[J)I" } : Jvm.MethodName)) ∈ lw_all := lw_g (lw_at lw_m6 2 rfl) rfl
theorem q1283 : (Jvm.Cond.static ({ cls := "LifeofficeLaw", name := "issue", desc := "(LLifeoffice;IIIIII[J)I" } : Jvm.MethodName)) ∈ lw_all := lw_g (lw_at lw_m6 3 rfl) rfl
theorem q1284 : (Jvm.Cond.codeWith ({ cls := "LifeofficeLaw", name := "issue", desc := "(LLifeoffice;IIIIII[J)I" } : Jvm.MethodName) method_10_code (9 : Nat) (Option.some Jvm.ClassFile.FieldType.int) [((0 : Nat), (18 : Nat), (21 : Nat), (13 : Nat)), ((0 : Nat), (18 : Nat), (25 : Nat), (44 : Nat))]) ∈ lw_all := lw_g (lw_at lw_m6 4 rfl) rfl
theorem q1285 : (Jvm.Cond.classLink "LifeofficeLaw" (44 : Nat) "java/lang/IllegalStateException") ∈ lw_all := lw_g (lw_at lw_m6 5 rfl) rfl
theorem q1286 : (Jvm.Cond.methodLink "LifeofficeLaw" (40 : Nat) ({ cls := "Lifeoffice", name := "issue", desc := "(IIIIII)I" } : Jvm.MethodName)) ∈ lw_all := lw_g (lw_at lw_m6 6 rfl) rfl
theorem q1402 : (Jvm.Cond.methodLink "LifeofficeLaw" (187 : Nat) ({ cls := "LifeofficeLaw", name := "stateOf", desc := "(LLifeoffice;I[J)I" } : Jvm.MethodName)) ∈ lw_all := lw_g (lw_at lw_m6 122 rfl) rfl
theorem q1403 : (Jvm.Cond.static ({ cls := "LifeofficeLaw", name := "stateOf", desc := "(LLifeoffice;I[J)I" } : Jvm.MethodName)) ∈ lw_all := lw_g (lw_at lw_m6 123 rfl) rfl
theorem q1404 : (Jvm.Cond.codeWith ({ cls := "LifeofficeLaw", name := "stateOf", desc := "(LLifeoffice;I[J)I" } : Jvm.MethodName) method_11_code (4 : Nat) (Option.some Jvm.ClassFile.FieldType.int) [((0 : Nat), (9 : Nat), (12 : Nat), (19 : Nat))]) ∈ lw_all := lw_g (lw_at lw_m6 124 rfl) rfl
theorem q1405 : (Jvm.Cond.methodLink "LifeofficeLaw" (46 : Nat) ({ cls := "Lifeoffice", name := "stateOf", desc := "(I)I" } : Jvm.MethodName)) ∈ lw_all := lw_g (lw_at lw_m6 125 rfl) rfl
theorem q1413 : (Jvm.Cond.methodLink "LifeofficeLaw" (190 : Nat) ({ cls := "LifeofficeLaw", name := "policyAt", desc := "(LLifeoffice;II[J)I" } : Jvm.MethodName)) ∈ lw_all := lw_g (lw_at lw_m6 133 rfl) rfl
theorem q1414 : (Jvm.Cond.static ({ cls := "LifeofficeLaw", name := "policyAt", desc := "(LLifeoffice;II[J)I" } : Jvm.MethodName)) ∈ lw_all := lw_g (lw_at lw_m6 134 rfl) rfl
theorem q1415 : (Jvm.Cond.codeWith ({ cls := "LifeofficeLaw", name := "policyAt", desc := "(LLifeoffice;II[J)I" } : Jvm.MethodName) method_12_code (5 : Nat) (Option.some Jvm.ClassFile.FieldType.int) [((0 : Nat), (9 : Nat), (12 : Nat), (19 : Nat)), ((0 : Nat), (9 : Nat), (16 : Nat), (13 : Nat))]) ∈ lw_all := lw_g (lw_at lw_m6 135 rfl) rfl
theorem q1416 : (Jvm.Cond.methodLink "LifeofficeLaw" (49 : Nat) ({ cls := "Lifeoffice", name := "policyAt", desc := "(II)J" } : Jvm.MethodName)) ∈ lw_all := lw_g (lw_at lw_m6 136 rfl) rfl
theorem q1427 : (Jvm.Cond.methodLink "LifeofficeLaw" (193 : Nat) ({ cls := "LifeofficeLaw", name := "reserve", desc := "(LLifeoffice;II[J)I" } : Jvm.MethodName)) ∈ lw_all := lw_g (lw_at lw_m6 147 rfl) rfl
theorem q1428 : (Jvm.Cond.static ({ cls := "LifeofficeLaw", name := "reserve", desc := "(LLifeoffice;II[J)I" } : Jvm.MethodName)) ∈ lw_all := lw_g (lw_at lw_m6 148 rfl) rfl
theorem q1429 : (Jvm.Cond.codeWith ({ cls := "LifeofficeLaw", name := "reserve", desc := "(LLifeoffice;II[J)I" } : Jvm.MethodName) method_13_code (5 : Nat) (Option.some Jvm.ClassFile.FieldType.int) [((0 : Nat), (9 : Nat), (12 : Nat), (19 : Nat))]) ∈ lw_all := lw_g (lw_at lw_m6 149 rfl) rfl
theorem q1430 : (Jvm.Cond.methodLink "LifeofficeLaw" (53 : Nat) ({ cls := "Lifeoffice", name := "reserve", desc := "(II)J" } : Jvm.MethodName)) ∈ lw_all := lw_g (lw_at lw_m6 150 rfl) rfl
theorem q1434 : (Jvm.Cond.methodLink "LifeofficeLaw" (196 : Nat) ({ cls := "LifeofficeLaw", name := "reserves", desc := "(LLifeoffice;I[J)I" } : Jvm.MethodName)) ∈ lw_all := lw_g (lw_at lw_m6 154 rfl) rfl
theorem q1435 : (Jvm.Cond.static ({ cls := "LifeofficeLaw", name := "reserves", desc := "(LLifeoffice;I[J)I" } : Jvm.MethodName)) ∈ lw_all := lw_g (lw_at lw_m6 155 rfl) rfl
theorem q1436 : (Jvm.Cond.codeWith ({ cls := "LifeofficeLaw", name := "reserves", desc := "(LLifeoffice;I[J)I" } : Jvm.MethodName) method_14_code (4 : Nat) (Option.some Jvm.ClassFile.FieldType.int) [((0 : Nat), (8 : Nat), (11 : Nat), (19 : Nat))]) ∈ lw_all := lw_g (lw_at lw_m6 156 rfl) rfl
theorem q1437 : (Jvm.Cond.methodLink "LifeofficeLaw" (56 : Nat) ({ cls := "Lifeoffice", name := "reserves", desc := "(I)J" } : Jvm.MethodName)) ∈ lw_all := lw_g (lw_at lw_m6 157 rfl) rfl
theorem q1441 : (Jvm.Cond.methodLink "LifeofficeLaw" (199 : Nat) ({ cls := "LifeofficeLaw", name := "makePaidUp", desc := "(LLifeoffice;I[J)I" } : Jvm.MethodName)) ∈ lw_all := lw_g (lw_at lw_m6 161 rfl) rfl
theorem q1442 : (Jvm.Cond.static ({ cls := "LifeofficeLaw", name := "makePaidUp", desc := "(LLifeoffice;I[J)I" } : Jvm.MethodName)) ∈ lw_all := lw_g (lw_at lw_m6 162 rfl) rfl
theorem q1443 : (Jvm.Cond.codeWith ({ cls := "LifeofficeLaw", name := "makePaidUp", desc := "(LLifeoffice;I[J)I" } : Jvm.MethodName) method_15_code (4 : Nat) (Option.some Jvm.ClassFile.FieldType.int) [((0 : Nat), (9 : Nat), (12 : Nat), (19 : Nat)), ((0 : Nat), (9 : Nat), (15 : Nat), (44 : Nat))]) ∈ lw_all := lw_g (lw_at lw_m6 163 rfl) rfl
theorem q1444 : (Jvm.Cond.methodLink "LifeofficeLaw" (59 : Nat) ({ cls := "Lifeoffice", name := "makePaidUp", desc := "(I)I" } : Jvm.MethodName)) ∈ lw_all := lw_g (lw_at lw_m6 164 rfl) rfl
theorem q1449 : (Jvm.Cond.methodLink "LifeofficeLaw" (202 : Nat) ({ cls := "LifeofficeLaw", name := "lend", desc := "(LLifeoffice;II[J)I" } : Jvm.MethodName)) ∈ lw_all := lw_g (lw_at lw_m6 169 rfl) rfl
theorem q1450 : (Jvm.Cond.static ({ cls := "LifeofficeLaw", name := "lend", desc := "(LLifeoffice;II[J)I" } : Jvm.MethodName)) ∈ lw_all := lw_g (lw_at lw_m6 170 rfl) rfl
theorem q1451 : (Jvm.Cond.codeWith ({ cls := "LifeofficeLaw", name := "lend", desc := "(LLifeoffice;II[J)I" } : Jvm.MethodName) method_16_code (5 : Nat) (Option.some Jvm.ClassFile.FieldType.int) [((0 : Nat), (9 : Nat), (12 : Nat), (19 : Nat)), ((0 : Nat), (9 : Nat), (16 : Nat), (13 : Nat)), ((0 : Nat), (9 : Nat), (20 : Nat), (44 : Nat))]) ∈ lw_all := lw_g (lw_at lw_m6 171 rfl) rfl
theorem q1452 : (Jvm.Cond.methodLink "LifeofficeLaw" (62 : Nat) ({ cls := "Lifeoffice", name := "lend", desc := "(II)J" } : Jvm.MethodName)) ∈ lw_all := lw_g (lw_at lw_m6 172 rfl) rfl
theorem q1463 : (Jvm.Cond.methodLink "LifeofficeLaw" (205 : Nat) ({ cls := "LifeofficeLaw", name := "repay", desc := "(LLifeoffice;II[J)I" } : Jvm.MethodName)) ∈ lw_all := lw_g (lw_at lw_m6 183 rfl) rfl
theorem q1464 : (Jvm.Cond.static ({ cls := "LifeofficeLaw", name := "repay", desc := "(LLifeoffice;II[J)I" } : Jvm.MethodName)) ∈ lw_all := lw_g (lw_at lw_m6 184 rfl) rfl
theorem q1465 : (Jvm.Cond.codeWith ({ cls := "LifeofficeLaw", name := "repay", desc := "(LLifeoffice;II[J)I" } : Jvm.MethodName) method_17_code (5 : Nat) (Option.some Jvm.ClassFile.FieldType.int) [((0 : Nat), (9 : Nat), (12 : Nat), (19 : Nat)), ((0 : Nat), (9 : Nat), (16 : Nat), (13 : Nat)), ((0 : Nat), (9 : Nat), (20 : Nat), (44 : Nat))]) ∈ lw_all := lw_g (lw_at lw_m6 185 rfl) rfl
theorem q1466 : (Jvm.Cond.methodLink "LifeofficeLaw" (65 : Nat) ({ cls := "Lifeoffice", name := "repay", desc := "(II)J" } : Jvm.MethodName)) ∈ lw_all := lw_g (lw_at lw_m6 186 rfl) rfl
theorem q1470 : (Jvm.Cond.methodLink "LifeofficeLaw" (208 : Nat) ({ cls := "LifeofficeLaw", name := "tellDeath", desc := "(LLifeoffice;II[J)I" } : Jvm.MethodName)) ∈ lw_all := lw_g (lw_at lw_m6 190 rfl) rfl
theorem q1471 : (Jvm.Cond.static ({ cls := "LifeofficeLaw", name := "tellDeath", desc := "(LLifeoffice;II[J)I" } : Jvm.MethodName)) ∈ lw_all := lw_g (lw_at lw_m6 191 rfl) rfl
theorem q1472 : (Jvm.Cond.codeWith ({ cls := "LifeofficeLaw", name := "tellDeath", desc := "(LLifeoffice;II[J)I" } : Jvm.MethodName) method_18_code (5 : Nat) (Option.some Jvm.ClassFile.FieldType.int) [((0 : Nat), (9 : Nat), (12 : Nat), (19 : Nat)), ((0 : Nat), (9 : Nat), (16 : Nat), (13 : Nat)), ((0 : Nat), (9 : Nat), (20 : Nat), (44 : Nat))]) ∈ lw_all := lw_g (lw_at lw_m6 192 rfl) rfl
theorem q1473 : (Jvm.Cond.methodLink "LifeofficeLaw" (68 : Nat) ({ cls := "Lifeoffice", name := "tellDeath", desc := "(II)J" } : Jvm.MethodName)) ∈ lw_all := lw_g (lw_at lw_m6 193 rfl) rfl
theorem q1485 : (Jvm.Cond.methodLink "LifeofficeLaw" (211 : Nat) ({ cls := "LifeofficeLaw", name := "tellLate", desc := "(LLifeoffice;II[J)I" } : Jvm.MethodName)) ∈ lw_all := lw_g (lw_at lw_m6 205 rfl) rfl
theorem q1486 : (Jvm.Cond.static ({ cls := "LifeofficeLaw", name := "tellLate", desc := "(LLifeoffice;II[J)I" } : Jvm.MethodName)) ∈ lw_all := lw_g (lw_at lw_m6 206 rfl) rfl
theorem q1487 : (Jvm.Cond.codeWith ({ cls := "LifeofficeLaw", name := "tellLate", desc := "(LLifeoffice;II[J)I" } : Jvm.MethodName) method_19_code (5 : Nat) (Option.some Jvm.ClassFile.FieldType.int) [((0 : Nat), (9 : Nat), (12 : Nat), (19 : Nat)), ((0 : Nat), (9 : Nat), (16 : Nat), (13 : Nat)), ((0 : Nat), (9 : Nat), (20 : Nat), (44 : Nat))]) ∈ lw_all := lw_g (lw_at lw_m6 207 rfl) rfl
theorem q1488 : (Jvm.Cond.methodLink "LifeofficeLaw" (71 : Nat) ({ cls := "Lifeoffice", name := "tellLate", desc := "(II)J" } : Jvm.MethodName)) ∈ lw_all := lw_g (lw_at lw_m6 208 rfl) rfl
theorem q1492 : (Jvm.Cond.methodLink "LifeofficeLaw" (214 : Nat) ({ cls := "LifeofficeLaw", name := "tellSurrender", desc := "(LLifeoffice;I[J)I" } : Jvm.MethodName)) ∈ lw_all := lw_g (lw_at lw_m6 212 rfl) rfl
theorem q1493 : (Jvm.Cond.static ({ cls := "LifeofficeLaw", name := "tellSurrender", desc := "(LLifeoffice;I[J)I" } : Jvm.MethodName)) ∈ lw_all := lw_g (lw_at lw_m6 213 rfl) rfl
theorem q1494 : (Jvm.Cond.codeWith ({ cls := "LifeofficeLaw", name := "tellSurrender", desc := "(LLifeoffice;I[J)I" } : Jvm.MethodName) method_20_code (4 : Nat) (Option.some Jvm.ClassFile.FieldType.int) [((0 : Nat), (8 : Nat), (11 : Nat), (19 : Nat)), ((0 : Nat), (8 : Nat), (14 : Nat), (44 : Nat))]) ∈ lw_all := lw_g (lw_at lw_m6 214 rfl) rfl
theorem q1495 : (Jvm.Cond.methodLink "LifeofficeLaw" (74 : Nat) ({ cls := "Lifeoffice", name := "tellSurrender", desc := "(I)J" } : Jvm.MethodName)) ∈ lw_all := lw_g (lw_at lw_m6 215 rfl) rfl
theorem q1499 : (Jvm.Cond.methodLink "LifeofficeLaw" (217 : Nat) ({ cls := "LifeofficeLaw", name := "lapse", desc := "(LLifeoffice;I[J)I" } : Jvm.MethodName)) ∈ lw_all := lw_g (lw_at lw_m6 219 rfl) rfl
theorem q1500 : (Jvm.Cond.static ({ cls := "LifeofficeLaw", name := "lapse", desc := "(LLifeoffice;I[J)I" } : Jvm.MethodName)) ∈ lw_all := lw_g (lw_at lw_m6 220 rfl) rfl
theorem q1501 : (Jvm.Cond.codeWith ({ cls := "LifeofficeLaw", name := "lapse", desc := "(LLifeoffice;I[J)I" } : Jvm.MethodName) method_21_code (4 : Nat) (Option.some Jvm.ClassFile.FieldType.int) [((0 : Nat), (8 : Nat), (11 : Nat), (19 : Nat)), ((0 : Nat), (8 : Nat), (14 : Nat), (44 : Nat))]) ∈ lw_all := lw_g (lw_at lw_m6 221 rfl) rfl
theorem q1502 : (Jvm.Cond.methodLink "LifeofficeLaw" (77 : Nat) ({ cls := "Lifeoffice", name := "lapse", desc := "(I)J" } : Jvm.MethodName)) ∈ lw_all := lw_g (lw_at lw_m6 222 rfl) rfl
theorem q1506 : (Jvm.Cond.methodLink "LifeofficeLaw" (220 : Nat) ({ cls := "LifeofficeLaw", name := "reinstate", desc := "(LLifeoffice;I[J)I" } : Jvm.MethodName)) ∈ lw_all := lw_g (lw_at lw_m6 226 rfl) rfl
theorem q1507 : (Jvm.Cond.static ({ cls := "LifeofficeLaw", name := "reinstate", desc := "(LLifeoffice;I[J)I" } : Jvm.MethodName)) ∈ lw_all := lw_g (lw_at lw_m6 227 rfl) rfl
theorem q1508 : (Jvm.Cond.codeWith ({ cls := "LifeofficeLaw", name := "reinstate", desc := "(LLifeoffice;I[J)I" } : Jvm.MethodName) method_22_code (4 : Nat) (Option.some Jvm.ClassFile.FieldType.int) [((0 : Nat), (8 : Nat), (11 : Nat), (19 : Nat)), ((0 : Nat), (8 : Nat), (14 : Nat), (44 : Nat))]) ∈ lw_all := lw_g (lw_at lw_m6 228 rfl) rfl
theorem q1509 : (Jvm.Cond.methodLink "LifeofficeLaw" (80 : Nat) ({ cls := "Lifeoffice", name := "reinstate", desc := "(I)J" } : Jvm.MethodName)) ∈ lw_all := lw_g (lw_at lw_m6 229 rfl) rfl
theorem q1514 : (Jvm.Cond.methodLink "LifeofficeLaw" (223 : Nat) ({ cls := "LifeofficeLaw", name := "setGuarantee", desc := "(LLifeoffice;II[J)I" } : Jvm.MethodName)) ∈ lw_all := lw_g (lw_at lw_m6 234 rfl) rfl
theorem q1515 : (Jvm.Cond.static ({ cls := "LifeofficeLaw", name := "setGuarantee", desc := "(LLifeoffice;II[J)I" } : Jvm.MethodName)) ∈ lw_all := lw_g (lw_at lw_m6 235 rfl) rfl
theorem q1516 : (Jvm.Cond.codeWith ({ cls := "LifeofficeLaw", name := "setGuarantee", desc := "(LLifeoffice;II[J)I" } : Jvm.MethodName) method_23_code (5 : Nat) (Option.some Jvm.ClassFile.FieldType.int) [((0 : Nat), (10 : Nat), (13 : Nat), (19 : Nat)), ((0 : Nat), (10 : Nat), (17 : Nat), (13 : Nat)), ((0 : Nat), (10 : Nat), (21 : Nat), (44 : Nat))]) ∈ lw_all := lw_g (lw_at lw_m6 236 rfl) rfl
theorem q1517 : (Jvm.Cond.methodLink "LifeofficeLaw" (83 : Nat) ({ cls := "Lifeoffice", name := "setGuarantee", desc := "(II)I" } : Jvm.MethodName)) ∈ lw_all := lw_g (lw_at lw_m6 237 rfl) rfl
theorem q1524 : (Jvm.Cond.methodLink "LifeofficeLaw" (226 : Nat) ({ cls := "LifeofficeLaw", name := "optionValue", desc := "(LLifeoffice;II[J)I" } : Jvm.MethodName)) ∈ lw_all := lw_g (lw_at lw_m7 4 rfl) rfl
theorem q1525 : (Jvm.Cond.static ({ cls := "LifeofficeLaw", name := "optionValue", desc := "(LLifeoffice;II[J)I" } : Jvm.MethodName)) ∈ lw_all := lw_g (lw_at lw_m7 5 rfl) rfl
theorem q1526 : (Jvm.Cond.codeWith ({ cls := "LifeofficeLaw", name := "optionValue", desc := "(LLifeoffice;II[J)I" } : Jvm.MethodName) method_24_code (5 : Nat) (Option.some Jvm.ClassFile.FieldType.int) [((0 : Nat), (9 : Nat), (12 : Nat), (19 : Nat)), ((0 : Nat), (9 : Nat), (16 : Nat), (13 : Nat)), ((0 : Nat), (9 : Nat), (20 : Nat), (44 : Nat))]) ∈ lw_all := lw_g (lw_at lw_m7 6 rfl) rfl
theorem q1527 : (Jvm.Cond.methodLink "LifeofficeLaw" (86 : Nat) ({ cls := "Lifeoffice", name := "optionValue", desc := "(II)J" } : Jvm.MethodName)) ∈ lw_all := lw_g (lw_at lw_m7 7 rfl) rfl
theorem q1543 : (Jvm.Cond.methodLink "LifeofficeLaw" (229 : Nat) ({ cls := "LifeofficeLaw", name := "byReserve", desc := "(LLifeoffice;I[J)I" } : Jvm.MethodName)) ∈ lw_all := lw_g (lw_at lw_m7 23 rfl) rfl
theorem q1544 : (Jvm.Cond.static ({ cls := "LifeofficeLaw", name := "byReserve", desc := "(LLifeoffice;I[J)I" } : Jvm.MethodName)) ∈ lw_all := lw_g (lw_at lw_m7 24 rfl) rfl
theorem q1545 : (Jvm.Cond.codeWith ({ cls := "LifeofficeLaw", name := "byReserve", desc := "(LLifeoffice;I[J)I" } : Jvm.MethodName) method_25_code (4 : Nat) (Option.some Jvm.ClassFile.FieldType.int) [((0 : Nat), (9 : Nat), (12 : Nat), (92 : Nat))]) ∈ lw_all := lw_g (lw_at lw_m7 25 rfl) rfl
theorem q1546 : (Jvm.Cond.classLink "LifeofficeLaw" (92 : Nat) "java/util/NoSuchElementException") ∈ lw_all := lw_g (lw_at lw_m7 26 rfl) rfl
theorem q1547 : (Jvm.Cond.methodLink "LifeofficeLaw" (89 : Nat) ({ cls := "Lifeoffice", name := "byReserve", desc := "(I)I" } : Jvm.MethodName)) ∈ lw_all := lw_g (lw_at lw_m7 27 rfl) rfl
theorem q1581 : (Jvm.Cond.methodLink "LifeofficeLaw" (232 : Nat) ({ cls := "LifeofficeLaw", name := "declare", desc := "(LLifeoffice;I[J)I" } : Jvm.MethodName)) ∈ lw_all := lw_g (lw_at lw_m7 61 rfl) rfl
theorem q1582 : (Jvm.Cond.static ({ cls := "LifeofficeLaw", name := "declare", desc := "(LLifeoffice;I[J)I" } : Jvm.MethodName)) ∈ lw_all := lw_g (lw_at lw_m7 62 rfl) rfl
theorem q1583 : (Jvm.Cond.codeWith ({ cls := "LifeofficeLaw", name := "declare", desc := "(LLifeoffice;I[J)I" } : Jvm.MethodName) method_26_code (4 : Nat) (Option.some Jvm.ClassFile.FieldType.int) [((0 : Nat), (8 : Nat), (11 : Nat), (13 : Nat)), ((0 : Nat), (8 : Nat), (14 : Nat), (44 : Nat))]) ∈ lw_all := lw_g (lw_at lw_m7 63 rfl) rfl
theorem q1584 : (Jvm.Cond.methodLink "LifeofficeLaw" (94 : Nat) ({ cls := "Lifeoffice", name := "declare", desc := "(I)J" } : Jvm.MethodName)) ∈ lw_all := lw_g (lw_at lw_m7 64 rfl) rfl
theorem q1596 : (Jvm.Cond.methodLink "LifeofficeLaw" (235 : Nat) ({ cls := "LifeofficeLaw", name := "setSmoothing", desc := "(LLifeoffice;I[J)I" } : Jvm.MethodName)) ∈ lw_all := lw_g (lw_at lw_m7 76 rfl) rfl
theorem q1597 : (Jvm.Cond.static ({ cls := "LifeofficeLaw", name := "setSmoothing", desc := "(LLifeoffice;I[J)I" } : Jvm.MethodName)) ∈ lw_all := lw_g (lw_at lw_m7 77 rfl) rfl
theorem q1598 : (Jvm.Cond.codeWith ({ cls := "LifeofficeLaw", name := "setSmoothing", desc := "(LLifeoffice;I[J)I" } : Jvm.MethodName) method_27_code (4 : Nat) (Option.some Jvm.ClassFile.FieldType.int) [((0 : Nat), (9 : Nat), (12 : Nat), (13 : Nat))]) ∈ lw_all := lw_g (lw_at lw_m7 78 rfl) rfl
theorem q1599 : (Jvm.Cond.methodLink "LifeofficeLaw" (97 : Nat) ({ cls := "Lifeoffice", name := "setSmoothing", desc := "(I)I" } : Jvm.MethodName)) ∈ lw_all := lw_g (lw_at lw_m7 79 rfl) rfl
theorem q1603 : (Jvm.Cond.methodLink "LifeofficeLaw" (238 : Nat) ({ cls := "LifeofficeLaw", name := "setFinal", desc := "(LLifeoffice;I[J)I" } : Jvm.MethodName)) ∈ lw_all := lw_g (lw_at lw_m7 83 rfl) rfl
theorem q1604 : (Jvm.Cond.static ({ cls := "LifeofficeLaw", name := "setFinal", desc := "(LLifeoffice;I[J)I" } : Jvm.MethodName)) ∈ lw_all := lw_g (lw_at lw_m7 84 rfl) rfl
theorem q1605 : (Jvm.Cond.codeWith ({ cls := "LifeofficeLaw", name := "setFinal", desc := "(LLifeoffice;I[J)I" } : Jvm.MethodName) method_28_code (4 : Nat) (Option.some Jvm.ClassFile.FieldType.int) [((0 : Nat), (9 : Nat), (12 : Nat), (13 : Nat)), ((0 : Nat), (9 : Nat), (15 : Nat), (44 : Nat))]) ∈ lw_all := lw_g (lw_at lw_m7 85 rfl) rfl
theorem q1606 : (Jvm.Cond.methodLink "LifeofficeLaw" (100 : Nat) ({ cls := "Lifeoffice", name := "setFinal", desc := "(I)I" } : Jvm.MethodName)) ∈ lw_all := lw_g (lw_at lw_m7 86 rfl) rfl
theorem q1610 : (Jvm.Cond.methodLink "LifeofficeLaw" (241 : Nat) ({ cls := "LifeofficeLaw", name := "buyBond", desc := "(LLifeoffice;III[J)I" } : Jvm.MethodName)) ∈ lw_all := lw_g (lw_at lw_m7 90 rfl) rfl
theorem q1611 : (Jvm.Cond.static ({ cls := "LifeofficeLaw", name := "buyBond", desc := "(LLifeoffice;III[J)I" } : Jvm.MethodName)) ∈ lw_all := lw_g (lw_at lw_m7 91 rfl) rfl
theorem q1612 : (Jvm.Cond.codeWith ({ cls := "LifeofficeLaw", name := "buyBond", desc := "(LLifeoffice;III[J)I" } : Jvm.MethodName) method_29_code (6 : Nat) (Option.some Jvm.ClassFile.FieldType.int) [((0 : Nat), (12 : Nat), (15 : Nat), (13 : Nat)), ((0 : Nat), (12 : Nat), (19 : Nat), (44 : Nat))]) ∈ lw_all := lw_g (lw_at lw_m7 92 rfl) rfl
theorem q1613 : (Jvm.Cond.methodLink "LifeofficeLaw" (103 : Nat) ({ cls := "Lifeoffice", name := "buyBond", desc := "(III)I" } : Jvm.MethodName)) ∈ lw_all := lw_g (lw_at lw_m7 93 rfl) rfl
theorem q1650 : (Jvm.Cond.methodLink "LifeofficeLaw" (245 : Nat) ({ cls := "LifeofficeLaw", name := "bondAt", desc := "(LLifeoffice;II[J)I" } : Jvm.MethodName)) ∈ lw_all := lw_g (lw_at lw_m7 130 rfl) rfl
theorem q1651 : (Jvm.Cond.static ({ cls := "LifeofficeLaw", name := "bondAt", desc := "(LLifeoffice;II[J)I" } : Jvm.MethodName)) ∈ lw_all := lw_g (lw_at lw_m7 131 rfl) rfl
theorem q1652 : (Jvm.Cond.codeWith ({ cls := "LifeofficeLaw", name := "bondAt", desc := "(LLifeoffice;II[J)I" } : Jvm.MethodName) method_30_code (5 : Nat) (Option.some Jvm.ClassFile.FieldType.int) [((0 : Nat), (10 : Nat), (13 : Nat), (19 : Nat)), ((0 : Nat), (10 : Nat), (17 : Nat), (13 : Nat))]) ∈ lw_all := lw_g (lw_at lw_m7 132 rfl) rfl
theorem q1653 : (Jvm.Cond.methodLink "LifeofficeLaw" (107 : Nat) ({ cls := "Lifeoffice", name := "bondAt", desc := "(II)I" } : Jvm.MethodName)) ∈ lw_all := lw_g (lw_at lw_m7 133 rfl) rfl
theorem q1661 : (Jvm.Cond.methodLink "LifeofficeLaw" (248 : Nat) ({ cls := "LifeofficeLaw", name := "defaults", desc := "(LLifeoffice;II[J)I" } : Jvm.MethodName)) ∈ lw_all := lw_g (lw_at lw_m7 141 rfl) rfl
theorem q1662 : (Jvm.Cond.static ({ cls := "LifeofficeLaw", name := "defaults", desc := "(LLifeoffice;II[J)I" } : Jvm.MethodName)) ∈ lw_all := lw_g (lw_at lw_m7 142 rfl) rfl
theorem q1663 : (Jvm.Cond.codeWith ({ cls := "LifeofficeLaw", name := "defaults", desc := "(LLifeoffice;II[J)I" } : Jvm.MethodName) method_31_code (5 : Nat) (Option.some Jvm.ClassFile.FieldType.int) [((0 : Nat), (10 : Nat), (13 : Nat), (19 : Nat)), ((0 : Nat), (10 : Nat), (17 : Nat), (13 : Nat))]) ∈ lw_all := lw_g (lw_at lw_m7 143 rfl) rfl
theorem q1664 : (Jvm.Cond.methodLink "LifeofficeLaw" (110 : Nat) ({ cls := "Lifeoffice", name := "defaults", desc := "(II)I" } : Jvm.MethodName)) ∈ lw_all := lw_g (lw_at lw_m7 144 rfl) rfl
theorem q1668 : (Jvm.Cond.methodLink "LifeofficeLaw" (251 : Nat) ({ cls := "LifeofficeLaw", name := "setReinsurance", desc := "(LLifeoffice;II[J)I" } : Jvm.MethodName)) ∈ lw_all := lw_g (lw_at lw_m7 148 rfl) rfl
theorem q1669 : (Jvm.Cond.static ({ cls := "LifeofficeLaw", name := "setReinsurance", desc := "(LLifeoffice;II[J)I" } : Jvm.MethodName)) ∈ lw_all := lw_g (lw_at lw_m7 149 rfl) rfl
theorem q1670 : (Jvm.Cond.codeWith ({ cls := "LifeofficeLaw", name := "setReinsurance", desc := "(LLifeoffice;II[J)I" } : Jvm.MethodName) method_32_code (5 : Nat) (Option.some Jvm.ClassFile.FieldType.int) [((0 : Nat), (10 : Nat), (13 : Nat), (13 : Nat))]) ∈ lw_all := lw_g (lw_at lw_m7 150 rfl) rfl
theorem q1671 : (Jvm.Cond.methodLink "LifeofficeLaw" (113 : Nat) ({ cls := "Lifeoffice", name := "setReinsurance", desc := "(II)I" } : Jvm.MethodName)) ∈ lw_all := lw_g (lw_at lw_m7 151 rfl) rfl
theorem q1675 : (Jvm.Cond.methodLink "LifeofficeLaw" (254 : Nat) ({ cls := "LifeofficeLaw", name := "closeYear", desc := "(LLifeoffice;II[J)I" } : Jvm.MethodName)) ∈ lw_all := lw_g (lw_at lw_m7 155 rfl) rfl
theorem q1676 : (Jvm.Cond.static ({ cls := "LifeofficeLaw", name := "closeYear", desc := "(LLifeoffice;II[J)I" } : Jvm.MethodName)) ∈ lw_all := lw_g (lw_at lw_m7 156 rfl) rfl
theorem q1677 : (Jvm.Cond.codeWith ({ cls := "LifeofficeLaw", name := "closeYear", desc := "(LLifeoffice;II[J)I" } : Jvm.MethodName) method_33_code (5 : Nat) (Option.some Jvm.ClassFile.FieldType.int) [((0 : Nat), (9 : Nat), (12 : Nat), (13 : Nat)), ((0 : Nat), (9 : Nat), (16 : Nat), (44 : Nat))]) ∈ lw_all := lw_g (lw_at lw_m7 157 rfl) rfl
theorem q1678 : (Jvm.Cond.methodLink "LifeofficeLaw" (116 : Nat) ({ cls := "Lifeoffice", name := "closeYear", desc := "(II)J" } : Jvm.MethodName)) ∈ lw_all := lw_g (lw_at lw_m7 158 rfl) rfl
theorem q1889 : (Jvm.Cond.methodLink "LifeofficeLaw" (257 : Nat) ({ cls := "LifeofficeLaw", name := "surplus", desc := "(LLifeoffice;I[J)I" } : Jvm.MethodName)) ∈ lw_all := lw_g (lw_at lw_m8 129 rfl) rfl
theorem q1890 : (Jvm.Cond.static ({ cls := "LifeofficeLaw", name := "surplus", desc := "(LLifeoffice;I[J)I" } : Jvm.MethodName)) ∈ lw_all := lw_g (lw_at lw_m8 130 rfl) rfl
theorem q1891 : (Jvm.Cond.codeWith ({ cls := "LifeofficeLaw", name := "surplus", desc := "(LLifeoffice;I[J)I" } : Jvm.MethodName) method_34_code (4 : Nat) (Option.some Jvm.ClassFile.FieldType.int) [((0 : Nat), (8 : Nat), (11 : Nat), (13 : Nat))]) ∈ lw_all := lw_g (lw_at lw_m8 131 rfl) rfl
theorem q1892 : (Jvm.Cond.methodLink "LifeofficeLaw" (119 : Nat) ({ cls := "Lifeoffice", name := "surplus", desc := "(I)J" } : Jvm.MethodName)) ∈ lw_all := lw_g (lw_at lw_m8 132 rfl) rfl
theorem q1898 : (Jvm.Cond.methodLink "LifeofficeLaw" (260 : Nat) ({ cls := "LifeofficeLaw", name := "experience", desc := "(LLifeoffice;I[J)I" } : Jvm.MethodName)) ∈ lw_all := lw_g (lw_at lw_m8 138 rfl) rfl
theorem q1899 : (Jvm.Cond.static ({ cls := "LifeofficeLaw", name := "experience", desc := "(LLifeoffice;I[J)I" } : Jvm.MethodName)) ∈ lw_all := lw_g (lw_at lw_m8 139 rfl) rfl
theorem q1900 : (Jvm.Cond.codeWith ({ cls := "LifeofficeLaw", name := "experience", desc := "(LLifeoffice;I[J)I" } : Jvm.MethodName) method_35_code (4 : Nat) (Option.some Jvm.ClassFile.FieldType.int) [((0 : Nat), (8 : Nat), (11 : Nat), (13 : Nat))]) ∈ lw_all := lw_g (lw_at lw_m8 140 rfl) rfl
theorem q1901 : (Jvm.Cond.methodLink "LifeofficeLaw" (122 : Nat) ({ cls := "Lifeoffice", name := "experience", desc := "(I)J" } : Jvm.MethodName)) ∈ lw_all := lw_g (lw_at lw_m8 141 rfl) rfl
theorem q1905 : (Jvm.Cond.methodLink "LifeofficeLaw" (267 : Nat) ({ cls := "LifeofficeLaw", name := "expectedPayments", desc := "(LLifeoffice;I[J)I" } : Jvm.MethodName)) ∈ lw_all := lw_g (lw_at lw_m8 145 rfl) rfl
theorem q1906 : (Jvm.Cond.static ({ cls := "LifeofficeLaw", name := "expectedPayments", desc := "(LLifeoffice;I[J)I" } : Jvm.MethodName)) ∈ lw_all := lw_g (lw_at lw_m8 146 rfl) rfl
theorem q1907 : (Jvm.Cond.codeWith ({ cls := "LifeofficeLaw", name := "expectedPayments", desc := "(LLifeoffice;I[J)I" } : Jvm.MethodName) method_36_code (4 : Nat) (Option.some Jvm.ClassFile.FieldType.int) [((0 : Nat), (8 : Nat), (11 : Nat), (13 : Nat))]) ∈ lw_all := lw_g (lw_at lw_m8 147 rfl) rfl
theorem q1908 : (Jvm.Cond.methodLink "LifeofficeLaw" (125 : Nat) ({ cls := "Lifeoffice", name := "expectedPayments", desc := "(I)J" } : Jvm.MethodName)) ∈ lw_all := lw_g (lw_at lw_m8 148 rfl) rfl
theorem q1913 : (Jvm.Cond.methodLink "LifeofficeLaw" (270 : Nat) ({ cls := "LifeofficeLaw", name := "bondPayments", desc := "(LLifeoffice;I[J)I" } : Jvm.MethodName)) ∈ lw_all := lw_g (lw_at lw_m8 153 rfl) rfl
theorem q1914 : (Jvm.Cond.static ({ cls := "LifeofficeLaw", name := "bondPayments", desc := "(LLifeoffice;I[J)I" } : Jvm.MethodName)) ∈ lw_all := lw_g (lw_at lw_m8 154 rfl) rfl
theorem q1915 : (Jvm.Cond.codeWith ({ cls := "LifeofficeLaw", name := "bondPayments", desc := "(LLifeoffice;I[J)I" } : Jvm.MethodName) method_37_code (4 : Nat) (Option.some Jvm.ClassFile.FieldType.int) [((0 : Nat), (8 : Nat), (11 : Nat), (13 : Nat))]) ∈ lw_all := lw_g (lw_at lw_m8 155 rfl) rfl
theorem q1916 : (Jvm.Cond.methodLink "LifeofficeLaw" (128 : Nat) ({ cls := "Lifeoffice", name := "bondPayments", desc := "(I)J" } : Jvm.MethodName)) ∈ lw_all := lw_g (lw_at lw_m8 156 rfl) rfl
theorem q1920 : (Jvm.Cond.methodLink "LifeofficeLaw" (277 : Nat) ({ cls := "LifeofficeLaw", name := "close", desc := "(LLifeoffice;[J)I" } : Jvm.MethodName)) ∈ lw_all := lw_g (lw_at lw_m8 160 rfl) rfl
theorem q1921 : (Jvm.Cond.static ({ cls := "LifeofficeLaw", name := "close", desc := "(LLifeoffice;[J)I" } : Jvm.MethodName)) ∈ lw_all := lw_g (lw_at lw_m8 161 rfl) rfl
theorem q1922 : (Jvm.Cond.codeWith ({ cls := "LifeofficeLaw", name := "close", desc := "(LLifeoffice;[J)I" } : Jvm.MethodName) method_38_code (3 : Nat) (Option.some Jvm.ClassFile.FieldType.int) [((0 : Nat), (8 : Nat), (11 : Nat), (44 : Nat))]) ∈ lw_all := lw_g (lw_at lw_m8 162 rfl) rfl
theorem q1923 : (Jvm.Cond.methodLink "LifeofficeLaw" (131 : Nat) ({ cls := "Lifeoffice", name := "close", desc := "()I" } : Jvm.MethodName)) ∈ lw_all := lw_g (lw_at lw_m8 163 rfl) rfl
theorem q1927 : (Jvm.Cond.methodLink "LifeofficeLaw" (281 : Nat) ({ cls := "LifeofficeLaw", name := "distribute", desc := "(LLifeoffice;I[J)I" } : Jvm.MethodName)) ∈ lw_all := lw_g (lw_at lw_m8 167 rfl) rfl
theorem q1928 : (Jvm.Cond.static ({ cls := "LifeofficeLaw", name := "distribute", desc := "(LLifeoffice;I[J)I" } : Jvm.MethodName)) ∈ lw_all := lw_g (lw_at lw_m8 168 rfl) rfl
theorem q1929 : (Jvm.Cond.codeWith ({ cls := "LifeofficeLaw", name := "distribute", desc := "(LLifeoffice;I[J)I" } : Jvm.MethodName) method_39_code (4 : Nat) (Option.some Jvm.ClassFile.FieldType.int) [((0 : Nat), (8 : Nat), (11 : Nat), (13 : Nat)), ((0 : Nat), (8 : Nat), (14 : Nat), (44 : Nat))]) ∈ lw_all := lw_g (lw_at lw_m8 169 rfl) rfl
theorem q1930 : (Jvm.Cond.methodLink "LifeofficeLaw" (135 : Nat) ({ cls := "Lifeoffice", name := "distribute", desc := "(I)J" } : Jvm.MethodName)) ∈ lw_all := lw_g (lw_at lw_m8 170 rfl) rfl
theorem q1938 : (Jvm.Cond.methodLink "LifeofficeLaw" (284 : Nat) ({ cls := "LifeofficeLaw", name := "generation", desc := "(LLifeoffice;II[J)I" } : Jvm.MethodName)) ∈ lw_all := lw_g (lw_at lw_m8 178 rfl) rfl
theorem q1939 : (Jvm.Cond.static ({ cls := "LifeofficeLaw", name := "generation", desc := "(LLifeoffice;II[J)I" } : Jvm.MethodName)) ∈ lw_all := lw_g (lw_at lw_m8 179 rfl) rfl
theorem q1940 : (Jvm.Cond.codeWith ({ cls := "LifeofficeLaw", name := "generation", desc := "(LLifeoffice;II[J)I" } : Jvm.MethodName) method_40_code (5 : Nat) (Option.some Jvm.ClassFile.FieldType.int) [((0 : Nat), (9 : Nat), (12 : Nat), (13 : Nat))]) ∈ lw_all := lw_g (lw_at lw_m8 180 rfl) rfl
theorem q1941 : (Jvm.Cond.methodLink "LifeofficeLaw" (138 : Nat) ({ cls := "Lifeoffice", name := "generation", desc := "(II)J" } : Jvm.MethodName)) ∈ lw_all := lw_g (lw_at lw_m8 181 rfl) rfl
theorem q1945 : (Jvm.Cond.methodLink "LifeofficeLaw" (151 : Nat) ({ cls := "LifeofficeModel", name := "thrown", desc := "()I" } : Jvm.MethodName)) ∈ lw_all := lw_g (lw_at lw_m8 185 rfl) rfl
theorem q1949 : (Jvm.Cond.classLink "LifeofficeLaw" (142 : Nat) "LifeofficeModel") ∈ lw_all := lw_g (lw_at lw_m8 189 rfl) rfl
theorem q1951 : (Jvm.Cond.methodLink "LifeofficeLaw" (144 : Nat) ({ cls := "LifeofficeModel", name := "<init>", desc := "()V" } : Jvm.MethodName)) ∈ lw_all := lw_g (lw_at lw_m8 191 rfl) rfl
theorem q2129 : (Jvm.Cond.methodLink "LifeofficeLaw" (150 : Nat) ({ cls := "LifeofficeModel", name := "found", desc := "(II)I" } : Jvm.MethodName)) ∈ lw_all := lw_g (lw_at lw_m9 129 rfl) rfl
theorem q2143 : (Jvm.Cond.methodLink "LifeofficeLaw" (157 : Nat) ({ cls := "LifeofficeModel", name := "year", desc := "()I" } : Jvm.MethodName)) ∈ lw_all := lw_g (lw_at lw_m9 143 rfl) rfl
theorem q2147 : (Jvm.Cond.methodLink "LifeofficeLaw" (161 : Nat) ({ cls := "LifeofficeModel", name := "setLaw", desc := "(IIIZ)J" } : Jvm.MethodName)) ∈ lw_all := lw_g (lw_at lw_m9 147 rfl) rfl
theorem q2199 : (Jvm.Cond.methodLink "LifeofficeLaw" (165 : Nat) ({ cls := "LifeofficeModel", name := "setImprovement", desc := "(I)I" } : Jvm.MethodName)) ∈ lw_all := lw_g (lw_at lw_m9 199 rfl) rfl
theorem q2203 : (Jvm.Cond.methodLink "LifeofficeLaw" (168 : Nat) ({ cls := "LifeofficeModel", name := "setLoading", desc := "(II)I" } : Jvm.MethodName)) ∈ lw_all := lw_g (lw_at lw_m9 203 rfl) rfl
theorem q2208 : (Jvm.Cond.methodLink "LifeofficeLaw" (172 : Nat) ({ cls := "LifeofficeModel", name := "mortality", desc := "(IIIII)I" } : Jvm.MethodName)) ∈ lw_all := lw_g (lw_at lw_m9 208 rfl) rfl
theorem q2215 : (Jvm.Cond.methodLink "LifeofficeLaw" (175 : Nat) ({ cls := "LifeofficeModel", name := "money", desc := "(I)J" } : Jvm.MethodName)) ∈ lw_all := lw_g (lw_at lw_m9 215 rfl) rfl
theorem q2231 : (Jvm.Cond.methodLink "LifeofficeLaw" (179 : Nat) ({ cls := "LifeofficeModel", name := "quote", desc := "(IIIIII)J" } : Jvm.MethodName)) ∈ lw_all := lw_g (lw_at lw_m9 231 rfl) rfl
theorem q2251 : (Jvm.Cond.methodLink "LifeofficeLaw" (182 : Nat) ({ cls := "LifeofficeModel", name := "issue", desc := "(IIIIII)I" } : Jvm.MethodName)) ∈ lw_all := lw_g (lw_at lw_m10 11 rfl) rfl
theorem q2255 : (Jvm.Cond.methodLink "LifeofficeLaw" (186 : Nat) ({ cls := "LifeofficeModel", name := "policies", desc := "()I" } : Jvm.MethodName)) ∈ lw_all := lw_g (lw_at lw_m10 15 rfl) rfl
theorem q2259 : (Jvm.Cond.methodLink "LifeofficeLaw" (189 : Nat) ({ cls := "LifeofficeModel", name := "stateOf", desc := "(I)I" } : Jvm.MethodName)) ∈ lw_all := lw_g (lw_at lw_m10 19 rfl) rfl
theorem q2267 : (Jvm.Cond.methodLink "LifeofficeLaw" (192 : Nat) ({ cls := "LifeofficeModel", name := "policyAt", desc := "(II)J" } : Jvm.MethodName)) ∈ lw_all := lw_g (lw_at lw_m10 27 rfl) rfl
theorem q2277 : (Jvm.Cond.methodLink "LifeofficeLaw" (195 : Nat) ({ cls := "LifeofficeModel", name := "reserve", desc := "(II)J" } : Jvm.MethodName)) ∈ lw_all := lw_g (lw_at lw_m10 37 rfl) rfl
theorem q2281 : (Jvm.Cond.methodLink "LifeofficeLaw" (198 : Nat) ({ cls := "LifeofficeModel", name := "reserves", desc := "(I)J" } : Jvm.MethodName)) ∈ lw_all := lw_g (lw_at lw_m10 41 rfl) rfl
theorem q2285 : (Jvm.Cond.methodLink "LifeofficeLaw" (201 : Nat) ({ cls := "LifeofficeModel", name := "makePaidUp", desc := "(I)I" } : Jvm.MethodName)) ∈ lw_all := lw_g (lw_at lw_m10 45 rfl) rfl
theorem q2289 : (Jvm.Cond.methodLink "LifeofficeLaw" (204 : Nat) ({ cls := "LifeofficeModel", name := "lend", desc := "(II)J" } : Jvm.MethodName)) ∈ lw_all := lw_g (lw_at lw_m10 49 rfl) rfl
theorem q2297 : (Jvm.Cond.methodLink "LifeofficeLaw" (207 : Nat) ({ cls := "LifeofficeModel", name := "repay", desc := "(II)J" } : Jvm.MethodName)) ∈ lw_all := lw_g (lw_at lw_m10 57 rfl) rfl
theorem q2301 : (Jvm.Cond.methodLink "LifeofficeLaw" (210 : Nat) ({ cls := "LifeofficeModel", name := "tellDeath", desc := "(II)J" } : Jvm.MethodName)) ∈ lw_all := lw_g (lw_at lw_m10 61 rfl) rfl
theorem q2321 : (Jvm.Cond.methodLink "LifeofficeLaw" (213 : Nat) ({ cls := "LifeofficeModel", name := "tellLate", desc := "(II)J" } : Jvm.MethodName)) ∈ lw_all := lw_g (lw_at lw_m10 81 rfl) rfl
theorem q2325 : (Jvm.Cond.methodLink "LifeofficeLaw" (216 : Nat) ({ cls := "LifeofficeModel", name := "tellSurrender", desc := "(I)J" } : Jvm.MethodName)) ∈ lw_all := lw_g (lw_at lw_m10 85 rfl) rfl
theorem q2329 : (Jvm.Cond.methodLink "LifeofficeLaw" (219 : Nat) ({ cls := "LifeofficeModel", name := "lapse", desc := "(I)J" } : Jvm.MethodName)) ∈ lw_all := lw_g (lw_at lw_m10 89 rfl) rfl
theorem q2333 : (Jvm.Cond.methodLink "LifeofficeLaw" (222 : Nat) ({ cls := "LifeofficeModel", name := "reinstate", desc := "(I)J" } : Jvm.MethodName)) ∈ lw_all := lw_g (lw_at lw_m10 93 rfl) rfl
theorem q2338 : (Jvm.Cond.methodLink "LifeofficeLaw" (225 : Nat) ({ cls := "LifeofficeModel", name := "setGuarantee", desc := "(II)I" } : Jvm.MethodName)) ∈ lw_all := lw_g (lw_at lw_m10 98 rfl) rfl
theorem q2342 : (Jvm.Cond.methodLink "LifeofficeLaw" (228 : Nat) ({ cls := "LifeofficeModel", name := "optionValue", desc := "(II)J" } : Jvm.MethodName)) ∈ lw_all := lw_g (lw_at lw_m10 102 rfl) rfl
theorem q2363 : (Jvm.Cond.methodLink "LifeofficeLaw" (231 : Nat) ({ cls := "LifeofficeModel", name := "byReserve", desc := "(I)I" } : Jvm.MethodName)) ∈ lw_all := lw_g (lw_at lw_m10 123 rfl) rfl
theorem q2367 : (Jvm.Cond.methodLink "LifeofficeLaw" (234 : Nat) ({ cls := "LifeofficeModel", name := "declare", desc := "(I)J" } : Jvm.MethodName)) ∈ lw_all := lw_g (lw_at lw_m10 127 rfl) rfl
theorem q2373 : (Jvm.Cond.methodLink "LifeofficeLaw" (237 : Nat) ({ cls := "LifeofficeModel", name := "setSmoothing", desc := "(I)I" } : Jvm.MethodName)) ∈ lw_all := lw_g (lw_at lw_m10 133 rfl) rfl
theorem q2377 : (Jvm.Cond.methodLink "LifeofficeLaw" (240 : Nat) ({ cls := "LifeofficeModel", name := "setFinal", desc := "(I)I" } : Jvm.MethodName)) ∈ lw_all := lw_g (lw_at lw_m10 137 rfl) rfl
theorem q2381 : (Jvm.Cond.methodLink "LifeofficeLaw" (244 : Nat) ({ cls := "LifeofficeModel", name := "buyBond", desc := "(III)I" } : Jvm.MethodName)) ∈ lw_all := lw_g (lw_at lw_m10 141 rfl) rfl
theorem q2385 : (Jvm.Cond.methodLink "LifeofficeLaw" (247 : Nat) ({ cls := "LifeofficeModel", name := "bondAt", desc := "(II)I" } : Jvm.MethodName)) ∈ lw_all := lw_g (lw_at lw_m10 145 rfl) rfl
theorem q2389 : (Jvm.Cond.methodLink "LifeofficeLaw" (250 : Nat) ({ cls := "LifeofficeModel", name := "defaults", desc := "(II)I" } : Jvm.MethodName)) ∈ lw_all := lw_g (lw_at lw_m10 149 rfl) rfl
theorem q2393 : (Jvm.Cond.methodLink "LifeofficeLaw" (253 : Nat) ({ cls := "LifeofficeModel", name := "setReinsurance", desc := "(II)I" } : Jvm.MethodName)) ∈ lw_all := lw_g (lw_at lw_m10 153 rfl) rfl
theorem q2397 : (Jvm.Cond.methodLink "LifeofficeLaw" (256 : Nat) ({ cls := "LifeofficeModel", name := "closeYear", desc := "(II)J" } : Jvm.MethodName)) ∈ lw_all := lw_g (lw_at lw_m10 157 rfl) rfl
theorem q2439 : (Jvm.Cond.methodLink "LifeofficeLaw" (259 : Nat) ({ cls := "LifeofficeModel", name := "surplus", desc := "(I)J" } : Jvm.MethodName)) ∈ lw_all := lw_g (lw_at lw_m10 199 rfl) rfl
theorem q2444 : (Jvm.Cond.methodLink "LifeofficeLaw" (262 : Nat) ({ cls := "LifeofficeModel", name := "experience", desc := "(I)J" } : Jvm.MethodName)) ∈ lw_all := lw_g (lw_at lw_m10 204 rfl) rfl
theorem q2460 : (Jvm.Cond.methodLink "LifeofficeLaw" (266 : Nat) ({ cls := "LifeofficeModel", name := "adopt", desc := "()I" } : Jvm.MethodName)) ∈ lw_all := lw_g (lw_at lw_m10 220 rfl) rfl
theorem q2464 : (Jvm.Cond.methodLink "LifeofficeLaw" (269 : Nat) ({ cls := "LifeofficeModel", name := "expectedPayments", desc := "(I)J" } : Jvm.MethodName)) ∈ lw_all := lw_g (lw_at lw_m10 224 rfl) rfl
theorem q2477 : (Jvm.Cond.methodLink "LifeofficeLaw" (272 : Nat) ({ cls := "LifeofficeModel", name := "bondPayments", desc := "(I)J" } : Jvm.MethodName)) ∈ lw_all := lw_g (lw_at lw_m10 237 rfl) rfl
theorem q2485 : (Jvm.Cond.methodLink "LifeofficeLaw" (276 : Nat) ({ cls := "LifeofficeModel", name := "firstShort", desc := "()I" } : Jvm.MethodName)) ∈ lw_all := lw_g (lw_at lw_m11 5 rfl) rfl
theorem q2489 : (Jvm.Cond.methodLink "LifeofficeLaw" (280 : Nat) ({ cls := "LifeofficeModel", name := "close", desc := "()I" } : Jvm.MethodName)) ∈ lw_all := lw_g (lw_at lw_m11 9 rfl) rfl
theorem q2497 : (Jvm.Cond.methodLink "LifeofficeLaw" (283 : Nat) ({ cls := "LifeofficeModel", name := "distribute", desc := "(I)J" } : Jvm.MethodName)) ∈ lw_all := lw_g (lw_at lw_m11 17 rfl) rfl
theorem q2501 : (Jvm.Cond.methodLink "LifeofficeLaw" (286 : Nat) ({ cls := "LifeofficeModel", name := "generation", desc := "(II)J" } : Jvm.MethodName)) ∈ lw_all := lw_g (lw_at lw_m11 21 rfl) rfl
theorem q2505 : (Jvm.Cond.methodLink "LifeofficeLaw" (290 : Nat) ({ cls := "LifeofficeModel", name := "errors", desc := "()I" } : Jvm.MethodName)) ∈ lw_all := lw_g (lw_at lw_m11 25 rfl) rfl
theorem q2509 : (Jvm.Cond.methodLink "LifeofficeLaw" (295 : Nat) ({ cls := "LifeofficeModel", name := "cover", desc := "()D" } : Jvm.MethodName)) ∈ lw_all := lw_g (lw_at lw_m11 29 rfl) rfl
theorem q2513 : (Jvm.Cond.methodLink "LifeofficeLaw" (300 : Nat) ({ cls := "LifeofficeModel", name := "meanAge", desc := "()F" } : Jvm.MethodName)) ∈ lw_all := lw_g (lw_at lw_m11 33 rfl) rfl
