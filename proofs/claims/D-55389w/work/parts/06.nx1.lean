/-! MustardMillLaw -/
set_option maxRecDepth 100000
def RX0 : String := "MustardMillLaw"
abbrev cX0_buy : ByteArray := method_3_code
def yX0_buy : MethodName := ⟨RX0, "buy", "(LMustardMill;II[J)I"⟩
def dkwX0_buy_0 : List UInt8 := [45, 3, 42, 27, 28, 182, 0, 7, 133, 80, 167, 0, 11, 58, 4, 4, 172, 58, 4, 5, 172, 3, 172]
abbrev dktX0_buy_0 : List UInt8 := dkwX0_buy_0 ++ []
theorem dksX0_buy_0 : cX0_buy.data.toList.drop 0 = dktX0_buy_0 := by decide +kernel
theorem dX0_buy_0 : decode cX0_buy 0 = .ok (.aload_n 3, 1) := dk_45 (dk_at dksX0_buy_0 0 rfl rfl)
theorem dX0_buy_1 : decode cX0_buy 1 = .ok (.iconst 0, 1) := dk_3 (dk_at dksX0_buy_0 1 rfl rfl)
theorem dX0_buy_2 : decode cX0_buy 2 = .ok (.aload_n 0, 1) := dk_42 (dk_at dksX0_buy_0 2 rfl rfl)
theorem dX0_buy_3 : decode cX0_buy 3 = .ok (.iload_n 1, 1) := dk_27 (dk_at dksX0_buy_0 3 rfl rfl)
theorem dX0_buy_4 : decode cX0_buy 4 = .ok (.iload_n 2, 1) := dk_28 (dk_at dksX0_buy_0 4 rfl rfl)
theorem dX0_buy_5 : decode cX0_buy 5 = .ok (.invokevirtual 7, 3) := dk_182 0 7 (dk_at dksX0_buy_0 5 rfl rfl)
theorem dX0_buy_8 : decode cX0_buy 8 = .ok (.i2l, 1) := dk_133 (dk_at dksX0_buy_0 8 rfl rfl)
theorem dX0_buy_9 : decode cX0_buy 9 = .ok (.lastore, 1) := dk_80 (dk_at dksX0_buy_0 9 rfl rfl)
theorem dX0_buy_10 : decode cX0_buy 10 = .ok (.goto 11, 3) := dk_167 0 11 (dk_at dksX0_buy_0 10 rfl rfl)
theorem dX0_buy_13 : decode cX0_buy 13 = .ok (.astore 4, 2) := dk_58 4 (dk_at dksX0_buy_0 13 rfl rfl)
theorem dX0_buy_15 : decode cX0_buy 15 = .ok (.iconst 1, 1) := dk_4 (dk_at dksX0_buy_0 15 rfl rfl)
theorem dX0_buy_16 : decode cX0_buy 16 = .ok (.ireturn, 1) := dk_172 (dk_at dksX0_buy_0 16 rfl rfl)
theorem dX0_buy_17 : decode cX0_buy 17 = .ok (.astore 4, 2) := dk_58 4 (dk_at dksX0_buy_0 17 rfl rfl)
theorem dX0_buy_19 : decode cX0_buy 19 = .ok (.iconst 2, 1) := dk_5 (dk_at dksX0_buy_0 19 rfl rfl)
theorem dX0_buy_20 : decode cX0_buy 20 = .ok (.ireturn, 1) := dk_172 (dk_at dksX0_buy_0 20 rfl rfl)
theorem dX0_buy_21 : decode cX0_buy 21 = .ok (.iconst 0, 1) := dk_3 (dk_at dksX0_buy_0 21 rfl rfl)
theorem dX0_buy_22 : decode cX0_buy 22 = .ok (.ireturn, 1) := dk_172 (dk_at dksX0_buy_0 22 rfl rfl)
abbrev cX0_quernOf : ByteArray := method_4_code
def yX0_quernOf : MethodName := ⟨RX0, "quernOf", "(LMustardMill;II[J)I"⟩
def dkwX0_quernOf_0 : List UInt8 := [45, 3, 42, 27, 28, 182, 0, 17, 133, 80, 167, 0, 11, 58, 4, 4, 172, 58, 4, 5, 172, 3, 172]
abbrev dktX0_quernOf_0 : List UInt8 := dkwX0_quernOf_0 ++ []
theorem dksX0_quernOf_0 : cX0_quernOf.data.toList.drop 0 = dktX0_quernOf_0 := by decide +kernel
theorem dX0_quernOf_0 : decode cX0_quernOf 0 = .ok (.aload_n 3, 1) := dk_45 (dk_at dksX0_quernOf_0 0 rfl rfl)
theorem dX0_quernOf_1 : decode cX0_quernOf 1 = .ok (.iconst 0, 1) := dk_3 (dk_at dksX0_quernOf_0 1 rfl rfl)
theorem dX0_quernOf_2 : decode cX0_quernOf 2 = .ok (.aload_n 0, 1) := dk_42 (dk_at dksX0_quernOf_0 2 rfl rfl)
theorem dX0_quernOf_3 : decode cX0_quernOf 3 = .ok (.iload_n 1, 1) := dk_27 (dk_at dksX0_quernOf_0 3 rfl rfl)
theorem dX0_quernOf_4 : decode cX0_quernOf 4 = .ok (.iload_n 2, 1) := dk_28 (dk_at dksX0_quernOf_0 4 rfl rfl)
theorem dX0_quernOf_5 : decode cX0_quernOf 5 = .ok (.invokevirtual 17, 3) := dk_182 0 17 (dk_at dksX0_quernOf_0 5 rfl rfl)
theorem dX0_quernOf_8 : decode cX0_quernOf 8 = .ok (.i2l, 1) := dk_133 (dk_at dksX0_quernOf_0 8 rfl rfl)
theorem dX0_quernOf_9 : decode cX0_quernOf 9 = .ok (.lastore, 1) := dk_80 (dk_at dksX0_quernOf_0 9 rfl rfl)
theorem dX0_quernOf_10 : decode cX0_quernOf 10 = .ok (.goto 11, 3) := dk_167 0 11 (dk_at dksX0_quernOf_0 10 rfl rfl)
theorem dX0_quernOf_13 : decode cX0_quernOf 13 = .ok (.astore 4, 2) := dk_58 4 (dk_at dksX0_quernOf_0 13 rfl rfl)
theorem dX0_quernOf_15 : decode cX0_quernOf 15 = .ok (.iconst 1, 1) := dk_4 (dk_at dksX0_quernOf_0 15 rfl rfl)
theorem dX0_quernOf_16 : decode cX0_quernOf 16 = .ok (.ireturn, 1) := dk_172 (dk_at dksX0_quernOf_0 16 rfl rfl)
theorem dX0_quernOf_17 : decode cX0_quernOf 17 = .ok (.astore 4, 2) := dk_58 4 (dk_at dksX0_quernOf_0 17 rfl rfl)
theorem dX0_quernOf_19 : decode cX0_quernOf 19 = .ok (.iconst 2, 1) := dk_5 (dk_at dksX0_quernOf_0 19 rfl rfl)
theorem dX0_quernOf_20 : decode cX0_quernOf 20 = .ok (.ireturn, 1) := dk_172 (dk_at dksX0_quernOf_0 20 rfl rfl)
theorem dX0_quernOf_21 : decode cX0_quernOf 21 = .ok (.iconst 0, 1) := dk_3 (dk_at dksX0_quernOf_0 21 rfl rfl)
theorem dX0_quernOf_22 : decode cX0_quernOf 22 = .ok (.ireturn, 1) := dk_172 (dk_at dksX0_quernOf_0 22 rfl rfl)
abbrev cX0_dress : ByteArray := method_5_code
def yX0_dress : MethodName := ⟨RX0, "dress", "(LMustardMill;I[J)I"⟩
def dkwX0_dress_0 : List UInt8 := [44, 3, 42, 27, 182, 0, 22, 133, 80, 167, 0, 9, 78, 4, 172, 78, 5, 172, 3, 172]
abbrev dktX0_dress_0 : List UInt8 := dkwX0_dress_0 ++ []
theorem dksX0_dress_0 : cX0_dress.data.toList.drop 0 = dktX0_dress_0 := by decide +kernel
theorem dX0_dress_0 : decode cX0_dress 0 = .ok (.aload_n 2, 1) := dk_44 (dk_at dksX0_dress_0 0 rfl rfl)
theorem dX0_dress_1 : decode cX0_dress 1 = .ok (.iconst 0, 1) := dk_3 (dk_at dksX0_dress_0 1 rfl rfl)
theorem dX0_dress_2 : decode cX0_dress 2 = .ok (.aload_n 0, 1) := dk_42 (dk_at dksX0_dress_0 2 rfl rfl)
theorem dX0_dress_3 : decode cX0_dress 3 = .ok (.iload_n 1, 1) := dk_27 (dk_at dksX0_dress_0 3 rfl rfl)
theorem dX0_dress_4 : decode cX0_dress 4 = .ok (.invokevirtual 22, 3) := dk_182 0 22 (dk_at dksX0_dress_0 4 rfl rfl)
theorem dX0_dress_7 : decode cX0_dress 7 = .ok (.i2l, 1) := dk_133 (dk_at dksX0_dress_0 7 rfl rfl)
theorem dX0_dress_8 : decode cX0_dress 8 = .ok (.lastore, 1) := dk_80 (dk_at dksX0_dress_0 8 rfl rfl)
theorem dX0_dress_9 : decode cX0_dress 9 = .ok (.goto 9, 3) := dk_167 0 9 (dk_at dksX0_dress_0 9 rfl rfl)
theorem dX0_dress_12 : decode cX0_dress 12 = .ok (.astore_n 3, 1) := dk_78 (dk_at dksX0_dress_0 12 rfl rfl)
theorem dX0_dress_13 : decode cX0_dress 13 = .ok (.iconst 1, 1) := dk_4 (dk_at dksX0_dress_0 13 rfl rfl)
theorem dX0_dress_14 : decode cX0_dress 14 = .ok (.ireturn, 1) := dk_172 (dk_at dksX0_dress_0 14 rfl rfl)
theorem dX0_dress_15 : decode cX0_dress 15 = .ok (.astore_n 3, 1) := dk_78 (dk_at dksX0_dress_0 15 rfl rfl)
theorem dX0_dress_16 : decode cX0_dress 16 = .ok (.iconst 2, 1) := dk_5 (dk_at dksX0_dress_0 16 rfl rfl)
theorem dX0_dress_17 : decode cX0_dress 17 = .ok (.ireturn, 1) := dk_172 (dk_at dksX0_dress_0 17 rfl rfl)
theorem dX0_dress_18 : decode cX0_dress 18 = .ok (.iconst 0, 1) := dk_3 (dk_at dksX0_dress_0 18 rfl rfl)
theorem dX0_dress_19 : decode cX0_dress 19 = .ok (.ireturn, 1) := dk_172 (dk_at dksX0_dress_0 19 rfl rfl)
abbrev cX0_grind : ByteArray := method_6_code
def yX0_grind : MethodName := ⟨RX0, "grind", "(LMustardMill;IIII[J)I"⟩
def dkwX0_grind_1 : List UInt8 := [172, 58, 6, 6, 172, 3, 172]
abbrev dktX0_grind_1 : List UInt8 := dkwX0_grind_1 ++ []
def dkwX0_grind_0 : List UInt8 := [25, 5, 3, 42, 27, 28, 29, 21, 4, 182, 0, 26, 133, 80, 167, 0, 15, 58, 6, 4, 172, 58, 6, 5]
abbrev dktX0_grind_0 : List UInt8 := dkwX0_grind_0 ++ dktX0_grind_1
theorem dksX0_grind_0 : cX0_grind.data.toList.drop 0 = dktX0_grind_0 := by decide +kernel
theorem dksX0_grind_1 : cX0_grind.data.toList.drop 24 = dktX0_grind_1 := dk_seg dksX0_grind_0 24 rfl rfl
theorem dX0_grind_0 : decode cX0_grind 0 = .ok (.aload 5, 2) := dk_25 5 (dk_at dksX0_grind_0 0 rfl rfl)
theorem dX0_grind_2 : decode cX0_grind 2 = .ok (.iconst 0, 1) := dk_3 (dk_at dksX0_grind_0 2 rfl rfl)
theorem dX0_grind_3 : decode cX0_grind 3 = .ok (.aload_n 0, 1) := dk_42 (dk_at dksX0_grind_0 3 rfl rfl)
theorem dX0_grind_4 : decode cX0_grind 4 = .ok (.iload_n 1, 1) := dk_27 (dk_at dksX0_grind_0 4 rfl rfl)
theorem dX0_grind_5 : decode cX0_grind 5 = .ok (.iload_n 2, 1) := dk_28 (dk_at dksX0_grind_0 5 rfl rfl)
theorem dX0_grind_6 : decode cX0_grind 6 = .ok (.iload_n 3, 1) := dk_29 (dk_at dksX0_grind_0 6 rfl rfl)
theorem dX0_grind_7 : decode cX0_grind 7 = .ok (.iload 4, 2) := dk_21 4 (dk_at dksX0_grind_0 7 rfl rfl)
theorem dX0_grind_9 : decode cX0_grind 9 = .ok (.invokevirtual 26, 3) := dk_182 0 26 (dk_at dksX0_grind_0 9 rfl rfl)
theorem dX0_grind_12 : decode cX0_grind 12 = .ok (.i2l, 1) := dk_133 (dk_at dksX0_grind_0 12 rfl rfl)
theorem dX0_grind_13 : decode cX0_grind 13 = .ok (.lastore, 1) := dk_80 (dk_at dksX0_grind_0 13 rfl rfl)
theorem dX0_grind_14 : decode cX0_grind 14 = .ok (.goto 15, 3) := dk_167 0 15 (dk_at dksX0_grind_0 14 rfl rfl)
theorem dX0_grind_17 : decode cX0_grind 17 = .ok (.astore 6, 2) := dk_58 6 (dk_at dksX0_grind_0 17 rfl rfl)
theorem dX0_grind_19 : decode cX0_grind 19 = .ok (.iconst 1, 1) := dk_4 (dk_at dksX0_grind_0 19 rfl rfl)
theorem dX0_grind_20 : decode cX0_grind 20 = .ok (.ireturn, 1) := dk_172 (dk_at dksX0_grind_0 20 rfl rfl)
theorem dX0_grind_21 : decode cX0_grind 21 = .ok (.astore 6, 2) := dk_58 6 (dk_at dksX0_grind_0 21 rfl rfl)
theorem dX0_grind_23 : decode cX0_grind 23 = .ok (.iconst 2, 1) := dk_5 (dk_at dksX0_grind_0 23 rfl rfl)
theorem dX0_grind_24 : decode cX0_grind 24 = .ok (.ireturn, 1) := dk_172 (dk_at dksX0_grind_1 0 rfl rfl)
theorem dX0_grind_25 : decode cX0_grind 25 = .ok (.astore 6, 2) := dk_58 6 (dk_at dksX0_grind_1 1 rfl rfl)
theorem dX0_grind_27 : decode cX0_grind 27 = .ok (.iconst 3, 1) := dk_6 (dk_at dksX0_grind_1 3 rfl rfl)
theorem dX0_grind_28 : decode cX0_grind 28 = .ok (.ireturn, 1) := dk_172 (dk_at dksX0_grind_1 4 rfl rfl)
theorem dX0_grind_29 : decode cX0_grind 29 = .ok (.iconst 0, 1) := dk_3 (dk_at dksX0_grind_1 5 rfl rfl)
theorem dX0_grind_30 : decode cX0_grind 30 = .ok (.ireturn, 1) := dk_172 (dk_at dksX0_grind_1 6 rfl rfl)
abbrev cX0_biteOf : ByteArray := method_7_code
def yX0_biteOf : MethodName := ⟨RX0, "biteOf", "(LMustardMill;IIII[J)I"⟩
def dkwX0_biteOf_1 : List UInt8 := [172, 3, 172]
abbrev dktX0_biteOf_1 : List UInt8 := dkwX0_biteOf_1 ++ []
def dkwX0_biteOf_0 : List UInt8 := [25, 5, 3, 42, 27, 28, 29, 21, 4, 182, 0, 30, 133, 80, 167, 0, 11, 58, 6, 4, 172, 58, 6, 5]
abbrev dktX0_biteOf_0 : List UInt8 := dkwX0_biteOf_0 ++ dktX0_biteOf_1
theorem dksX0_biteOf_0 : cX0_biteOf.data.toList.drop 0 = dktX0_biteOf_0 := by decide +kernel
theorem dksX0_biteOf_1 : cX0_biteOf.data.toList.drop 24 = dktX0_biteOf_1 := dk_seg dksX0_biteOf_0 24 rfl rfl
theorem dX0_biteOf_0 : decode cX0_biteOf 0 = .ok (.aload 5, 2) := dk_25 5 (dk_at dksX0_biteOf_0 0 rfl rfl)
theorem dX0_biteOf_2 : decode cX0_biteOf 2 = .ok (.iconst 0, 1) := dk_3 (dk_at dksX0_biteOf_0 2 rfl rfl)
theorem dX0_biteOf_3 : decode cX0_biteOf 3 = .ok (.aload_n 0, 1) := dk_42 (dk_at dksX0_biteOf_0 3 rfl rfl)
theorem dX0_biteOf_4 : decode cX0_biteOf 4 = .ok (.iload_n 1, 1) := dk_27 (dk_at dksX0_biteOf_0 4 rfl rfl)
theorem dX0_biteOf_5 : decode cX0_biteOf 5 = .ok (.iload_n 2, 1) := dk_28 (dk_at dksX0_biteOf_0 5 rfl rfl)
theorem dX0_biteOf_6 : decode cX0_biteOf 6 = .ok (.iload_n 3, 1) := dk_29 (dk_at dksX0_biteOf_0 6 rfl rfl)
theorem dX0_biteOf_7 : decode cX0_biteOf 7 = .ok (.iload 4, 2) := dk_21 4 (dk_at dksX0_biteOf_0 7 rfl rfl)
theorem dX0_biteOf_9 : decode cX0_biteOf 9 = .ok (.invokevirtual 30, 3) := dk_182 0 30 (dk_at dksX0_biteOf_0 9 rfl rfl)
theorem dX0_biteOf_12 : decode cX0_biteOf 12 = .ok (.i2l, 1) := dk_133 (dk_at dksX0_biteOf_0 12 rfl rfl)
theorem dX0_biteOf_13 : decode cX0_biteOf 13 = .ok (.lastore, 1) := dk_80 (dk_at dksX0_biteOf_0 13 rfl rfl)
theorem dX0_biteOf_14 : decode cX0_biteOf 14 = .ok (.goto 11, 3) := dk_167 0 11 (dk_at dksX0_biteOf_0 14 rfl rfl)
theorem dX0_biteOf_17 : decode cX0_biteOf 17 = .ok (.astore 6, 2) := dk_58 6 (dk_at dksX0_biteOf_0 17 rfl rfl)
theorem dX0_biteOf_19 : decode cX0_biteOf 19 = .ok (.iconst 1, 1) := dk_4 (dk_at dksX0_biteOf_0 19 rfl rfl)
theorem dX0_biteOf_20 : decode cX0_biteOf 20 = .ok (.ireturn, 1) := dk_172 (dk_at dksX0_biteOf_0 20 rfl rfl)
theorem dX0_biteOf_21 : decode cX0_biteOf 21 = .ok (.astore 6, 2) := dk_58 6 (dk_at dksX0_biteOf_0 21 rfl rfl)
theorem dX0_biteOf_23 : decode cX0_biteOf 23 = .ok (.iconst 2, 1) := dk_5 (dk_at dksX0_biteOf_0 23 rfl rfl)
theorem dX0_biteOf_24 : decode cX0_biteOf 24 = .ok (.ireturn, 1) := dk_172 (dk_at dksX0_biteOf_1 0 rfl rfl)
theorem dX0_biteOf_25 : decode cX0_biteOf 25 = .ok (.iconst 0, 1) := dk_3 (dk_at dksX0_biteOf_1 1 rfl rfl)
theorem dX0_biteOf_26 : decode cX0_biteOf 26 = .ok (.ireturn, 1) := dk_172 (dk_at dksX0_biteOf_1 2 rfl rfl)
abbrev cX0_mix : ByteArray := method_8_code
def yX0_mix : MethodName := ⟨RX0, "mix", "(LMustardMill;II[J)I"⟩
def dkwX0_mix_1 : List UInt8 := [172, 3, 172]
abbrev dktX0_mix_1 : List UInt8 := dkwX0_mix_1 ++ []
def dkwX0_mix_0 : List UInt8 := [45, 3, 42, 27, 28, 182, 0, 33, 133, 80, 167, 0, 15, 58, 4, 4, 172, 58, 4, 5, 172, 58, 4, 6]
abbrev dktX0_mix_0 : List UInt8 := dkwX0_mix_0 ++ dktX0_mix_1
theorem dksX0_mix_0 : cX0_mix.data.toList.drop 0 = dktX0_mix_0 := by decide +kernel
theorem dksX0_mix_1 : cX0_mix.data.toList.drop 24 = dktX0_mix_1 := dk_seg dksX0_mix_0 24 rfl rfl
theorem dX0_mix_0 : decode cX0_mix 0 = .ok (.aload_n 3, 1) := dk_45 (dk_at dksX0_mix_0 0 rfl rfl)
theorem dX0_mix_1 : decode cX0_mix 1 = .ok (.iconst 0, 1) := dk_3 (dk_at dksX0_mix_0 1 rfl rfl)
theorem dX0_mix_2 : decode cX0_mix 2 = .ok (.aload_n 0, 1) := dk_42 (dk_at dksX0_mix_0 2 rfl rfl)
theorem dX0_mix_3 : decode cX0_mix 3 = .ok (.iload_n 1, 1) := dk_27 (dk_at dksX0_mix_0 3 rfl rfl)
theorem dX0_mix_4 : decode cX0_mix 4 = .ok (.iload_n 2, 1) := dk_28 (dk_at dksX0_mix_0 4 rfl rfl)
theorem dX0_mix_5 : decode cX0_mix 5 = .ok (.invokevirtual 33, 3) := dk_182 0 33 (dk_at dksX0_mix_0 5 rfl rfl)
theorem dX0_mix_8 : decode cX0_mix 8 = .ok (.i2l, 1) := dk_133 (dk_at dksX0_mix_0 8 rfl rfl)
theorem dX0_mix_9 : decode cX0_mix 9 = .ok (.lastore, 1) := dk_80 (dk_at dksX0_mix_0 9 rfl rfl)
theorem dX0_mix_10 : decode cX0_mix 10 = .ok (.goto 15, 3) := dk_167 0 15 (dk_at dksX0_mix_0 10 rfl rfl)
theorem dX0_mix_13 : decode cX0_mix 13 = .ok (.astore 4, 2) := dk_58 4 (dk_at dksX0_mix_0 13 rfl rfl)
theorem dX0_mix_15 : decode cX0_mix 15 = .ok (.iconst 1, 1) := dk_4 (dk_at dksX0_mix_0 15 rfl rfl)
theorem dX0_mix_16 : decode cX0_mix 16 = .ok (.ireturn, 1) := dk_172 (dk_at dksX0_mix_0 16 rfl rfl)
theorem dX0_mix_17 : decode cX0_mix 17 = .ok (.astore 4, 2) := dk_58 4 (dk_at dksX0_mix_0 17 rfl rfl)
theorem dX0_mix_19 : decode cX0_mix 19 = .ok (.iconst 2, 1) := dk_5 (dk_at dksX0_mix_0 19 rfl rfl)
theorem dX0_mix_20 : decode cX0_mix 20 = .ok (.ireturn, 1) := dk_172 (dk_at dksX0_mix_0 20 rfl rfl)
theorem dX0_mix_21 : decode cX0_mix 21 = .ok (.astore 4, 2) := dk_58 4 (dk_at dksX0_mix_0 21 rfl rfl)
theorem dX0_mix_23 : decode cX0_mix 23 = .ok (.iconst 3, 1) := dk_6 (dk_at dksX0_mix_0 23 rfl rfl)
theorem dX0_mix_24 : decode cX0_mix 24 = .ok (.ireturn, 1) := dk_172 (dk_at dksX0_mix_1 0 rfl rfl)
theorem dX0_mix_25 : decode cX0_mix 25 = .ok (.iconst 0, 1) := dk_3 (dk_at dksX0_mix_1 1 rfl rfl)
theorem dX0_mix_26 : decode cX0_mix 26 = .ok (.ireturn, 1) := dk_172 (dk_at dksX0_mix_1 2 rfl rfl)
abbrev cX0_batchOf : ByteArray := method_9_code
def yX0_batchOf : MethodName := ⟨RX0, "batchOf", "(LMustardMill;II[J)I"⟩
def dkwX0_batchOf_0 : List UInt8 := [45, 3, 42, 27, 28, 182, 0, 36, 133, 80, 167, 0, 11, 58, 4, 4, 172, 58, 4, 5, 172, 3, 172]
abbrev dktX0_batchOf_0 : List UInt8 := dkwX0_batchOf_0 ++ []
theorem dksX0_batchOf_0 : cX0_batchOf.data.toList.drop 0 = dktX0_batchOf_0 := by decide +kernel
theorem dX0_batchOf_0 : decode cX0_batchOf 0 = .ok (.aload_n 3, 1) := dk_45 (dk_at dksX0_batchOf_0 0 rfl rfl)
theorem dX0_batchOf_1 : decode cX0_batchOf 1 = .ok (.iconst 0, 1) := dk_3 (dk_at dksX0_batchOf_0 1 rfl rfl)
theorem dX0_batchOf_2 : decode cX0_batchOf 2 = .ok (.aload_n 0, 1) := dk_42 (dk_at dksX0_batchOf_0 2 rfl rfl)
theorem dX0_batchOf_3 : decode cX0_batchOf 3 = .ok (.iload_n 1, 1) := dk_27 (dk_at dksX0_batchOf_0 3 rfl rfl)
theorem dX0_batchOf_4 : decode cX0_batchOf 4 = .ok (.iload_n 2, 1) := dk_28 (dk_at dksX0_batchOf_0 4 rfl rfl)
theorem dX0_batchOf_5 : decode cX0_batchOf 5 = .ok (.invokevirtual 36, 3) := dk_182 0 36 (dk_at dksX0_batchOf_0 5 rfl rfl)
theorem dX0_batchOf_8 : decode cX0_batchOf 8 = .ok (.i2l, 1) := dk_133 (dk_at dksX0_batchOf_0 8 rfl rfl)
theorem dX0_batchOf_9 : decode cX0_batchOf 9 = .ok (.lastore, 1) := dk_80 (dk_at dksX0_batchOf_0 9 rfl rfl)
theorem dX0_batchOf_10 : decode cX0_batchOf 10 = .ok (.goto 11, 3) := dk_167 0 11 (dk_at dksX0_batchOf_0 10 rfl rfl)
theorem dX0_batchOf_13 : decode cX0_batchOf 13 = .ok (.astore 4, 2) := dk_58 4 (dk_at dksX0_batchOf_0 13 rfl rfl)
theorem dX0_batchOf_15 : decode cX0_batchOf 15 = .ok (.iconst 1, 1) := dk_4 (dk_at dksX0_batchOf_0 15 rfl rfl)
theorem dX0_batchOf_16 : decode cX0_batchOf 16 = .ok (.ireturn, 1) := dk_172 (dk_at dksX0_batchOf_0 16 rfl rfl)
theorem dX0_batchOf_17 : decode cX0_batchOf 17 = .ok (.astore 4, 2) := dk_58 4 (dk_at dksX0_batchOf_0 17 rfl rfl)
theorem dX0_batchOf_19 : decode cX0_batchOf 19 = .ok (.iconst 2, 1) := dk_5 (dk_at dksX0_batchOf_0 19 rfl rfl)
theorem dX0_batchOf_20 : decode cX0_batchOf 20 = .ok (.ireturn, 1) := dk_172 (dk_at dksX0_batchOf_0 20 rfl rfl)
theorem dX0_batchOf_21 : decode cX0_batchOf 21 = .ok (.iconst 0, 1) := dk_3 (dk_at dksX0_batchOf_0 21 rfl rfl)
theorem dX0_batchOf_22 : decode cX0_batchOf 22 = .ok (.ireturn, 1) := dk_172 (dk_at dksX0_batchOf_0 22 rfl rfl)
abbrev cX0_jar : ByteArray := method_10_code
def yX0_jar : MethodName := ⟨RX0, "jar", "(LMustardMill;II[J)I"⟩
def dkwX0_jar_1 : List UInt8 := [172, 3, 172]
abbrev dktX0_jar_1 : List UInt8 := dkwX0_jar_1 ++ []
def dkwX0_jar_0 : List UInt8 := [45, 3, 42, 27, 28, 182, 0, 39, 133, 80, 167, 0, 15, 58, 4, 4, 172, 58, 4, 5, 172, 58, 4, 6]
abbrev dktX0_jar_0 : List UInt8 := dkwX0_jar_0 ++ dktX0_jar_1
theorem dksX0_jar_0 : cX0_jar.data.toList.drop 0 = dktX0_jar_0 := by decide +kernel
theorem dksX0_jar_1 : cX0_jar.data.toList.drop 24 = dktX0_jar_1 := dk_seg dksX0_jar_0 24 rfl rfl
theorem dX0_jar_0 : decode cX0_jar 0 = .ok (.aload_n 3, 1) := dk_45 (dk_at dksX0_jar_0 0 rfl rfl)
theorem dX0_jar_1 : decode cX0_jar 1 = .ok (.iconst 0, 1) := dk_3 (dk_at dksX0_jar_0 1 rfl rfl)
theorem dX0_jar_2 : decode cX0_jar 2 = .ok (.aload_n 0, 1) := dk_42 (dk_at dksX0_jar_0 2 rfl rfl)
theorem dX0_jar_3 : decode cX0_jar 3 = .ok (.iload_n 1, 1) := dk_27 (dk_at dksX0_jar_0 3 rfl rfl)
theorem dX0_jar_4 : decode cX0_jar 4 = .ok (.iload_n 2, 1) := dk_28 (dk_at dksX0_jar_0 4 rfl rfl)
theorem dX0_jar_5 : decode cX0_jar 5 = .ok (.invokevirtual 39, 3) := dk_182 0 39 (dk_at dksX0_jar_0 5 rfl rfl)
theorem dX0_jar_8 : decode cX0_jar 8 = .ok (.i2l, 1) := dk_133 (dk_at dksX0_jar_0 8 rfl rfl)
theorem dX0_jar_9 : decode cX0_jar 9 = .ok (.lastore, 1) := dk_80 (dk_at dksX0_jar_0 9 rfl rfl)
theorem dX0_jar_10 : decode cX0_jar 10 = .ok (.goto 15, 3) := dk_167 0 15 (dk_at dksX0_jar_0 10 rfl rfl)
theorem dX0_jar_13 : decode cX0_jar 13 = .ok (.astore 4, 2) := dk_58 4 (dk_at dksX0_jar_0 13 rfl rfl)
theorem dX0_jar_15 : decode cX0_jar 15 = .ok (.iconst 1, 1) := dk_4 (dk_at dksX0_jar_0 15 rfl rfl)
theorem dX0_jar_16 : decode cX0_jar 16 = .ok (.ireturn, 1) := dk_172 (dk_at dksX0_jar_0 16 rfl rfl)
theorem dX0_jar_17 : decode cX0_jar 17 = .ok (.astore 4, 2) := dk_58 4 (dk_at dksX0_jar_0 17 rfl rfl)
theorem dX0_jar_19 : decode cX0_jar 19 = .ok (.iconst 2, 1) := dk_5 (dk_at dksX0_jar_0 19 rfl rfl)
theorem dX0_jar_20 : decode cX0_jar 20 = .ok (.ireturn, 1) := dk_172 (dk_at dksX0_jar_0 20 rfl rfl)
theorem dX0_jar_21 : decode cX0_jar 21 = .ok (.astore 4, 2) := dk_58 4 (dk_at dksX0_jar_0 21 rfl rfl)
theorem dX0_jar_23 : decode cX0_jar 23 = .ok (.iconst 3, 1) := dk_6 (dk_at dksX0_jar_0 23 rfl rfl)
theorem dX0_jar_24 : decode cX0_jar 24 = .ok (.ireturn, 1) := dk_172 (dk_at dksX0_jar_1 0 rfl rfl)
theorem dX0_jar_25 : decode cX0_jar 25 = .ok (.iconst 0, 1) := dk_3 (dk_at dksX0_jar_1 1 rfl rfl)
theorem dX0_jar_26 : decode cX0_jar 26 = .ok (.ireturn, 1) := dk_172 (dk_at dksX0_jar_1 2 rfl rfl)
abbrev cX0_open : ByteArray := method_11_code
def yX0_open : MethodName := ⟨RX0, "open", "(LMustardMill;I[J)I"⟩
def dkwX0_open_0 : List UInt8 := [44, 3, 42, 27, 182, 0, 42, 133, 80, 167, 0, 9, 78, 4, 172, 78, 5, 172, 3, 172]
abbrev dktX0_open_0 : List UInt8 := dkwX0_open_0 ++ []
theorem dksX0_open_0 : cX0_open.data.toList.drop 0 = dktX0_open_0 := by decide +kernel
theorem dX0_open_0 : decode cX0_open 0 = .ok (.aload_n 2, 1) := dk_44 (dk_at dksX0_open_0 0 rfl rfl)
theorem dX0_open_1 : decode cX0_open 1 = .ok (.iconst 0, 1) := dk_3 (dk_at dksX0_open_0 1 rfl rfl)
theorem dX0_open_2 : decode cX0_open 2 = .ok (.aload_n 0, 1) := dk_42 (dk_at dksX0_open_0 2 rfl rfl)
theorem dX0_open_3 : decode cX0_open 3 = .ok (.iload_n 1, 1) := dk_27 (dk_at dksX0_open_0 3 rfl rfl)
theorem dX0_open_4 : decode cX0_open 4 = .ok (.invokevirtual 42, 3) := dk_182 0 42 (dk_at dksX0_open_0 4 rfl rfl)
theorem dX0_open_7 : decode cX0_open 7 = .ok (.i2l, 1) := dk_133 (dk_at dksX0_open_0 7 rfl rfl)
theorem dX0_open_8 : decode cX0_open 8 = .ok (.lastore, 1) := dk_80 (dk_at dksX0_open_0 8 rfl rfl)
theorem dX0_open_9 : decode cX0_open 9 = .ok (.goto 9, 3) := dk_167 0 9 (dk_at dksX0_open_0 9 rfl rfl)
theorem dX0_open_12 : decode cX0_open 12 = .ok (.astore_n 3, 1) := dk_78 (dk_at dksX0_open_0 12 rfl rfl)
theorem dX0_open_13 : decode cX0_open 13 = .ok (.iconst 1, 1) := dk_4 (dk_at dksX0_open_0 13 rfl rfl)
theorem dX0_open_14 : decode cX0_open 14 = .ok (.ireturn, 1) := dk_172 (dk_at dksX0_open_0 14 rfl rfl)
theorem dX0_open_15 : decode cX0_open 15 = .ok (.astore_n 3, 1) := dk_78 (dk_at dksX0_open_0 15 rfl rfl)
theorem dX0_open_16 : decode cX0_open 16 = .ok (.iconst 2, 1) := dk_5 (dk_at dksX0_open_0 16 rfl rfl)
theorem dX0_open_17 : decode cX0_open 17 = .ok (.ireturn, 1) := dk_172 (dk_at dksX0_open_0 17 rfl rfl)
theorem dX0_open_18 : decode cX0_open 18 = .ok (.iconst 0, 1) := dk_3 (dk_at dksX0_open_0 18 rfl rfl)
theorem dX0_open_19 : decode cX0_open 19 = .ok (.ireturn, 1) := dk_172 (dk_at dksX0_open_0 19 rfl rfl)
abbrev cX0_sell : ByteArray := method_12_code
def yX0_sell : MethodName := ⟨RX0, "sell", "(LMustardMill;I[J)I"⟩
def dkwX0_sell_0 : List UInt8 := [44, 3, 42, 27, 182, 0, 45, 133, 80, 167, 0, 9, 78, 4, 172, 78, 5, 172, 3, 172]
abbrev dktX0_sell_0 : List UInt8 := dkwX0_sell_0 ++ []
theorem dksX0_sell_0 : cX0_sell.data.toList.drop 0 = dktX0_sell_0 := by decide +kernel
theorem dX0_sell_0 : decode cX0_sell 0 = .ok (.aload_n 2, 1) := dk_44 (dk_at dksX0_sell_0 0 rfl rfl)
theorem dX0_sell_1 : decode cX0_sell 1 = .ok (.iconst 0, 1) := dk_3 (dk_at dksX0_sell_0 1 rfl rfl)
theorem dX0_sell_2 : decode cX0_sell 2 = .ok (.aload_n 0, 1) := dk_42 (dk_at dksX0_sell_0 2 rfl rfl)
theorem dX0_sell_3 : decode cX0_sell 3 = .ok (.iload_n 1, 1) := dk_27 (dk_at dksX0_sell_0 3 rfl rfl)
theorem dX0_sell_4 : decode cX0_sell 4 = .ok (.invokevirtual 45, 3) := dk_182 0 45 (dk_at dksX0_sell_0 4 rfl rfl)
theorem dX0_sell_7 : decode cX0_sell 7 = .ok (.i2l, 1) := dk_133 (dk_at dksX0_sell_0 7 rfl rfl)
theorem dX0_sell_8 : decode cX0_sell 8 = .ok (.lastore, 1) := dk_80 (dk_at dksX0_sell_0 8 rfl rfl)
theorem dX0_sell_9 : decode cX0_sell 9 = .ok (.goto 9, 3) := dk_167 0 9 (dk_at dksX0_sell_0 9 rfl rfl)
theorem dX0_sell_12 : decode cX0_sell 12 = .ok (.astore_n 3, 1) := dk_78 (dk_at dksX0_sell_0 12 rfl rfl)
theorem dX0_sell_13 : decode cX0_sell 13 = .ok (.iconst 1, 1) := dk_4 (dk_at dksX0_sell_0 13 rfl rfl)
theorem dX0_sell_14 : decode cX0_sell 14 = .ok (.ireturn, 1) := dk_172 (dk_at dksX0_sell_0 14 rfl rfl)
theorem dX0_sell_15 : decode cX0_sell 15 = .ok (.astore_n 3, 1) := dk_78 (dk_at dksX0_sell_0 15 rfl rfl)
theorem dX0_sell_16 : decode cX0_sell 16 = .ok (.iconst 2, 1) := dk_5 (dk_at dksX0_sell_0 16 rfl rfl)
theorem dX0_sell_17 : decode cX0_sell 17 = .ok (.ireturn, 1) := dk_172 (dk_at dksX0_sell_0 17 rfl rfl)
theorem dX0_sell_18 : decode cX0_sell 18 = .ok (.iconst 0, 1) := dk_3 (dk_at dksX0_sell_0 18 rfl rfl)
theorem dX0_sell_19 : decode cX0_sell 19 = .ok (.ireturn, 1) := dk_172 (dk_at dksX0_sell_0 19 rfl rfl)
abbrev cX0_jarOf : ByteArray := method_13_code
def yX0_jarOf : MethodName := ⟨RX0, "jarOf", "(LMustardMill;II[J)I"⟩
def dkwX0_jarOf_0 : List UInt8 := [45, 3, 42, 27, 28, 182, 0, 48, 133, 80, 167, 0, 11, 58, 4, 4, 172, 58, 4, 5, 172, 3, 172]
abbrev dktX0_jarOf_0 : List UInt8 := dkwX0_jarOf_0 ++ []
theorem dksX0_jarOf_0 : cX0_jarOf.data.toList.drop 0 = dktX0_jarOf_0 := by decide +kernel
theorem dX0_jarOf_0 : decode cX0_jarOf 0 = .ok (.aload_n 3, 1) := dk_45 (dk_at dksX0_jarOf_0 0 rfl rfl)
theorem dX0_jarOf_1 : decode cX0_jarOf 1 = .ok (.iconst 0, 1) := dk_3 (dk_at dksX0_jarOf_0 1 rfl rfl)
theorem dX0_jarOf_2 : decode cX0_jarOf 2 = .ok (.aload_n 0, 1) := dk_42 (dk_at dksX0_jarOf_0 2 rfl rfl)
theorem dX0_jarOf_3 : decode cX0_jarOf 3 = .ok (.iload_n 1, 1) := dk_27 (dk_at dksX0_jarOf_0 3 rfl rfl)
theorem dX0_jarOf_4 : decode cX0_jarOf 4 = .ok (.iload_n 2, 1) := dk_28 (dk_at dksX0_jarOf_0 4 rfl rfl)
theorem dX0_jarOf_5 : decode cX0_jarOf 5 = .ok (.invokevirtual 48, 3) := dk_182 0 48 (dk_at dksX0_jarOf_0 5 rfl rfl)
theorem dX0_jarOf_8 : decode cX0_jarOf 8 = .ok (.i2l, 1) := dk_133 (dk_at dksX0_jarOf_0 8 rfl rfl)
theorem dX0_jarOf_9 : decode cX0_jarOf 9 = .ok (.lastore, 1) := dk_80 (dk_at dksX0_jarOf_0 9 rfl rfl)
theorem dX0_jarOf_10 : decode cX0_jarOf 10 = .ok (.goto 11, 3) := dk_167 0 11 (dk_at dksX0_jarOf_0 10 rfl rfl)
theorem dX0_jarOf_13 : decode cX0_jarOf 13 = .ok (.astore 4, 2) := dk_58 4 (dk_at dksX0_jarOf_0 13 rfl rfl)
theorem dX0_jarOf_15 : decode cX0_jarOf 15 = .ok (.iconst 1, 1) := dk_4 (dk_at dksX0_jarOf_0 15 rfl rfl)
theorem dX0_jarOf_16 : decode cX0_jarOf 16 = .ok (.ireturn, 1) := dk_172 (dk_at dksX0_jarOf_0 16 rfl rfl)
theorem dX0_jarOf_17 : decode cX0_jarOf 17 = .ok (.astore 4, 2) := dk_58 4 (dk_at dksX0_jarOf_0 17 rfl rfl)
theorem dX0_jarOf_19 : decode cX0_jarOf 19 = .ok (.iconst 2, 1) := dk_5 (dk_at dksX0_jarOf_0 19 rfl rfl)
theorem dX0_jarOf_20 : decode cX0_jarOf 20 = .ok (.ireturn, 1) := dk_172 (dk_at dksX0_jarOf_0 20 rfl rfl)
theorem dX0_jarOf_21 : decode cX0_jarOf 21 = .ok (.iconst 0, 1) := dk_3 (dk_at dksX0_jarOf_0 21 rfl rfl)
theorem dX0_jarOf_22 : decode cX0_jarOf 22 = .ok (.ireturn, 1) := dk_172 (dk_at dksX0_jarOf_0 22 rfl rfl)
abbrev cX0_tearBehind : ByteArray := method_14_code
def yX0_tearBehind : MethodName := ⟨RX0, "tearBehind", "(LMustardMill;IIZ[J)I"⟩
def dkwX0_tearBehind_1 : List UInt8 := [58, 5, 6, 172, 3, 172]
abbrev dktX0_tearBehind_1 : List UInt8 := dkwX0_tearBehind_1 ++ []
def dkwX0_tearBehind_0 : List UInt8 := [25, 4, 3, 42, 27, 28, 29, 182, 0, 51, 133, 80, 167, 0, 15, 58, 5, 4, 172, 58, 5, 5, 172]
abbrev dktX0_tearBehind_0 : List UInt8 := dkwX0_tearBehind_0 ++ dktX0_tearBehind_1
theorem dksX0_tearBehind_0 : cX0_tearBehind.data.toList.drop 0 = dktX0_tearBehind_0 := by decide +kernel
theorem dksX0_tearBehind_1 : cX0_tearBehind.data.toList.drop 23 = dktX0_tearBehind_1 := dk_seg dksX0_tearBehind_0 23 rfl rfl
theorem dX0_tearBehind_0 : decode cX0_tearBehind 0 = .ok (.aload 4, 2) := dk_25 4 (dk_at dksX0_tearBehind_0 0 rfl rfl)
theorem dX0_tearBehind_2 : decode cX0_tearBehind 2 = .ok (.iconst 0, 1) := dk_3 (dk_at dksX0_tearBehind_0 2 rfl rfl)
theorem dX0_tearBehind_3 : decode cX0_tearBehind 3 = .ok (.aload_n 0, 1) := dk_42 (dk_at dksX0_tearBehind_0 3 rfl rfl)
theorem dX0_tearBehind_4 : decode cX0_tearBehind 4 = .ok (.iload_n 1, 1) := dk_27 (dk_at dksX0_tearBehind_0 4 rfl rfl)
theorem dX0_tearBehind_5 : decode cX0_tearBehind 5 = .ok (.iload_n 2, 1) := dk_28 (dk_at dksX0_tearBehind_0 5 rfl rfl)
theorem dX0_tearBehind_6 : decode cX0_tearBehind 6 = .ok (.iload_n 3, 1) := dk_29 (dk_at dksX0_tearBehind_0 6 rfl rfl)
theorem dX0_tearBehind_7 : decode cX0_tearBehind 7 = .ok (.invokevirtual 51, 3) := dk_182 0 51 (dk_at dksX0_tearBehind_0 7 rfl rfl)
theorem dX0_tearBehind_10 : decode cX0_tearBehind 10 = .ok (.i2l, 1) := dk_133 (dk_at dksX0_tearBehind_0 10 rfl rfl)
theorem dX0_tearBehind_11 : decode cX0_tearBehind 11 = .ok (.lastore, 1) := dk_80 (dk_at dksX0_tearBehind_0 11 rfl rfl)
theorem dX0_tearBehind_12 : decode cX0_tearBehind 12 = .ok (.goto 15, 3) := dk_167 0 15 (dk_at dksX0_tearBehind_0 12 rfl rfl)
theorem dX0_tearBehind_15 : decode cX0_tearBehind 15 = .ok (.astore 5, 2) := dk_58 5 (dk_at dksX0_tearBehind_0 15 rfl rfl)
theorem dX0_tearBehind_17 : decode cX0_tearBehind 17 = .ok (.iconst 1, 1) := dk_4 (dk_at dksX0_tearBehind_0 17 rfl rfl)
theorem dX0_tearBehind_18 : decode cX0_tearBehind 18 = .ok (.ireturn, 1) := dk_172 (dk_at dksX0_tearBehind_0 18 rfl rfl)
theorem dX0_tearBehind_19 : decode cX0_tearBehind 19 = .ok (.astore 5, 2) := dk_58 5 (dk_at dksX0_tearBehind_0 19 rfl rfl)
theorem dX0_tearBehind_21 : decode cX0_tearBehind 21 = .ok (.iconst 2, 1) := dk_5 (dk_at dksX0_tearBehind_0 21 rfl rfl)
theorem dX0_tearBehind_22 : decode cX0_tearBehind 22 = .ok (.ireturn, 1) := dk_172 (dk_at dksX0_tearBehind_0 22 rfl rfl)
theorem dX0_tearBehind_23 : decode cX0_tearBehind 23 = .ok (.astore 5, 2) := dk_58 5 (dk_at dksX0_tearBehind_1 0 rfl rfl)
theorem dX0_tearBehind_25 : decode cX0_tearBehind 25 = .ok (.iconst 3, 1) := dk_6 (dk_at dksX0_tearBehind_1 2 rfl rfl)
theorem dX0_tearBehind_26 : decode cX0_tearBehind 26 = .ok (.ireturn, 1) := dk_172 (dk_at dksX0_tearBehind_1 3 rfl rfl)
theorem dX0_tearBehind_27 : decode cX0_tearBehind 27 = .ok (.iconst 0, 1) := dk_3 (dk_at dksX0_tearBehind_1 4 rfl rfl)
theorem dX0_tearBehind_28 : decode cX0_tearBehind 28 = .ok (.ireturn, 1) := dk_172 (dk_at dksX0_tearBehind_1 5 rfl rfl)
abbrev cX0_strongest : ByteArray := method_15_code
def yX0_strongest : MethodName := ⟨RX0, "strongest", "(LMustardMill;I[J)I"⟩
def dkwX0_strongest_0 : List UInt8 := [44, 3, 42, 27, 182, 0, 57, 133, 80, 167, 0, 6, 78, 4, 172, 3, 172]
abbrev dktX0_strongest_0 : List UInt8 := dkwX0_strongest_0 ++ []
theorem dksX0_strongest_0 : cX0_strongest.data.toList.drop 0 = dktX0_strongest_0 := by decide +kernel
theorem dX0_strongest_0 : decode cX0_strongest 0 = .ok (.aload_n 2, 1) := dk_44 (dk_at dksX0_strongest_0 0 rfl rfl)
theorem dX0_strongest_1 : decode cX0_strongest 1 = .ok (.iconst 0, 1) := dk_3 (dk_at dksX0_strongest_0 1 rfl rfl)
theorem dX0_strongest_2 : decode cX0_strongest 2 = .ok (.aload_n 0, 1) := dk_42 (dk_at dksX0_strongest_0 2 rfl rfl)
theorem dX0_strongest_3 : decode cX0_strongest 3 = .ok (.iload_n 1, 1) := dk_27 (dk_at dksX0_strongest_0 3 rfl rfl)
theorem dX0_strongest_4 : decode cX0_strongest 4 = .ok (.invokevirtual 57, 3) := dk_182 0 57 (dk_at dksX0_strongest_0 4 rfl rfl)
theorem dX0_strongest_7 : decode cX0_strongest 7 = .ok (.i2l, 1) := dk_133 (dk_at dksX0_strongest_0 7 rfl rfl)
theorem dX0_strongest_8 : decode cX0_strongest 8 = .ok (.lastore, 1) := dk_80 (dk_at dksX0_strongest_0 8 rfl rfl)
theorem dX0_strongest_9 : decode cX0_strongest 9 = .ok (.goto 6, 3) := dk_167 0 6 (dk_at dksX0_strongest_0 9 rfl rfl)
theorem dX0_strongest_12 : decode cX0_strongest 12 = .ok (.astore_n 3, 1) := dk_78 (dk_at dksX0_strongest_0 12 rfl rfl)
theorem dX0_strongest_13 : decode cX0_strongest 13 = .ok (.iconst 1, 1) := dk_4 (dk_at dksX0_strongest_0 13 rfl rfl)
theorem dX0_strongest_14 : decode cX0_strongest 14 = .ok (.ireturn, 1) := dk_172 (dk_at dksX0_strongest_0 14 rfl rfl)
theorem dX0_strongest_15 : decode cX0_strongest 15 = .ok (.iconst 0, 1) := dk_3 (dk_at dksX0_strongest_0 15 rfl rfl)
theorem dX0_strongest_16 : decode cX0_strongest 16 = .ok (.ireturn, 1) := dk_172 (dk_at dksX0_strongest_0 16 rfl rfl)
abbrev cX0_order : ByteArray := method_16_code
def yX0_order : MethodName := ⟨RX0, "order", "(LMustardMill;II[J)I"⟩
def dkwX0_order_0 : List UInt8 := [45, 3, 42, 27, 28, 182, 0, 62, 133, 80, 167, 0, 11, 58, 4, 4, 172, 58, 4, 5, 172, 3, 172]
abbrev dktX0_order_0 : List UInt8 := dkwX0_order_0 ++ []
theorem dksX0_order_0 : cX0_order.data.toList.drop 0 = dktX0_order_0 := by decide +kernel
theorem dX0_order_0 : decode cX0_order 0 = .ok (.aload_n 3, 1) := dk_45 (dk_at dksX0_order_0 0 rfl rfl)
theorem dX0_order_1 : decode cX0_order 1 = .ok (.iconst 0, 1) := dk_3 (dk_at dksX0_order_0 1 rfl rfl)
theorem dX0_order_2 : decode cX0_order 2 = .ok (.aload_n 0, 1) := dk_42 (dk_at dksX0_order_0 2 rfl rfl)
theorem dX0_order_3 : decode cX0_order 3 = .ok (.iload_n 1, 1) := dk_27 (dk_at dksX0_order_0 3 rfl rfl)
theorem dX0_order_4 : decode cX0_order 4 = .ok (.iload_n 2, 1) := dk_28 (dk_at dksX0_order_0 4 rfl rfl)
theorem dX0_order_5 : decode cX0_order 5 = .ok (.invokevirtual 62, 3) := dk_182 0 62 (dk_at dksX0_order_0 5 rfl rfl)
theorem dX0_order_8 : decode cX0_order 8 = .ok (.i2l, 1) := dk_133 (dk_at dksX0_order_0 8 rfl rfl)
theorem dX0_order_9 : decode cX0_order 9 = .ok (.lastore, 1) := dk_80 (dk_at dksX0_order_0 9 rfl rfl)
theorem dX0_order_10 : decode cX0_order 10 = .ok (.goto 11, 3) := dk_167 0 11 (dk_at dksX0_order_0 10 rfl rfl)
theorem dX0_order_13 : decode cX0_order 13 = .ok (.astore 4, 2) := dk_58 4 (dk_at dksX0_order_0 13 rfl rfl)
theorem dX0_order_15 : decode cX0_order 15 = .ok (.iconst 1, 1) := dk_4 (dk_at dksX0_order_0 15 rfl rfl)
theorem dX0_order_16 : decode cX0_order 16 = .ok (.ireturn, 1) := dk_172 (dk_at dksX0_order_0 16 rfl rfl)
theorem dX0_order_17 : decode cX0_order 17 = .ok (.astore 4, 2) := dk_58 4 (dk_at dksX0_order_0 17 rfl rfl)
theorem dX0_order_19 : decode cX0_order 19 = .ok (.iconst 2, 1) := dk_5 (dk_at dksX0_order_0 19 rfl rfl)
theorem dX0_order_20 : decode cX0_order 20 = .ok (.ireturn, 1) := dk_172 (dk_at dksX0_order_0 20 rfl rfl)
theorem dX0_order_21 : decode cX0_order 21 = .ok (.iconst 0, 1) := dk_3 (dk_at dksX0_order_0 21 rfl rfl)
theorem dX0_order_22 : decode cX0_order 22 = .ok (.ireturn, 1) := dk_172 (dk_at dksX0_order_0 22 rfl rfl)
abbrev cX0_serve : ByteArray := method_17_code
def yX0_serve : MethodName := ⟨RX0, "serve", "(LMustardMill;I[J)I"⟩
def dkwX0_serve_0 : List UInt8 := [44, 3, 42, 27, 182, 0, 65, 133, 80, 167, 0, 9, 78, 4, 172, 78, 5, 172, 3, 172]
abbrev dktX0_serve_0 : List UInt8 := dkwX0_serve_0 ++ []
theorem dksX0_serve_0 : cX0_serve.data.toList.drop 0 = dktX0_serve_0 := by decide +kernel
theorem dX0_serve_0 : decode cX0_serve 0 = .ok (.aload_n 2, 1) := dk_44 (dk_at dksX0_serve_0 0 rfl rfl)
theorem dX0_serve_1 : decode cX0_serve 1 = .ok (.iconst 0, 1) := dk_3 (dk_at dksX0_serve_0 1 rfl rfl)
theorem dX0_serve_2 : decode cX0_serve 2 = .ok (.aload_n 0, 1) := dk_42 (dk_at dksX0_serve_0 2 rfl rfl)
theorem dX0_serve_3 : decode cX0_serve 3 = .ok (.iload_n 1, 1) := dk_27 (dk_at dksX0_serve_0 3 rfl rfl)
theorem dX0_serve_4 : decode cX0_serve 4 = .ok (.invokevirtual 65, 3) := dk_182 0 65 (dk_at dksX0_serve_0 4 rfl rfl)
theorem dX0_serve_7 : decode cX0_serve 7 = .ok (.i2l, 1) := dk_133 (dk_at dksX0_serve_0 7 rfl rfl)
theorem dX0_serve_8 : decode cX0_serve 8 = .ok (.lastore, 1) := dk_80 (dk_at dksX0_serve_0 8 rfl rfl)
theorem dX0_serve_9 : decode cX0_serve 9 = .ok (.goto 9, 3) := dk_167 0 9 (dk_at dksX0_serve_0 9 rfl rfl)
theorem dX0_serve_12 : decode cX0_serve 12 = .ok (.astore_n 3, 1) := dk_78 (dk_at dksX0_serve_0 12 rfl rfl)
theorem dX0_serve_13 : decode cX0_serve 13 = .ok (.iconst 1, 1) := dk_4 (dk_at dksX0_serve_0 13 rfl rfl)
theorem dX0_serve_14 : decode cX0_serve 14 = .ok (.ireturn, 1) := dk_172 (dk_at dksX0_serve_0 14 rfl rfl)
theorem dX0_serve_15 : decode cX0_serve 15 = .ok (.astore_n 3, 1) := dk_78 (dk_at dksX0_serve_0 15 rfl rfl)
theorem dX0_serve_16 : decode cX0_serve 16 = .ok (.iconst 2, 1) := dk_5 (dk_at dksX0_serve_0 16 rfl rfl)
theorem dX0_serve_17 : decode cX0_serve 17 = .ok (.ireturn, 1) := dk_172 (dk_at dksX0_serve_0 17 rfl rfl)
theorem dX0_serve_18 : decode cX0_serve 18 = .ok (.iconst 0, 1) := dk_3 (dk_at dksX0_serve_0 18 rfl rfl)
theorem dX0_serve_19 : decode cX0_serve 19 = .ok (.ireturn, 1) := dk_172 (dk_at dksX0_serve_0 19 rfl rfl)
abbrev cX0_orderOf : ByteArray := method_18_code
def yX0_orderOf : MethodName := ⟨RX0, "orderOf", "(LMustardMill;II[J)I"⟩
def dkwX0_orderOf_0 : List UInt8 := [45, 3, 42, 27, 28, 182, 0, 68, 133, 80, 167, 0, 11, 58, 4, 4, 172, 58, 4, 5, 172, 3, 172]
abbrev dktX0_orderOf_0 : List UInt8 := dkwX0_orderOf_0 ++ []
theorem dksX0_orderOf_0 : cX0_orderOf.data.toList.drop 0 = dktX0_orderOf_0 := by decide +kernel
theorem dX0_orderOf_0 : decode cX0_orderOf 0 = .ok (.aload_n 3, 1) := dk_45 (dk_at dksX0_orderOf_0 0 rfl rfl)
theorem dX0_orderOf_1 : decode cX0_orderOf 1 = .ok (.iconst 0, 1) := dk_3 (dk_at dksX0_orderOf_0 1 rfl rfl)
theorem dX0_orderOf_2 : decode cX0_orderOf 2 = .ok (.aload_n 0, 1) := dk_42 (dk_at dksX0_orderOf_0 2 rfl rfl)
theorem dX0_orderOf_3 : decode cX0_orderOf 3 = .ok (.iload_n 1, 1) := dk_27 (dk_at dksX0_orderOf_0 3 rfl rfl)
theorem dX0_orderOf_4 : decode cX0_orderOf 4 = .ok (.iload_n 2, 1) := dk_28 (dk_at dksX0_orderOf_0 4 rfl rfl)
theorem dX0_orderOf_5 : decode cX0_orderOf 5 = .ok (.invokevirtual 68, 3) := dk_182 0 68 (dk_at dksX0_orderOf_0 5 rfl rfl)
theorem dX0_orderOf_8 : decode cX0_orderOf 8 = .ok (.i2l, 1) := dk_133 (dk_at dksX0_orderOf_0 8 rfl rfl)
theorem dX0_orderOf_9 : decode cX0_orderOf 9 = .ok (.lastore, 1) := dk_80 (dk_at dksX0_orderOf_0 9 rfl rfl)
theorem dX0_orderOf_10 : decode cX0_orderOf 10 = .ok (.goto 11, 3) := dk_167 0 11 (dk_at dksX0_orderOf_0 10 rfl rfl)
theorem dX0_orderOf_13 : decode cX0_orderOf 13 = .ok (.astore 4, 2) := dk_58 4 (dk_at dksX0_orderOf_0 13 rfl rfl)
theorem dX0_orderOf_15 : decode cX0_orderOf 15 = .ok (.iconst 1, 1) := dk_4 (dk_at dksX0_orderOf_0 15 rfl rfl)
theorem dX0_orderOf_16 : decode cX0_orderOf 16 = .ok (.ireturn, 1) := dk_172 (dk_at dksX0_orderOf_0 16 rfl rfl)
theorem dX0_orderOf_17 : decode cX0_orderOf 17 = .ok (.astore 4, 2) := dk_58 4 (dk_at dksX0_orderOf_0 17 rfl rfl)
theorem dX0_orderOf_19 : decode cX0_orderOf 19 = .ok (.iconst 2, 1) := dk_5 (dk_at dksX0_orderOf_0 19 rfl rfl)
theorem dX0_orderOf_20 : decode cX0_orderOf 20 = .ok (.ireturn, 1) := dk_172 (dk_at dksX0_orderOf_0 20 rfl rfl)
theorem dX0_orderOf_21 : decode cX0_orderOf 21 = .ok (.iconst 0, 1) := dk_3 (dk_at dksX0_orderOf_0 21 rfl rfl)
theorem dX0_orderOf_22 : decode cX0_orderOf 22 = .ok (.ireturn, 1) := dk_172 (dk_at dksX0_orderOf_0 22 rfl rfl)
abbrev cX0_servedIn : ByteArray := method_19_code
def yX0_servedIn : MethodName := ⟨RX0, "servedIn", "(LMustardMill;I[J)I"⟩
def dkwX0_servedIn_0 : List UInt8 := [44, 3, 42, 27, 182, 0, 71, 133, 80, 167, 0, 12, 78, 4, 172, 78, 5, 172, 78, 6, 172, 3, 172]
abbrev dktX0_servedIn_0 : List UInt8 := dkwX0_servedIn_0 ++ []
theorem dksX0_servedIn_0 : cX0_servedIn.data.toList.drop 0 = dktX0_servedIn_0 := by decide +kernel
theorem dX0_servedIn_0 : decode cX0_servedIn 0 = .ok (.aload_n 2, 1) := dk_44 (dk_at dksX0_servedIn_0 0 rfl rfl)
theorem dX0_servedIn_1 : decode cX0_servedIn 1 = .ok (.iconst 0, 1) := dk_3 (dk_at dksX0_servedIn_0 1 rfl rfl)
theorem dX0_servedIn_2 : decode cX0_servedIn 2 = .ok (.aload_n 0, 1) := dk_42 (dk_at dksX0_servedIn_0 2 rfl rfl)
theorem dX0_servedIn_3 : decode cX0_servedIn 3 = .ok (.iload_n 1, 1) := dk_27 (dk_at dksX0_servedIn_0 3 rfl rfl)
theorem dX0_servedIn_4 : decode cX0_servedIn 4 = .ok (.invokevirtual 71, 3) := dk_182 0 71 (dk_at dksX0_servedIn_0 4 rfl rfl)
theorem dX0_servedIn_7 : decode cX0_servedIn 7 = .ok (.i2l, 1) := dk_133 (dk_at dksX0_servedIn_0 7 rfl rfl)
theorem dX0_servedIn_8 : decode cX0_servedIn 8 = .ok (.lastore, 1) := dk_80 (dk_at dksX0_servedIn_0 8 rfl rfl)
theorem dX0_servedIn_9 : decode cX0_servedIn 9 = .ok (.goto 12, 3) := dk_167 0 12 (dk_at dksX0_servedIn_0 9 rfl rfl)
theorem dX0_servedIn_12 : decode cX0_servedIn 12 = .ok (.astore_n 3, 1) := dk_78 (dk_at dksX0_servedIn_0 12 rfl rfl)
theorem dX0_servedIn_13 : decode cX0_servedIn 13 = .ok (.iconst 1, 1) := dk_4 (dk_at dksX0_servedIn_0 13 rfl rfl)
theorem dX0_servedIn_14 : decode cX0_servedIn 14 = .ok (.ireturn, 1) := dk_172 (dk_at dksX0_servedIn_0 14 rfl rfl)
theorem dX0_servedIn_15 : decode cX0_servedIn 15 = .ok (.astore_n 3, 1) := dk_78 (dk_at dksX0_servedIn_0 15 rfl rfl)
theorem dX0_servedIn_16 : decode cX0_servedIn 16 = .ok (.iconst 2, 1) := dk_5 (dk_at dksX0_servedIn_0 16 rfl rfl)
theorem dX0_servedIn_17 : decode cX0_servedIn 17 = .ok (.ireturn, 1) := dk_172 (dk_at dksX0_servedIn_0 17 rfl rfl)
theorem dX0_servedIn_18 : decode cX0_servedIn 18 = .ok (.astore_n 3, 1) := dk_78 (dk_at dksX0_servedIn_0 18 rfl rfl)
theorem dX0_servedIn_19 : decode cX0_servedIn 19 = .ok (.iconst 3, 1) := dk_6 (dk_at dksX0_servedIn_0 19 rfl rfl)
theorem dX0_servedIn_20 : decode cX0_servedIn 20 = .ok (.ireturn, 1) := dk_172 (dk_at dksX0_servedIn_0 20 rfl rfl)
theorem dX0_servedIn_21 : decode cX0_servedIn 21 = .ok (.iconst 0, 1) := dk_3 (dk_at dksX0_servedIn_0 21 rfl rfl)
theorem dX0_servedIn_22 : decode cX0_servedIn 22 = .ok (.ireturn, 1) := dk_172 (dk_at dksX0_servedIn_0 22 rfl rfl)
abbrev cX0_rest : ByteArray := method_20_code
def yX0_rest : MethodName := ⟨RX0, "rest", "(LMustardMill;I[J)I"⟩
def dkwX0_rest_0 : List UInt8 := [44, 3, 42, 27, 182, 0, 74, 133, 80, 167, 0, 6, 78, 4, 172, 3, 172]
abbrev dktX0_rest_0 : List UInt8 := dkwX0_rest_0 ++ []
theorem dksX0_rest_0 : cX0_rest.data.toList.drop 0 = dktX0_rest_0 := by decide +kernel
theorem dX0_rest_0 : decode cX0_rest 0 = .ok (.aload_n 2, 1) := dk_44 (dk_at dksX0_rest_0 0 rfl rfl)
theorem dX0_rest_1 : decode cX0_rest 1 = .ok (.iconst 0, 1) := dk_3 (dk_at dksX0_rest_0 1 rfl rfl)
theorem dX0_rest_2 : decode cX0_rest 2 = .ok (.aload_n 0, 1) := dk_42 (dk_at dksX0_rest_0 2 rfl rfl)
theorem dX0_rest_3 : decode cX0_rest 3 = .ok (.iload_n 1, 1) := dk_27 (dk_at dksX0_rest_0 3 rfl rfl)
theorem dX0_rest_4 : decode cX0_rest 4 = .ok (.invokevirtual 74, 3) := dk_182 0 74 (dk_at dksX0_rest_0 4 rfl rfl)
theorem dX0_rest_7 : decode cX0_rest 7 = .ok (.i2l, 1) := dk_133 (dk_at dksX0_rest_0 7 rfl rfl)
theorem dX0_rest_8 : decode cX0_rest 8 = .ok (.lastore, 1) := dk_80 (dk_at dksX0_rest_0 8 rfl rfl)
theorem dX0_rest_9 : decode cX0_rest 9 = .ok (.goto 6, 3) := dk_167 0 6 (dk_at dksX0_rest_0 9 rfl rfl)
theorem dX0_rest_12 : decode cX0_rest 12 = .ok (.astore_n 3, 1) := dk_78 (dk_at dksX0_rest_0 12 rfl rfl)
theorem dX0_rest_13 : decode cX0_rest 13 = .ok (.iconst 1, 1) := dk_4 (dk_at dksX0_rest_0 13 rfl rfl)
theorem dX0_rest_14 : decode cX0_rest 14 = .ok (.ireturn, 1) := dk_172 (dk_at dksX0_rest_0 14 rfl rfl)
theorem dX0_rest_15 : decode cX0_rest 15 = .ok (.iconst 0, 1) := dk_3 (dk_at dksX0_rest_0 15 rfl rfl)
theorem dX0_rest_16 : decode cX0_rest 16 = .ok (.ireturn, 1) := dk_172 (dk_at dksX0_rest_0 16 rfl rfl)
abbrev cX0_tray : ByteArray := method_21_code
def yX0_tray : MethodName := ⟨RX0, "tray", "(LMustardMill;I[J)I"⟩
def dkwX0_tray_0 : List UInt8 := [44, 3, 42, 27, 182, 0, 77, 133, 80, 167, 0, 6, 78, 4, 172, 3, 172]
abbrev dktX0_tray_0 : List UInt8 := dkwX0_tray_0 ++ []
theorem dksX0_tray_0 : cX0_tray.data.toList.drop 0 = dktX0_tray_0 := by decide +kernel
theorem dX0_tray_0 : decode cX0_tray 0 = .ok (.aload_n 2, 1) := dk_44 (dk_at dksX0_tray_0 0 rfl rfl)
theorem dX0_tray_1 : decode cX0_tray 1 = .ok (.iconst 0, 1) := dk_3 (dk_at dksX0_tray_0 1 rfl rfl)
theorem dX0_tray_2 : decode cX0_tray 2 = .ok (.aload_n 0, 1) := dk_42 (dk_at dksX0_tray_0 2 rfl rfl)
theorem dX0_tray_3 : decode cX0_tray 3 = .ok (.iload_n 1, 1) := dk_27 (dk_at dksX0_tray_0 3 rfl rfl)
theorem dX0_tray_4 : decode cX0_tray 4 = .ok (.invokevirtual 77, 3) := dk_182 0 77 (dk_at dksX0_tray_0 4 rfl rfl)
theorem dX0_tray_7 : decode cX0_tray 7 = .ok (.i2l, 1) := dk_133 (dk_at dksX0_tray_0 7 rfl rfl)
theorem dX0_tray_8 : decode cX0_tray 8 = .ok (.lastore, 1) := dk_80 (dk_at dksX0_tray_0 8 rfl rfl)
theorem dX0_tray_9 : decode cX0_tray 9 = .ok (.goto 6, 3) := dk_167 0 6 (dk_at dksX0_tray_0 9 rfl rfl)
theorem dX0_tray_12 : decode cX0_tray 12 = .ok (.astore_n 3, 1) := dk_78 (dk_at dksX0_tray_0 12 rfl rfl)
theorem dX0_tray_13 : decode cX0_tray 13 = .ok (.iconst 1, 1) := dk_4 (dk_at dksX0_tray_0 13 rfl rfl)
theorem dX0_tray_14 : decode cX0_tray 14 = .ok (.ireturn, 1) := dk_172 (dk_at dksX0_tray_0 14 rfl rfl)
theorem dX0_tray_15 : decode cX0_tray 15 = .ok (.iconst 0, 1) := dk_3 (dk_at dksX0_tray_0 15 rfl rfl)
theorem dX0_tray_16 : decode cX0_tray 16 = .ok (.ireturn, 1) := dk_172 (dk_at dksX0_tray_0 16 rfl rfl)
abbrev cX0_lay : ByteArray := method_22_code
def yX0_lay : MethodName := ⟨RX0, "lay", "(LMustardMill;III[J)I"⟩
def dkwX0_lay_1 : List UInt8 := [58, 5, 6, 172, 3, 172]
abbrev dktX0_lay_1 : List UInt8 := dkwX0_lay_1 ++ []
def dkwX0_lay_0 : List UInt8 := [25, 4, 3, 42, 27, 28, 29, 182, 0, 80, 133, 80, 167, 0, 15, 58, 5, 4, 172, 58, 5, 5, 172]
abbrev dktX0_lay_0 : List UInt8 := dkwX0_lay_0 ++ dktX0_lay_1
theorem dksX0_lay_0 : cX0_lay.data.toList.drop 0 = dktX0_lay_0 := by decide +kernel
theorem dksX0_lay_1 : cX0_lay.data.toList.drop 23 = dktX0_lay_1 := dk_seg dksX0_lay_0 23 rfl rfl
theorem dX0_lay_0 : decode cX0_lay 0 = .ok (.aload 4, 2) := dk_25 4 (dk_at dksX0_lay_0 0 rfl rfl)
theorem dX0_lay_2 : decode cX0_lay 2 = .ok (.iconst 0, 1) := dk_3 (dk_at dksX0_lay_0 2 rfl rfl)
theorem dX0_lay_3 : decode cX0_lay 3 = .ok (.aload_n 0, 1) := dk_42 (dk_at dksX0_lay_0 3 rfl rfl)
theorem dX0_lay_4 : decode cX0_lay 4 = .ok (.iload_n 1, 1) := dk_27 (dk_at dksX0_lay_0 4 rfl rfl)
theorem dX0_lay_5 : decode cX0_lay 5 = .ok (.iload_n 2, 1) := dk_28 (dk_at dksX0_lay_0 5 rfl rfl)
theorem dX0_lay_6 : decode cX0_lay 6 = .ok (.iload_n 3, 1) := dk_29 (dk_at dksX0_lay_0 6 rfl rfl)
theorem dX0_lay_7 : decode cX0_lay 7 = .ok (.invokevirtual 80, 3) := dk_182 0 80 (dk_at dksX0_lay_0 7 rfl rfl)
theorem dX0_lay_10 : decode cX0_lay 10 = .ok (.i2l, 1) := dk_133 (dk_at dksX0_lay_0 10 rfl rfl)
theorem dX0_lay_11 : decode cX0_lay 11 = .ok (.lastore, 1) := dk_80 (dk_at dksX0_lay_0 11 rfl rfl)
theorem dX0_lay_12 : decode cX0_lay 12 = .ok (.goto 15, 3) := dk_167 0 15 (dk_at dksX0_lay_0 12 rfl rfl)
theorem dX0_lay_15 : decode cX0_lay 15 = .ok (.astore 5, 2) := dk_58 5 (dk_at dksX0_lay_0 15 rfl rfl)
theorem dX0_lay_17 : decode cX0_lay 17 = .ok (.iconst 1, 1) := dk_4 (dk_at dksX0_lay_0 17 rfl rfl)
theorem dX0_lay_18 : decode cX0_lay 18 = .ok (.ireturn, 1) := dk_172 (dk_at dksX0_lay_0 18 rfl rfl)
theorem dX0_lay_19 : decode cX0_lay 19 = .ok (.astore 5, 2) := dk_58 5 (dk_at dksX0_lay_0 19 rfl rfl)
theorem dX0_lay_21 : decode cX0_lay 21 = .ok (.iconst 2, 1) := dk_5 (dk_at dksX0_lay_0 21 rfl rfl)
theorem dX0_lay_22 : decode cX0_lay 22 = .ok (.ireturn, 1) := dk_172 (dk_at dksX0_lay_0 22 rfl rfl)
theorem dX0_lay_23 : decode cX0_lay 23 = .ok (.astore 5, 2) := dk_58 5 (dk_at dksX0_lay_1 0 rfl rfl)
theorem dX0_lay_25 : decode cX0_lay 25 = .ok (.iconst 3, 1) := dk_6 (dk_at dksX0_lay_1 2 rfl rfl)
theorem dX0_lay_26 : decode cX0_lay 26 = .ok (.ireturn, 1) := dk_172 (dk_at dksX0_lay_1 3 rfl rfl)
theorem dX0_lay_27 : decode cX0_lay 27 = .ok (.iconst 0, 1) := dk_3 (dk_at dksX0_lay_1 4 rfl rfl)
theorem dX0_lay_28 : decode cX0_lay 28 = .ok (.ireturn, 1) := dk_172 (dk_at dksX0_lay_1 5 rfl rfl)
abbrev cX0_onTray : ByteArray := method_23_code
def yX0_onTray : MethodName := ⟨RX0, "onTray", "(LMustardMill;I[J)I"⟩
def dkwX0_onTray_0 : List UInt8 := [44, 3, 42, 27, 182, 0, 84, 133, 80, 167, 0, 9, 78, 4, 172, 78, 5, 172, 3, 172]
abbrev dktX0_onTray_0 : List UInt8 := dkwX0_onTray_0 ++ []
theorem dksX0_onTray_0 : cX0_onTray.data.toList.drop 0 = dktX0_onTray_0 := by decide +kernel
theorem dX0_onTray_0 : decode cX0_onTray 0 = .ok (.aload_n 2, 1) := dk_44 (dk_at dksX0_onTray_0 0 rfl rfl)
theorem dX0_onTray_1 : decode cX0_onTray 1 = .ok (.iconst 0, 1) := dk_3 (dk_at dksX0_onTray_0 1 rfl rfl)
theorem dX0_onTray_2 : decode cX0_onTray 2 = .ok (.aload_n 0, 1) := dk_42 (dk_at dksX0_onTray_0 2 rfl rfl)
theorem dX0_onTray_3 : decode cX0_onTray 3 = .ok (.iload_n 1, 1) := dk_27 (dk_at dksX0_onTray_0 3 rfl rfl)
theorem dX0_onTray_4 : decode cX0_onTray 4 = .ok (.invokevirtual 84, 3) := dk_182 0 84 (dk_at dksX0_onTray_0 4 rfl rfl)
theorem dX0_onTray_7 : decode cX0_onTray 7 = .ok (.i2l, 1) := dk_133 (dk_at dksX0_onTray_0 7 rfl rfl)
theorem dX0_onTray_8 : decode cX0_onTray 8 = .ok (.lastore, 1) := dk_80 (dk_at dksX0_onTray_0 8 rfl rfl)
theorem dX0_onTray_9 : decode cX0_onTray 9 = .ok (.goto 9, 3) := dk_167 0 9 (dk_at dksX0_onTray_0 9 rfl rfl)
theorem dX0_onTray_12 : decode cX0_onTray 12 = .ok (.astore_n 3, 1) := dk_78 (dk_at dksX0_onTray_0 12 rfl rfl)
theorem dX0_onTray_13 : decode cX0_onTray 13 = .ok (.iconst 1, 1) := dk_4 (dk_at dksX0_onTray_0 13 rfl rfl)
theorem dX0_onTray_14 : decode cX0_onTray 14 = .ok (.ireturn, 1) := dk_172 (dk_at dksX0_onTray_0 14 rfl rfl)
theorem dX0_onTray_15 : decode cX0_onTray 15 = .ok (.astore_n 3, 1) := dk_78 (dk_at dksX0_onTray_0 15 rfl rfl)
theorem dX0_onTray_16 : decode cX0_onTray 16 = .ok (.iconst 2, 1) := dk_5 (dk_at dksX0_onTray_0 16 rfl rfl)
theorem dX0_onTray_17 : decode cX0_onTray 17 = .ok (.ireturn, 1) := dk_172 (dk_at dksX0_onTray_0 17 rfl rfl)
theorem dX0_onTray_18 : decode cX0_onTray 18 = .ok (.iconst 0, 1) := dk_3 (dk_at dksX0_onTray_0 18 rfl rfl)
theorem dX0_onTray_19 : decode cX0_onTray 19 = .ok (.ireturn, 1) := dk_172 (dk_at dksX0_onTray_0 19 rfl rfl)
abbrev cX0_line : ByteArray := method_24_code
def yX0_line : MethodName := ⟨RX0, "line", "(LMustardMill;I[J)I"⟩
def dkwX0_line_0 : List UInt8 := [44, 3, 42, 27, 182, 0, 87, 133, 80, 167, 0, 6, 78, 4, 172, 3, 172]
abbrev dktX0_line_0 : List UInt8 := dkwX0_line_0 ++ []
theorem dksX0_line_0 : cX0_line.data.toList.drop 0 = dktX0_line_0 := by decide +kernel
theorem dX0_line_0 : decode cX0_line 0 = .ok (.aload_n 2, 1) := dk_44 (dk_at dksX0_line_0 0 rfl rfl)
theorem dX0_line_1 : decode cX0_line 1 = .ok (.iconst 0, 1) := dk_3 (dk_at dksX0_line_0 1 rfl rfl)
theorem dX0_line_2 : decode cX0_line 2 = .ok (.aload_n 0, 1) := dk_42 (dk_at dksX0_line_0 2 rfl rfl)
theorem dX0_line_3 : decode cX0_line 3 = .ok (.iload_n 1, 1) := dk_27 (dk_at dksX0_line_0 3 rfl rfl)
theorem dX0_line_4 : decode cX0_line 4 = .ok (.invokevirtual 87, 3) := dk_182 0 87 (dk_at dksX0_line_0 4 rfl rfl)
theorem dX0_line_7 : decode cX0_line 7 = .ok (.i2l, 1) := dk_133 (dk_at dksX0_line_0 7 rfl rfl)
theorem dX0_line_8 : decode cX0_line 8 = .ok (.lastore, 1) := dk_80 (dk_at dksX0_line_0 8 rfl rfl)
theorem dX0_line_9 : decode cX0_line 9 = .ok (.goto 6, 3) := dk_167 0 6 (dk_at dksX0_line_0 9 rfl rfl)
theorem dX0_line_12 : decode cX0_line 12 = .ok (.astore_n 3, 1) := dk_78 (dk_at dksX0_line_0 12 rfl rfl)
theorem dX0_line_13 : decode cX0_line 13 = .ok (.iconst 1, 1) := dk_4 (dk_at dksX0_line_0 13 rfl rfl)
theorem dX0_line_14 : decode cX0_line 14 = .ok (.ireturn, 1) := dk_172 (dk_at dksX0_line_0 14 rfl rfl)
theorem dX0_line_15 : decode cX0_line 15 = .ok (.iconst 0, 1) := dk_3 (dk_at dksX0_line_0 15 rfl rfl)
theorem dX0_line_16 : decode cX0_line 16 = .ok (.ireturn, 1) := dk_172 (dk_at dksX0_line_0 16 rfl rfl)
abbrev cX0_character : ByteArray := method_25_code
def yX0_character : MethodName := ⟨RX0, "character", "(LMustardMill;I[J)I"⟩
def dkwX0_character_0 : List UInt8 := [44, 3, 42, 27, 182, 0, 90, 133, 80, 167, 0, 6, 78, 4, 172, 3, 172]
abbrev dktX0_character_0 : List UInt8 := dkwX0_character_0 ++ []
theorem dksX0_character_0 : cX0_character.data.toList.drop 0 = dktX0_character_0 := by decide +kernel
theorem dX0_character_0 : decode cX0_character 0 = .ok (.aload_n 2, 1) := dk_44 (dk_at dksX0_character_0 0 rfl rfl)
theorem dX0_character_1 : decode cX0_character 1 = .ok (.iconst 0, 1) := dk_3 (dk_at dksX0_character_0 1 rfl rfl)
theorem dX0_character_2 : decode cX0_character 2 = .ok (.aload_n 0, 1) := dk_42 (dk_at dksX0_character_0 2 rfl rfl)
theorem dX0_character_3 : decode cX0_character 3 = .ok (.iload_n 1, 1) := dk_27 (dk_at dksX0_character_0 3 rfl rfl)
theorem dX0_character_4 : decode cX0_character 4 = .ok (.invokevirtual 90, 3) := dk_182 0 90 (dk_at dksX0_character_0 4 rfl rfl)
theorem dX0_character_7 : decode cX0_character 7 = .ok (.i2l, 1) := dk_133 (dk_at dksX0_character_0 7 rfl rfl)
theorem dX0_character_8 : decode cX0_character 8 = .ok (.lastore, 1) := dk_80 (dk_at dksX0_character_0 8 rfl rfl)
theorem dX0_character_9 : decode cX0_character 9 = .ok (.goto 6, 3) := dk_167 0 6 (dk_at dksX0_character_0 9 rfl rfl)
theorem dX0_character_12 : decode cX0_character 12 = .ok (.astore_n 3, 1) := dk_78 (dk_at dksX0_character_0 12 rfl rfl)
theorem dX0_character_13 : decode cX0_character 13 = .ok (.iconst 1, 1) := dk_4 (dk_at dksX0_character_0 13 rfl rfl)
theorem dX0_character_14 : decode cX0_character 14 = .ok (.ireturn, 1) := dk_172 (dk_at dksX0_character_0 14 rfl rfl)
theorem dX0_character_15 : decode cX0_character 15 = .ok (.iconst 0, 1) := dk_3 (dk_at dksX0_character_0 15 rfl rfl)
theorem dX0_character_16 : decode cX0_character 16 = .ok (.ireturn, 1) := dk_172 (dk_at dksX0_character_0 16 rfl rfl)
abbrev cX0_refusal : ByteArray := method_26_code
def yX0_refusal : MethodName := ⟨RX0, "refusal", "(LMustardMill;Z[J)I"⟩
def dkwX0_refusal_0 : List UInt8 := [44, 3, 42, 27, 182, 0, 94, 133, 80, 167, 0, 6, 78, 4, 172, 3, 172]
abbrev dktX0_refusal_0 : List UInt8 := dkwX0_refusal_0 ++ []
theorem dksX0_refusal_0 : cX0_refusal.data.toList.drop 0 = dktX0_refusal_0 := by decide +kernel
theorem dX0_refusal_0 : decode cX0_refusal 0 = .ok (.aload_n 2, 1) := dk_44 (dk_at dksX0_refusal_0 0 rfl rfl)
theorem dX0_refusal_1 : decode cX0_refusal 1 = .ok (.iconst 0, 1) := dk_3 (dk_at dksX0_refusal_0 1 rfl rfl)
theorem dX0_refusal_2 : decode cX0_refusal 2 = .ok (.aload_n 0, 1) := dk_42 (dk_at dksX0_refusal_0 2 rfl rfl)
theorem dX0_refusal_3 : decode cX0_refusal 3 = .ok (.iload_n 1, 1) := dk_27 (dk_at dksX0_refusal_0 3 rfl rfl)
theorem dX0_refusal_4 : decode cX0_refusal 4 = .ok (.invokevirtual 94, 3) := dk_182 0 94 (dk_at dksX0_refusal_0 4 rfl rfl)
theorem dX0_refusal_7 : decode cX0_refusal 7 = .ok (.i2l, 1) := dk_133 (dk_at dksX0_refusal_0 7 rfl rfl)
theorem dX0_refusal_8 : decode cX0_refusal 8 = .ok (.lastore, 1) := dk_80 (dk_at dksX0_refusal_0 8 rfl rfl)
theorem dX0_refusal_9 : decode cX0_refusal 9 = .ok (.goto 6, 3) := dk_167 0 6 (dk_at dksX0_refusal_0 9 rfl rfl)
theorem dX0_refusal_12 : decode cX0_refusal 12 = .ok (.astore_n 3, 1) := dk_78 (dk_at dksX0_refusal_0 12 rfl rfl)
theorem dX0_refusal_13 : decode cX0_refusal 13 = .ok (.iconst 1, 1) := dk_4 (dk_at dksX0_refusal_0 13 rfl rfl)
theorem dX0_refusal_14 : decode cX0_refusal 14 = .ok (.ireturn, 1) := dk_172 (dk_at dksX0_refusal_0 14 rfl rfl)
theorem dX0_refusal_15 : decode cX0_refusal 15 = .ok (.iconst 0, 1) := dk_3 (dk_at dksX0_refusal_0 15 rfl rfl)
theorem dX0_refusal_16 : decode cX0_refusal 16 = .ok (.ireturn, 1) := dk_172 (dk_at dksX0_refusal_0 16 rfl rfl)
abbrev cX0_account : ByteArray := method_27_code
def yX0_account : MethodName := ⟨RX0, "account", "(LMustardMill;I[J)I"⟩
def dkwX0_account_0 : List UInt8 := [44, 3, 42, 27, 182, 0, 98, 133, 80, 167, 0, 6, 78, 4, 172, 3, 172]
abbrev dktX0_account_0 : List UInt8 := dkwX0_account_0 ++ []
theorem dksX0_account_0 : cX0_account.data.toList.drop 0 = dktX0_account_0 := by decide +kernel
theorem dX0_account_0 : decode cX0_account 0 = .ok (.aload_n 2, 1) := dk_44 (dk_at dksX0_account_0 0 rfl rfl)
theorem dX0_account_1 : decode cX0_account 1 = .ok (.iconst 0, 1) := dk_3 (dk_at dksX0_account_0 1 rfl rfl)
theorem dX0_account_2 : decode cX0_account 2 = .ok (.aload_n 0, 1) := dk_42 (dk_at dksX0_account_0 2 rfl rfl)
theorem dX0_account_3 : decode cX0_account 3 = .ok (.iload_n 1, 1) := dk_27 (dk_at dksX0_account_0 3 rfl rfl)
theorem dX0_account_4 : decode cX0_account 4 = .ok (.invokevirtual 98, 3) := dk_182 0 98 (dk_at dksX0_account_0 4 rfl rfl)
theorem dX0_account_7 : decode cX0_account 7 = .ok (.i2l, 1) := dk_133 (dk_at dksX0_account_0 7 rfl rfl)
theorem dX0_account_8 : decode cX0_account 8 = .ok (.lastore, 1) := dk_80 (dk_at dksX0_account_0 8 rfl rfl)
theorem dX0_account_9 : decode cX0_account 9 = .ok (.goto 6, 3) := dk_167 0 6 (dk_at dksX0_account_0 9 rfl rfl)
theorem dX0_account_12 : decode cX0_account 12 = .ok (.astore_n 3, 1) := dk_78 (dk_at dksX0_account_0 12 rfl rfl)
theorem dX0_account_13 : decode cX0_account 13 = .ok (.iconst 1, 1) := dk_4 (dk_at dksX0_account_0 13 rfl rfl)
theorem dX0_account_14 : decode cX0_account 14 = .ok (.ireturn, 1) := dk_172 (dk_at dksX0_account_0 14 rfl rfl)
theorem dX0_account_15 : decode cX0_account 15 = .ok (.iconst 0, 1) := dk_3 (dk_at dksX0_account_0 15 rfl rfl)
theorem dX0_account_16 : decode cX0_account 16 = .ok (.ireturn, 1) := dk_172 (dk_at dksX0_account_0 16 rfl rfl)
abbrev cX0_meanTear : ByteArray := method_28_code
def yX0_meanTear : MethodName := ⟨RX0, "meanTear", "(LMustardMill;[D)I"⟩
def dkwX0_meanTear_0 : List UInt8 := [43, 3, 42, 182, 0, 101, 82, 167, 0, 6, 77, 4, 172, 3, 172]
abbrev dktX0_meanTear_0 : List UInt8 := dkwX0_meanTear_0 ++ []
theorem dksX0_meanTear_0 : cX0_meanTear.data.toList.drop 0 = dktX0_meanTear_0 := by decide +kernel
theorem dX0_meanTear_0 : decode cX0_meanTear 0 = .ok (.aload_n 1, 1) := dk_43 (dk_at dksX0_meanTear_0 0 rfl rfl)
theorem dX0_meanTear_1 : decode cX0_meanTear 1 = .ok (.iconst 0, 1) := dk_3 (dk_at dksX0_meanTear_0 1 rfl rfl)
theorem dX0_meanTear_2 : decode cX0_meanTear 2 = .ok (.aload_n 0, 1) := dk_42 (dk_at dksX0_meanTear_0 2 rfl rfl)
theorem dX0_meanTear_3 : decode cX0_meanTear 3 = .ok (.invokevirtual 101, 3) := dk_182 0 101 (dk_at dksX0_meanTear_0 3 rfl rfl)
theorem dX0_meanTear_6 : decode cX0_meanTear 6 = .ok (.dastore, 1) := dk_82 (dk_at dksX0_meanTear_0 6 rfl rfl)
theorem dX0_meanTear_7 : decode cX0_meanTear 7 = .ok (.goto 6, 3) := dk_167 0 6 (dk_at dksX0_meanTear_0 7 rfl rfl)
theorem dX0_meanTear_10 : decode cX0_meanTear 10 = .ok (.astore_n 2, 1) := dk_77 (dk_at dksX0_meanTear_0 10 rfl rfl)
theorem dX0_meanTear_11 : decode cX0_meanTear 11 = .ok (.iconst 1, 1) := dk_4 (dk_at dksX0_meanTear_0 11 rfl rfl)
theorem dX0_meanTear_12 : decode cX0_meanTear 12 = .ok (.ireturn, 1) := dk_172 (dk_at dksX0_meanTear_0 12 rfl rfl)
theorem dX0_meanTear_13 : decode cX0_meanTear 13 = .ok (.iconst 0, 1) := dk_3 (dk_at dksX0_meanTear_0 13 rfl rfl)
theorem dX0_meanTear_14 : decode cX0_meanTear 14 = .ok (.ireturn, 1) := dk_172 (dk_at dksX0_meanTear_0 14 rfl rfl)
abbrev cX0_soldShare : ByteArray := method_29_code
def yX0_soldShare : MethodName := ⟨RX0, "soldShare", "(LMustardMill;[D)I"⟩
def dkwX0_soldShare_0 : List UInt8 := [43, 3, 42, 182, 0, 107, 141, 82, 167, 0, 6, 77, 4, 172, 3, 172]
abbrev dktX0_soldShare_0 : List UInt8 := dkwX0_soldShare_0 ++ []
theorem dksX0_soldShare_0 : cX0_soldShare.data.toList.drop 0 = dktX0_soldShare_0 := by decide +kernel
theorem dX0_soldShare_0 : decode cX0_soldShare 0 = .ok (.aload_n 1, 1) := dk_43 (dk_at dksX0_soldShare_0 0 rfl rfl)
theorem dX0_soldShare_1 : decode cX0_soldShare 1 = .ok (.iconst 0, 1) := dk_3 (dk_at dksX0_soldShare_0 1 rfl rfl)
theorem dX0_soldShare_2 : decode cX0_soldShare 2 = .ok (.aload_n 0, 1) := dk_42 (dk_at dksX0_soldShare_0 2 rfl rfl)
theorem dX0_soldShare_3 : decode cX0_soldShare 3 = .ok (.invokevirtual 107, 3) := dk_182 0 107 (dk_at dksX0_soldShare_0 3 rfl rfl)
theorem dX0_soldShare_6 : decode cX0_soldShare 6 = .ok (.f2d, 1) := dk_141 (dk_at dksX0_soldShare_0 6 rfl rfl)
theorem dX0_soldShare_7 : decode cX0_soldShare 7 = .ok (.dastore, 1) := dk_82 (dk_at dksX0_soldShare_0 7 rfl rfl)
theorem dX0_soldShare_8 : decode cX0_soldShare 8 = .ok (.goto 6, 3) := dk_167 0 6 (dk_at dksX0_soldShare_0 8 rfl rfl)
theorem dX0_soldShare_11 : decode cX0_soldShare 11 = .ok (.astore_n 2, 1) := dk_77 (dk_at dksX0_soldShare_0 11 rfl rfl)
theorem dX0_soldShare_12 : decode cX0_soldShare 12 = .ok (.iconst 1, 1) := dk_4 (dk_at dksX0_soldShare_0 12 rfl rfl)
theorem dX0_soldShare_13 : decode cX0_soldShare 13 = .ok (.ireturn, 1) := dk_172 (dk_at dksX0_soldShare_0 13 rfl rfl)
theorem dX0_soldShare_14 : decode cX0_soldShare 14 = .ok (.iconst 0, 1) := dk_3 (dk_at dksX0_soldShare_0 14 rfl rfl)
theorem dX0_soldShare_15 : decode cX0_soldShare 15 = .ok (.ireturn, 1) := dk_172 (dk_at dksX0_soldShare_0 15 rfl rfl)
abbrev cX0_append : ByteArray := method_30_code
def yX0_append : MethodName := ⟨RX0, "append", "(LMustardMill;I[J)I"⟩
def dkwX0_append_0 : List UInt8 := [44, 3, 42, 27, 182, 0, 111, 133, 80, 167, 0, 9, 78, 4, 172, 78, 5, 172, 3, 172]
abbrev dktX0_append_0 : List UInt8 := dkwX0_append_0 ++ []
theorem dksX0_append_0 : cX0_append.data.toList.drop 0 = dktX0_append_0 := by decide +kernel
theorem dX0_append_0 : decode cX0_append 0 = .ok (.aload_n 2, 1) := dk_44 (dk_at dksX0_append_0 0 rfl rfl)
theorem dX0_append_1 : decode cX0_append 1 = .ok (.iconst 0, 1) := dk_3 (dk_at dksX0_append_0 1 rfl rfl)
theorem dX0_append_2 : decode cX0_append 2 = .ok (.aload_n 0, 1) := dk_42 (dk_at dksX0_append_0 2 rfl rfl)
theorem dX0_append_3 : decode cX0_append 3 = .ok (.iload_n 1, 1) := dk_27 (dk_at dksX0_append_0 3 rfl rfl)
theorem dX0_append_4 : decode cX0_append 4 = .ok (.invokevirtual 111, 3) := dk_182 0 111 (dk_at dksX0_append_0 4 rfl rfl)
theorem dX0_append_7 : decode cX0_append 7 = .ok (.i2l, 1) := dk_133 (dk_at dksX0_append_0 7 rfl rfl)
theorem dX0_append_8 : decode cX0_append 8 = .ok (.lastore, 1) := dk_80 (dk_at dksX0_append_0 8 rfl rfl)
theorem dX0_append_9 : decode cX0_append 9 = .ok (.goto 9, 3) := dk_167 0 9 (dk_at dksX0_append_0 9 rfl rfl)
theorem dX0_append_12 : decode cX0_append 12 = .ok (.astore_n 3, 1) := dk_78 (dk_at dksX0_append_0 12 rfl rfl)
theorem dX0_append_13 : decode cX0_append 13 = .ok (.iconst 1, 1) := dk_4 (dk_at dksX0_append_0 13 rfl rfl)
theorem dX0_append_14 : decode cX0_append 14 = .ok (.ireturn, 1) := dk_172 (dk_at dksX0_append_0 14 rfl rfl)
theorem dX0_append_15 : decode cX0_append 15 = .ok (.astore_n 3, 1) := dk_78 (dk_at dksX0_append_0 15 rfl rfl)
theorem dX0_append_16 : decode cX0_append 16 = .ok (.iconst 2, 1) := dk_5 (dk_at dksX0_append_0 16 rfl rfl)
theorem dX0_append_17 : decode cX0_append 17 = .ok (.ireturn, 1) := dk_172 (dk_at dksX0_append_0 17 rfl rfl)
theorem dX0_append_18 : decode cX0_append 18 = .ok (.iconst 0, 1) := dk_3 (dk_at dksX0_append_0 18 rfl rfl)
theorem dX0_append_19 : decode cX0_append 19 = .ok (.ireturn, 1) := dk_172 (dk_at dksX0_append_0 19 rfl rfl)
abbrev cX0_read : ByteArray := method_31_code
def yX0_read : MethodName := ⟨RX0, "read", "(LMustardMill;[J)I"⟩
def dkwX0_read_0 : List UInt8 := [43, 3, 42, 182, 0, 114, 133, 80, 167, 0, 9, 77, 4, 172, 77, 5, 172, 3, 172]
abbrev dktX0_read_0 : List UInt8 := dkwX0_read_0 ++ []
theorem dksX0_read_0 : cX0_read.data.toList.drop 0 = dktX0_read_0 := by decide +kernel
theorem dX0_read_0 : decode cX0_read 0 = .ok (.aload_n 1, 1) := dk_43 (dk_at dksX0_read_0 0 rfl rfl)
theorem dX0_read_1 : decode cX0_read 1 = .ok (.iconst 0, 1) := dk_3 (dk_at dksX0_read_0 1 rfl rfl)
theorem dX0_read_2 : decode cX0_read 2 = .ok (.aload_n 0, 1) := dk_42 (dk_at dksX0_read_0 2 rfl rfl)
theorem dX0_read_3 : decode cX0_read 3 = .ok (.invokevirtual 114, 3) := dk_182 0 114 (dk_at dksX0_read_0 3 rfl rfl)
theorem dX0_read_6 : decode cX0_read 6 = .ok (.i2l, 1) := dk_133 (dk_at dksX0_read_0 6 rfl rfl)
theorem dX0_read_7 : decode cX0_read 7 = .ok (.lastore, 1) := dk_80 (dk_at dksX0_read_0 7 rfl rfl)
theorem dX0_read_8 : decode cX0_read 8 = .ok (.goto 9, 3) := dk_167 0 9 (dk_at dksX0_read_0 8 rfl rfl)
theorem dX0_read_11 : decode cX0_read 11 = .ok (.astore_n 2, 1) := dk_77 (dk_at dksX0_read_0 11 rfl rfl)
theorem dX0_read_12 : decode cX0_read 12 = .ok (.iconst 1, 1) := dk_4 (dk_at dksX0_read_0 12 rfl rfl)
theorem dX0_read_13 : decode cX0_read 13 = .ok (.ireturn, 1) := dk_172 (dk_at dksX0_read_0 13 rfl rfl)
theorem dX0_read_14 : decode cX0_read 14 = .ok (.astore_n 2, 1) := dk_77 (dk_at dksX0_read_0 14 rfl rfl)
theorem dX0_read_15 : decode cX0_read 15 = .ok (.iconst 2, 1) := dk_5 (dk_at dksX0_read_0 15 rfl rfl)
theorem dX0_read_16 : decode cX0_read 16 = .ok (.ireturn, 1) := dk_172 (dk_at dksX0_read_0 16 rfl rfl)
theorem dX0_read_17 : decode cX0_read 17 = .ok (.iconst 0, 1) := dk_3 (dk_at dksX0_read_0 17 rfl rfl)
theorem dX0_read_18 : decode cX0_read 18 = .ok (.ireturn, 1) := dk_172 (dk_at dksX0_read_0 18 rfl rfl)
abbrev cX0_errorPosition : ByteArray := method_32_code
def yX0_errorPosition : MethodName := ⟨RX0, "errorPosition", "(LMustardMill;[J)I"⟩
def dkwX0_errorPosition_0 : List UInt8 := [43, 3, 42, 182, 0, 118, 133, 80, 167, 0, 6, 77, 4, 172, 3, 172]
abbrev dktX0_errorPosition_0 : List UInt8 := dkwX0_errorPosition_0 ++ []
theorem dksX0_errorPosition_0 : cX0_errorPosition.data.toList.drop 0 = dktX0_errorPosition_0 := by decide +kernel
theorem dX0_errorPosition_0 : decode cX0_errorPosition 0 = .ok (.aload_n 1, 1) := dk_43 (dk_at dksX0_errorPosition_0 0 rfl rfl)
theorem dX0_errorPosition_1 : decode cX0_errorPosition 1 = .ok (.iconst 0, 1) := dk_3 (dk_at dksX0_errorPosition_0 1 rfl rfl)
theorem dX0_errorPosition_2 : decode cX0_errorPosition 2 = .ok (.aload_n 0, 1) := dk_42 (dk_at dksX0_errorPosition_0 2 rfl rfl)
theorem dX0_errorPosition_3 : decode cX0_errorPosition 3 = .ok (.invokevirtual 118, 3) := dk_182 0 118 (dk_at dksX0_errorPosition_0 3 rfl rfl)
theorem dX0_errorPosition_6 : decode cX0_errorPosition 6 = .ok (.i2l, 1) := dk_133 (dk_at dksX0_errorPosition_0 6 rfl rfl)
theorem dX0_errorPosition_7 : decode cX0_errorPosition 7 = .ok (.lastore, 1) := dk_80 (dk_at dksX0_errorPosition_0 7 rfl rfl)
theorem dX0_errorPosition_8 : decode cX0_errorPosition 8 = .ok (.goto 6, 3) := dk_167 0 6 (dk_at dksX0_errorPosition_0 8 rfl rfl)
theorem dX0_errorPosition_11 : decode cX0_errorPosition 11 = .ok (.astore_n 2, 1) := dk_77 (dk_at dksX0_errorPosition_0 11 rfl rfl)
theorem dX0_errorPosition_12 : decode cX0_errorPosition 12 = .ok (.iconst 1, 1) := dk_4 (dk_at dksX0_errorPosition_0 12 rfl rfl)
theorem dX0_errorPosition_13 : decode cX0_errorPosition 13 = .ok (.ireturn, 1) := dk_172 (dk_at dksX0_errorPosition_0 13 rfl rfl)
theorem dX0_errorPosition_14 : decode cX0_errorPosition 14 = .ok (.iconst 0, 1) := dk_3 (dk_at dksX0_errorPosition_0 14 rfl rfl)
theorem dX0_errorPosition_15 : decode cX0_errorPosition 15 = .ok (.ireturn, 1) := dk_172 (dk_at dksX0_errorPosition_0 15 rfl rfl)
abbrev cX0_refusedItem : ByteArray := method_33_code
def yX0_refusedItem : MethodName := ⟨RX0, "refusedItem", "(LMustardMill;[J)I"⟩
def dkwX0_refusedItem_0 : List UInt8 := [43, 3, 42, 182, 0, 121, 133, 80, 167, 0, 6, 77, 4, 172, 3, 172]
abbrev dktX0_refusedItem_0 : List UInt8 := dkwX0_refusedItem_0 ++ []
theorem dksX0_refusedItem_0 : cX0_refusedItem.data.toList.drop 0 = dktX0_refusedItem_0 := by decide +kernel
theorem dX0_refusedItem_0 : decode cX0_refusedItem 0 = .ok (.aload_n 1, 1) := dk_43 (dk_at dksX0_refusedItem_0 0 rfl rfl)
theorem dX0_refusedItem_1 : decode cX0_refusedItem 1 = .ok (.iconst 0, 1) := dk_3 (dk_at dksX0_refusedItem_0 1 rfl rfl)
theorem dX0_refusedItem_2 : decode cX0_refusedItem 2 = .ok (.aload_n 0, 1) := dk_42 (dk_at dksX0_refusedItem_0 2 rfl rfl)
theorem dX0_refusedItem_3 : decode cX0_refusedItem 3 = .ok (.invokevirtual 121, 3) := dk_182 0 121 (dk_at dksX0_refusedItem_0 3 rfl rfl)
theorem dX0_refusedItem_6 : decode cX0_refusedItem 6 = .ok (.i2l, 1) := dk_133 (dk_at dksX0_refusedItem_0 6 rfl rfl)
theorem dX0_refusedItem_7 : decode cX0_refusedItem 7 = .ok (.lastore, 1) := dk_80 (dk_at dksX0_refusedItem_0 7 rfl rfl)
theorem dX0_refusedItem_8 : decode cX0_refusedItem 8 = .ok (.goto 6, 3) := dk_167 0 6 (dk_at dksX0_refusedItem_0 8 rfl rfl)
theorem dX0_refusedItem_11 : decode cX0_refusedItem 11 = .ok (.astore_n 2, 1) := dk_77 (dk_at dksX0_refusedItem_0 11 rfl rfl)
theorem dX0_refusedItem_12 : decode cX0_refusedItem 12 = .ok (.iconst 1, 1) := dk_4 (dk_at dksX0_refusedItem_0 12 rfl rfl)
theorem dX0_refusedItem_13 : decode cX0_refusedItem 13 = .ok (.ireturn, 1) := dk_172 (dk_at dksX0_refusedItem_0 13 rfl rfl)
theorem dX0_refusedItem_14 : decode cX0_refusedItem 14 = .ok (.iconst 0, 1) := dk_3 (dk_at dksX0_refusedItem_0 14 rfl rfl)
theorem dX0_refusedItem_15 : decode cX0_refusedItem 15 = .ok (.ireturn, 1) := dk_172 (dk_at dksX0_refusedItem_0 15 rfl rfl)
abbrev cX0_undo : ByteArray := method_34_code
def yX0_undo : MethodName := ⟨RX0, "undo", "(LMustardMill;[J)I"⟩
def dkwX0_undo_0 : List UInt8 := [43, 3, 42, 182, 0, 124, 133, 80, 167, 0, 6, 77, 4, 172, 3, 172]
abbrev dktX0_undo_0 : List UInt8 := dkwX0_undo_0 ++ []
theorem dksX0_undo_0 : cX0_undo.data.toList.drop 0 = dktX0_undo_0 := by decide +kernel
theorem dX0_undo_0 : decode cX0_undo 0 = .ok (.aload_n 1, 1) := dk_43 (dk_at dksX0_undo_0 0 rfl rfl)
theorem dX0_undo_1 : decode cX0_undo 1 = .ok (.iconst 0, 1) := dk_3 (dk_at dksX0_undo_0 1 rfl rfl)
theorem dX0_undo_2 : decode cX0_undo 2 = .ok (.aload_n 0, 1) := dk_42 (dk_at dksX0_undo_0 2 rfl rfl)
theorem dX0_undo_3 : decode cX0_undo 3 = .ok (.invokevirtual 124, 3) := dk_182 0 124 (dk_at dksX0_undo_0 3 rfl rfl)
theorem dX0_undo_6 : decode cX0_undo 6 = .ok (.i2l, 1) := dk_133 (dk_at dksX0_undo_0 6 rfl rfl)
theorem dX0_undo_7 : decode cX0_undo 7 = .ok (.lastore, 1) := dk_80 (dk_at dksX0_undo_0 7 rfl rfl)
theorem dX0_undo_8 : decode cX0_undo 8 = .ok (.goto 6, 3) := dk_167 0 6 (dk_at dksX0_undo_0 8 rfl rfl)
theorem dX0_undo_11 : decode cX0_undo 11 = .ok (.astore_n 2, 1) := dk_77 (dk_at dksX0_undo_0 11 rfl rfl)
theorem dX0_undo_12 : decode cX0_undo 12 = .ok (.iconst 1, 1) := dk_4 (dk_at dksX0_undo_0 12 rfl rfl)
theorem dX0_undo_13 : decode cX0_undo 13 = .ok (.ireturn, 1) := dk_172 (dk_at dksX0_undo_0 13 rfl rfl)
theorem dX0_undo_14 : decode cX0_undo 14 = .ok (.iconst 0, 1) := dk_3 (dk_at dksX0_undo_0 14 rfl rfl)
theorem dX0_undo_15 : decode cX0_undo 15 = .ok (.ireturn, 1) := dk_172 (dk_at dksX0_undo_0 15 rfl rfl)
abbrev cX0_restore : ByteArray := method_35_code
def yX0_restore : MethodName := ⟨RX0, "restore", "(LMustardMill;[J)I"⟩
def dkwX0_restore_0 : List UInt8 := [43, 3, 42, 182, 0, 127, 133, 80, 167, 0, 6, 77, 4, 172, 3, 172]
abbrev dktX0_restore_0 : List UInt8 := dkwX0_restore_0 ++ []
theorem dksX0_restore_0 : cX0_restore.data.toList.drop 0 = dktX0_restore_0 := by decide +kernel
theorem dX0_restore_0 : decode cX0_restore 0 = .ok (.aload_n 1, 1) := dk_43 (dk_at dksX0_restore_0 0 rfl rfl)
theorem dX0_restore_1 : decode cX0_restore 1 = .ok (.iconst 0, 1) := dk_3 (dk_at dksX0_restore_0 1 rfl rfl)
theorem dX0_restore_2 : decode cX0_restore 2 = .ok (.aload_n 0, 1) := dk_42 (dk_at dksX0_restore_0 2 rfl rfl)
theorem dX0_restore_3 : decode cX0_restore 3 = .ok (.invokevirtual 127, 3) := dk_182 0 127 (dk_at dksX0_restore_0 3 rfl rfl)
theorem dX0_restore_6 : decode cX0_restore 6 = .ok (.i2l, 1) := dk_133 (dk_at dksX0_restore_0 6 rfl rfl)
theorem dX0_restore_7 : decode cX0_restore 7 = .ok (.lastore, 1) := dk_80 (dk_at dksX0_restore_0 7 rfl rfl)
theorem dX0_restore_8 : decode cX0_restore 8 = .ok (.goto 6, 3) := dk_167 0 6 (dk_at dksX0_restore_0 8 rfl rfl)
theorem dX0_restore_11 : decode cX0_restore 11 = .ok (.astore_n 2, 1) := dk_77 (dk_at dksX0_restore_0 11 rfl rfl)
theorem dX0_restore_12 : decode cX0_restore 12 = .ok (.iconst 1, 1) := dk_4 (dk_at dksX0_restore_0 12 rfl rfl)
theorem dX0_restore_13 : decode cX0_restore 13 = .ok (.ireturn, 1) := dk_172 (dk_at dksX0_restore_0 13 rfl rfl)
theorem dX0_restore_14 : decode cX0_restore 14 = .ok (.iconst 0, 1) := dk_3 (dk_at dksX0_restore_0 14 rfl rfl)
theorem dX0_restore_15 : decode cX0_restore 15 = .ok (.ireturn, 1) := dk_172 (dk_at dksX0_restore_0 15 rfl rfl)
theorem q63 : (Jvm.Cond.initialized "MustardMillLaw") ∈ lw_all := lw_g (lw_at lw_m1 0 rfl) rfl
theorem q111 : (Jvm.Cond.classLink "MustardMillLaw" (8 : Nat) "MustardMill") ∈ lw_all := lw_g (lw_at lw_m1 48 rfl) rfl
theorem q113 : (Jvm.Cond.methodLink "MustardMillLaw" (130 : Nat) ({ cls := "MustardMill", name := "<init>", desc := "()V" } : Jvm.MethodName)) ∈ lw_all := lw_g (lw_at lw_m1 50 rfl) rfl
theorem q316 : (Jvm.Cond.methodLink "MustardMillLaw" (134 : Nat) ({ cls := "MustardMill", name := "clear", desc := "()I" } : Jvm.MethodName)) ∈ lw_all := lw_g (lw_at lw_m2 13 rfl) rfl
theorem q327 : (Jvm.Cond.methodLink "MustardMillLaw" (214 : Nat) ({ cls := "MustardMill", name := "stockLine", desc := "()I" } : Jvm.MethodName)) ∈ lw_all := lw_g (lw_at lw_m2 24 rfl) rfl
theorem q659 : (Jvm.Cond.methodLink "MustardMillLaw" (251 : Nat) ({ cls := "MustardMill", name := "snapshot", desc := "()I" } : Jvm.MethodName)) ∈ lw_all := lw_g (lw_at lw_m3 116 rfl) rfl
theorem q663 : (Jvm.Cond.methodLink "MustardMillLaw" (138 : Nat) ({ cls := "MustardMillLaw", name := "buy", desc := "(LMustardMill;II[J)I" } : Jvm.MethodName)) ∈ lw_all := lw_g (lw_at lw_m3 120 rfl) rfl
theorem q664 : (Jvm.Cond.static ({ cls := "MustardMillLaw", name := "buy", desc := "(LMustardMill;II[J)I" } : Jvm.MethodName)) ∈ lw_all := lw_g (lw_at lw_m3 121 rfl) rfl
theorem q665 : (Jvm.Cond.codeWith ({ cls := "MustardMillLaw", name := "buy", desc := "(LMustardMill;II[J)I" } : Jvm.MethodName) method_3_code (5 : Nat) (Option.some Jvm.ClassFile.FieldType.int) [((0 : Nat), (10 : Nat), (13 : Nat), (13 : Nat)), ((0 : Nat), (10 : Nat), (17 : Nat), (15 : Nat))]) ∈ lw_all := lw_g (lw_at lw_m3 122 rfl) rfl
theorem q666 : (Jvm.Cond.classLink "MustardMillLaw" (13 : Nat) "java/lang/IllegalArgumentException") ∈ lw_all := lw_g (lw_at lw_m3 123 rfl) rfl
theorem q667 : (Jvm.Cond.classLink "MustardMillLaw" (15 : Nat) "java/lang/UnsupportedOperationException") ∈ lw_all := lw_g (lw_at lw_m3 124 rfl) rfl
theorem q668 : (Jvm.Cond.methodLink "MustardMillLaw" (7 : Nat) ({ cls := "MustardMill", name := "buy", desc := "(II)I" } : Jvm.MethodName)) ∈ lw_all := lw_g (lw_at lw_m3 125 rfl) rfl
theorem q1542 : (Jvm.Cond.methodLink "MustardMillLaw" (147 : Nat) ({ cls := "MustardMillLaw", name := "quernOf", desc := "(LMustardMill;II[J)I" } : Jvm.MethodName)) ∈ lw_all := lw_g (lw_at lw_m7 39 rfl) rfl
theorem q1543 : (Jvm.Cond.static ({ cls := "MustardMillLaw", name := "quernOf", desc := "(LMustardMill;II[J)I" } : Jvm.MethodName)) ∈ lw_all := lw_g (lw_at lw_m7 40 rfl) rfl
theorem q1544 : (Jvm.Cond.codeWith ({ cls := "MustardMillLaw", name := "quernOf", desc := "(LMustardMill;II[J)I" } : Jvm.MethodName) method_4_code (5 : Nat) (Option.some Jvm.ClassFile.FieldType.int) [((0 : Nat), (10 : Nat), (13 : Nat), (20 : Nat)), ((0 : Nat), (10 : Nat), (17 : Nat), (13 : Nat))]) ∈ lw_all := lw_g (lw_at lw_m7 41 rfl) rfl
theorem q1545 : (Jvm.Cond.classLink "MustardMillLaw" (20 : Nat) "java/lang/IndexOutOfBoundsException") ∈ lw_all := lw_g (lw_at lw_m7 42 rfl) rfl
theorem q1564 : (Jvm.Cond.methodLink "MustardMillLaw" (17 : Nat) ({ cls := "MustardMill", name := "quernOf", desc := "(II)I" } : Jvm.MethodName)) ∈ lw_all := lw_g (lw_at lw_m7 61 rfl) rfl
theorem q1569 : (Jvm.Cond.methodLink "MustardMillLaw" (150 : Nat) ({ cls := "MustardMillLaw", name := "dress", desc := "(LMustardMill;I[J)I" } : Jvm.MethodName)) ∈ lw_all := lw_g (lw_at lw_m7 66 rfl) rfl
theorem q1570 : (Jvm.Cond.static ({ cls := "MustardMillLaw", name := "dress", desc := "(LMustardMill;I[J)I" } : Jvm.MethodName)) ∈ lw_all := lw_g (lw_at lw_m7 67 rfl) rfl
theorem q1571 : (Jvm.Cond.codeWith ({ cls := "MustardMillLaw", name := "dress", desc := "(LMustardMill;I[J)I" } : Jvm.MethodName) method_5_code (4 : Nat) (Option.some Jvm.ClassFile.FieldType.int) [((0 : Nat), (9 : Nat), (12 : Nat), (20 : Nat)), ((0 : Nat), (9 : Nat), (15 : Nat), (15 : Nat))]) ∈ lw_all := lw_g (lw_at lw_m7 68 rfl) rfl
theorem q1572 : (Jvm.Cond.methodLink "MustardMillLaw" (22 : Nat) ({ cls := "MustardMill", name := "dress", desc := "(I)I" } : Jvm.MethodName)) ∈ lw_all := lw_g (lw_at lw_m7 69 rfl) rfl
theorem q1577 : (Jvm.Cond.methodLink "MustardMillLaw" (154 : Nat) ({ cls := "MustardMillLaw", name := "grind", desc := "(LMustardMill;IIII[J)I" } : Jvm.MethodName)) ∈ lw_all := lw_g (lw_at lw_m7 74 rfl) rfl
theorem q1578 : (Jvm.Cond.static ({ cls := "MustardMillLaw", name := "grind", desc := "(LMustardMill;IIII[J)I" } : Jvm.MethodName)) ∈ lw_all := lw_g (lw_at lw_m7 75 rfl) rfl
theorem q1579 : (Jvm.Cond.codeWith ({ cls := "MustardMillLaw", name := "grind", desc := "(LMustardMill;IIII[J)I" } : Jvm.MethodName) method_6_code (7 : Nat) (Option.some Jvm.ClassFile.FieldType.int) [((0 : Nat), (14 : Nat), (17 : Nat), (20 : Nat)), ((0 : Nat), (14 : Nat), (21 : Nat), (13 : Nat)), ((0 : Nat), (14 : Nat), (25 : Nat), (15 : Nat))]) ∈ lw_all := lw_g (lw_at lw_m7 76 rfl) rfl
theorem q1580 : (Jvm.Cond.methodLink "MustardMillLaw" (26 : Nat) ({ cls := "MustardMill", name := "grind", desc := "(IIII)I" } : Jvm.MethodName)) ∈ lw_all := lw_g (lw_at lw_m7 77 rfl) rfl
theorem q1585 : (Jvm.Cond.methodLink "MustardMillLaw" (158 : Nat) ({ cls := "MustardMillLaw", name := "biteOf", desc := "(LMustardMill;IIII[J)I" } : Jvm.MethodName)) ∈ lw_all := lw_g (lw_at lw_m7 82 rfl) rfl
theorem q1586 : (Jvm.Cond.static ({ cls := "MustardMillLaw", name := "biteOf", desc := "(LMustardMill;IIII[J)I" } : Jvm.MethodName)) ∈ lw_all := lw_g (lw_at lw_m7 83 rfl) rfl
theorem q1587 : (Jvm.Cond.codeWith ({ cls := "MustardMillLaw", name := "biteOf", desc := "(LMustardMill;IIII[J)I" } : Jvm.MethodName) method_7_code (7 : Nat) (Option.some Jvm.ClassFile.FieldType.int) [((0 : Nat), (14 : Nat), (17 : Nat), (20 : Nat)), ((0 : Nat), (14 : Nat), (21 : Nat), (13 : Nat))]) ∈ lw_all := lw_g (lw_at lw_m7 84 rfl) rfl
theorem q1588 : (Jvm.Cond.methodLink "MustardMillLaw" (30 : Nat) ({ cls := "MustardMill", name := "biteOf", desc := "(IIII)I" } : Jvm.MethodName)) ∈ lw_all := lw_g (lw_at lw_m7 85 rfl) rfl
theorem q1596 : (Jvm.Cond.methodLink "MustardMillLaw" (161 : Nat) ({ cls := "MustardMillLaw", name := "mix", desc := "(LMustardMill;II[J)I" } : Jvm.MethodName)) ∈ lw_all := lw_g (lw_at lw_m7 93 rfl) rfl
theorem q1597 : (Jvm.Cond.static ({ cls := "MustardMillLaw", name := "mix", desc := "(LMustardMill;II[J)I" } : Jvm.MethodName)) ∈ lw_all := lw_g (lw_at lw_m7 94 rfl) rfl
theorem q1598 : (Jvm.Cond.codeWith ({ cls := "MustardMillLaw", name := "mix", desc := "(LMustardMill;II[J)I" } : Jvm.MethodName) method_8_code (5 : Nat) (Option.some Jvm.ClassFile.FieldType.int) [((0 : Nat), (10 : Nat), (13 : Nat), (20 : Nat)), ((0 : Nat), (10 : Nat), (17 : Nat), (13 : Nat)), ((0 : Nat), (10 : Nat), (21 : Nat), (15 : Nat))]) ∈ lw_all := lw_g (lw_at lw_m7 95 rfl) rfl
theorem q1599 : (Jvm.Cond.methodLink "MustardMillLaw" (33 : Nat) ({ cls := "MustardMill", name := "mix", desc := "(II)I" } : Jvm.MethodName)) ∈ lw_all := lw_g (lw_at lw_m7 96 rfl) rfl
theorem q1604 : (Jvm.Cond.methodLink "MustardMillLaw" (164 : Nat) ({ cls := "MustardMillLaw", name := "batchOf", desc := "(LMustardMill;II[J)I" } : Jvm.MethodName)) ∈ lw_all := lw_g (lw_at lw_m7 101 rfl) rfl
theorem q1605 : (Jvm.Cond.static ({ cls := "MustardMillLaw", name := "batchOf", desc := "(LMustardMill;II[J)I" } : Jvm.MethodName)) ∈ lw_all := lw_g (lw_at lw_m7 102 rfl) rfl
theorem q1606 : (Jvm.Cond.codeWith ({ cls := "MustardMillLaw", name := "batchOf", desc := "(LMustardMill;II[J)I" } : Jvm.MethodName) method_9_code (5 : Nat) (Option.some Jvm.ClassFile.FieldType.int) [((0 : Nat), (10 : Nat), (13 : Nat), (20 : Nat)), ((0 : Nat), (10 : Nat), (17 : Nat), (13 : Nat))]) ∈ lw_all := lw_g (lw_at lw_m7 103 rfl) rfl
theorem q1607 : (Jvm.Cond.methodLink "MustardMillLaw" (36 : Nat) ({ cls := "MustardMill", name := "batchOf", desc := "(II)I" } : Jvm.MethodName)) ∈ lw_all := lw_g (lw_at lw_m7 104 rfl) rfl
theorem q1614 : (Jvm.Cond.methodLink "MustardMillLaw" (167 : Nat) ({ cls := "MustardMillLaw", name := "jar", desc := "(LMustardMill;II[J)I" } : Jvm.MethodName)) ∈ lw_all := lw_g (lw_at lw_m7 111 rfl) rfl
theorem q1615 : (Jvm.Cond.static ({ cls := "MustardMillLaw", name := "jar", desc := "(LMustardMill;II[J)I" } : Jvm.MethodName)) ∈ lw_all := lw_g (lw_at lw_m7 112 rfl) rfl
theorem q1616 : (Jvm.Cond.codeWith ({ cls := "MustardMillLaw", name := "jar", desc := "(LMustardMill;II[J)I" } : Jvm.MethodName) method_10_code (5 : Nat) (Option.some Jvm.ClassFile.FieldType.int) [((0 : Nat), (10 : Nat), (13 : Nat), (20 : Nat)), ((0 : Nat), (10 : Nat), (17 : Nat), (13 : Nat)), ((0 : Nat), (10 : Nat), (21 : Nat), (15 : Nat))]) ∈ lw_all := lw_g (lw_at lw_m7 113 rfl) rfl
theorem q1617 : (Jvm.Cond.methodLink "MustardMillLaw" (39 : Nat) ({ cls := "MustardMill", name := "jar", desc := "(II)I" } : Jvm.MethodName)) ∈ lw_all := lw_g (lw_at lw_m7 114 rfl) rfl
theorem q1622 : (Jvm.Cond.methodLink "MustardMillLaw" (170 : Nat) ({ cls := "MustardMillLaw", name := "open", desc := "(LMustardMill;I[J)I" } : Jvm.MethodName)) ∈ lw_all := lw_g (lw_at lw_m7 119 rfl) rfl
theorem q1623 : (Jvm.Cond.static ({ cls := "MustardMillLaw", name := "open", desc := "(LMustardMill;I[J)I" } : Jvm.MethodName)) ∈ lw_all := lw_g (lw_at lw_m7 120 rfl) rfl
theorem q1624 : (Jvm.Cond.codeWith ({ cls := "MustardMillLaw", name := "open", desc := "(LMustardMill;I[J)I" } : Jvm.MethodName) method_11_code (4 : Nat) (Option.some Jvm.ClassFile.FieldType.int) [((0 : Nat), (9 : Nat), (12 : Nat), (20 : Nat)), ((0 : Nat), (9 : Nat), (15 : Nat), (15 : Nat))]) ∈ lw_all := lw_g (lw_at lw_m7 121 rfl) rfl
theorem q1625 : (Jvm.Cond.methodLink "MustardMillLaw" (42 : Nat) ({ cls := "MustardMill", name := "open", desc := "(I)I" } : Jvm.MethodName)) ∈ lw_all := lw_g (lw_at lw_m7 122 rfl) rfl
theorem q1630 : (Jvm.Cond.methodLink "MustardMillLaw" (173 : Nat) ({ cls := "MustardMillLaw", name := "sell", desc := "(LMustardMill;I[J)I" } : Jvm.MethodName)) ∈ lw_all := lw_g (lw_at lw_m7 127 rfl) rfl
theorem q1631 : (Jvm.Cond.static ({ cls := "MustardMillLaw", name := "sell", desc := "(LMustardMill;I[J)I" } : Jvm.MethodName)) ∈ lw_all := lw_g (lw_at lw_m7 128 rfl) rfl
theorem q1632 : (Jvm.Cond.codeWith ({ cls := "MustardMillLaw", name := "sell", desc := "(LMustardMill;I[J)I" } : Jvm.MethodName) method_12_code (4 : Nat) (Option.some Jvm.ClassFile.FieldType.int) [((0 : Nat), (9 : Nat), (12 : Nat), (20 : Nat)), ((0 : Nat), (9 : Nat), (15 : Nat), (15 : Nat))]) ∈ lw_all := lw_g (lw_at lw_m7 129 rfl) rfl
theorem q1633 : (Jvm.Cond.methodLink "MustardMillLaw" (45 : Nat) ({ cls := "MustardMill", name := "sell", desc := "(I)I" } : Jvm.MethodName)) ∈ lw_all := lw_g (lw_at lw_m7 130 rfl) rfl
theorem q1638 : (Jvm.Cond.methodLink "MustardMillLaw" (176 : Nat) ({ cls := "MustardMillLaw", name := "jarOf", desc := "(LMustardMill;II[J)I" } : Jvm.MethodName)) ∈ lw_all := lw_g (lw_at lw_m7 135 rfl) rfl
theorem q1639 : (Jvm.Cond.static ({ cls := "MustardMillLaw", name := "jarOf", desc := "(LMustardMill;II[J)I" } : Jvm.MethodName)) ∈ lw_all := lw_g (lw_at lw_m7 136 rfl) rfl
theorem q1640 : (Jvm.Cond.codeWith ({ cls := "MustardMillLaw", name := "jarOf", desc := "(LMustardMill;II[J)I" } : Jvm.MethodName) method_13_code (5 : Nat) (Option.some Jvm.ClassFile.FieldType.int) [((0 : Nat), (10 : Nat), (13 : Nat), (20 : Nat)), ((0 : Nat), (10 : Nat), (17 : Nat), (13 : Nat))]) ∈ lw_all := lw_g (lw_at lw_m7 137 rfl) rfl
theorem q1641 : (Jvm.Cond.methodLink "MustardMillLaw" (48 : Nat) ({ cls := "MustardMill", name := "jarOf", desc := "(II)I" } : Jvm.MethodName)) ∈ lw_all := lw_g (lw_at lw_m7 138 rfl) rfl
theorem q1649 : (Jvm.Cond.methodLink "MustardMillLaw" (179 : Nat) ({ cls := "MustardMillLaw", name := "tearBehind", desc := "(LMustardMill;IIZ[J)I" } : Jvm.MethodName)) ∈ lw_all := lw_g (lw_at lw_m7 146 rfl) rfl
theorem q1650 : (Jvm.Cond.static ({ cls := "MustardMillLaw", name := "tearBehind", desc := "(LMustardMill;IIZ[J)I" } : Jvm.MethodName)) ∈ lw_all := lw_g (lw_at lw_m7 147 rfl) rfl
theorem q1651 : (Jvm.Cond.codeWith ({ cls := "MustardMillLaw", name := "tearBehind", desc := "(LMustardMill;IIZ[J)I" } : Jvm.MethodName) method_14_code (6 : Nat) (Option.some Jvm.ClassFile.FieldType.int) [((0 : Nat), (12 : Nat), (15 : Nat), (20 : Nat)), ((0 : Nat), (12 : Nat), (19 : Nat), (13 : Nat)), ((0 : Nat), (12 : Nat), (23 : Nat), (55 : Nat))]) ∈ lw_all := lw_g (lw_at lw_m7 148 rfl) rfl
theorem q1652 : (Jvm.Cond.classLink "MustardMillLaw" (55 : Nat) "java/lang/IllegalStateException") ∈ lw_all := lw_g (lw_at lw_m7 149 rfl) rfl
theorem q1653 : (Jvm.Cond.methodLink "MustardMillLaw" (51 : Nat) ({ cls := "MustardMill", name := "tearBehind", desc := "(IIZ)I" } : Jvm.MethodName)) ∈ lw_all := lw_g (lw_at lw_m7 150 rfl) rfl
theorem q1670 : (Jvm.Cond.methodLink "MustardMillLaw" (183 : Nat) ({ cls := "MustardMillLaw", name := "strongest", desc := "(LMustardMill;I[J)I" } : Jvm.MethodName)) ∈ lw_all := lw_g (lw_at lw_m7 167 rfl) rfl
theorem q1671 : (Jvm.Cond.static ({ cls := "MustardMillLaw", name := "strongest", desc := "(LMustardMill;I[J)I" } : Jvm.MethodName)) ∈ lw_all := lw_g (lw_at lw_m7 168 rfl) rfl
theorem q1672 : (Jvm.Cond.codeWith ({ cls := "MustardMillLaw", name := "strongest", desc := "(LMustardMill;I[J)I" } : Jvm.MethodName) method_15_code (4 : Nat) (Option.some Jvm.ClassFile.FieldType.int) [((0 : Nat), (9 : Nat), (12 : Nat), (60 : Nat))]) ∈ lw_all := lw_g (lw_at lw_m7 169 rfl) rfl
theorem q1673 : (Jvm.Cond.classLink "MustardMillLaw" (60 : Nat) "java/util/NoSuchElementException") ∈ lw_all := lw_g (lw_at lw_m7 170 rfl) rfl
theorem q1674 : (Jvm.Cond.methodLink "MustardMillLaw" (57 : Nat) ({ cls := "MustardMill", name := "strongest", desc := "(I)I" } : Jvm.MethodName)) ∈ lw_all := lw_g (lw_at lw_m7 171 rfl) rfl
theorem q1719 : (Jvm.Cond.methodLink "MustardMillLaw" (186 : Nat) ({ cls := "MustardMillLaw", name := "order", desc := "(LMustardMill;II[J)I" } : Jvm.MethodName)) ∈ lw_all := lw_g (lw_at lw_m7 216 rfl) rfl
theorem q1720 : (Jvm.Cond.static ({ cls := "MustardMillLaw", name := "order", desc := "(LMustardMill;II[J)I" } : Jvm.MethodName)) ∈ lw_all := lw_g (lw_at lw_m7 217 rfl) rfl
theorem q1721 : (Jvm.Cond.codeWith ({ cls := "MustardMillLaw", name := "order", desc := "(LMustardMill;II[J)I" } : Jvm.MethodName) method_16_code (5 : Nat) (Option.some Jvm.ClassFile.FieldType.int) [((0 : Nat), (10 : Nat), (13 : Nat), (13 : Nat)), ((0 : Nat), (10 : Nat), (17 : Nat), (15 : Nat))]) ∈ lw_all := lw_g (lw_at lw_m7 218 rfl) rfl
theorem q1722 : (Jvm.Cond.methodLink "MustardMillLaw" (62 : Nat) ({ cls := "MustardMill", name := "order", desc := "(II)I" } : Jvm.MethodName)) ∈ lw_all := lw_g (lw_at lw_m7 219 rfl) rfl
theorem q1727 : (Jvm.Cond.methodLink "MustardMillLaw" (189 : Nat) ({ cls := "MustardMillLaw", name := "serve", desc := "(LMustardMill;I[J)I" } : Jvm.MethodName)) ∈ lw_all := lw_g (lw_at lw_m7 224 rfl) rfl
theorem q1728 : (Jvm.Cond.static ({ cls := "MustardMillLaw", name := "serve", desc := "(LMustardMill;I[J)I" } : Jvm.MethodName)) ∈ lw_all := lw_g (lw_at lw_m7 225 rfl) rfl
theorem q1729 : (Jvm.Cond.codeWith ({ cls := "MustardMillLaw", name := "serve", desc := "(LMustardMill;I[J)I" } : Jvm.MethodName) method_17_code (4 : Nat) (Option.some Jvm.ClassFile.FieldType.int) [((0 : Nat), (9 : Nat), (12 : Nat), (20 : Nat)), ((0 : Nat), (9 : Nat), (15 : Nat), (15 : Nat))]) ∈ lw_all := lw_g (lw_at lw_m7 226 rfl) rfl
theorem q1730 : (Jvm.Cond.methodLink "MustardMillLaw" (65 : Nat) ({ cls := "MustardMill", name := "serve", desc := "(I)I" } : Jvm.MethodName)) ∈ lw_all := lw_g (lw_at lw_m7 227 rfl) rfl
theorem q1735 : (Jvm.Cond.methodLink "MustardMillLaw" (192 : Nat) ({ cls := "MustardMillLaw", name := "orderOf", desc := "(LMustardMill;II[J)I" } : Jvm.MethodName)) ∈ lw_all := lw_g (lw_at lw_m7 232 rfl) rfl
theorem q1736 : (Jvm.Cond.static ({ cls := "MustardMillLaw", name := "orderOf", desc := "(LMustardMill;II[J)I" } : Jvm.MethodName)) ∈ lw_all := lw_g (lw_at lw_m7 233 rfl) rfl
theorem q1737 : (Jvm.Cond.codeWith ({ cls := "MustardMillLaw", name := "orderOf", desc := "(LMustardMill;II[J)I" } : Jvm.MethodName) method_18_code (5 : Nat) (Option.some Jvm.ClassFile.FieldType.int) [((0 : Nat), (10 : Nat), (13 : Nat), (20 : Nat)), ((0 : Nat), (10 : Nat), (17 : Nat), (13 : Nat))]) ∈ lw_all := lw_g (lw_at lw_m7 234 rfl) rfl
theorem q1738 : (Jvm.Cond.methodLink "MustardMillLaw" (68 : Nat) ({ cls := "MustardMill", name := "orderOf", desc := "(II)I" } : Jvm.MethodName)) ∈ lw_all := lw_g (lw_at lw_m7 235 rfl) rfl
theorem q1746 : (Jvm.Cond.methodLink "MustardMillLaw" (195 : Nat) ({ cls := "MustardMillLaw", name := "servedIn", desc := "(LMustardMill;I[J)I" } : Jvm.MethodName)) ∈ lw_all := lw_g (lw_at lw_m8 3 rfl) rfl
theorem q1747 : (Jvm.Cond.static ({ cls := "MustardMillLaw", name := "servedIn", desc := "(LMustardMill;I[J)I" } : Jvm.MethodName)) ∈ lw_all := lw_g (lw_at lw_m8 4 rfl) rfl
theorem q1748 : (Jvm.Cond.codeWith ({ cls := "MustardMillLaw", name := "servedIn", desc := "(LMustardMill;I[J)I" } : Jvm.MethodName) method_19_code (4 : Nat) (Option.some Jvm.ClassFile.FieldType.int) [((0 : Nat), (9 : Nat), (12 : Nat), (20 : Nat)), ((0 : Nat), (9 : Nat), (15 : Nat), (55 : Nat)), ((0 : Nat), (9 : Nat), (18 : Nat), (60 : Nat))]) ∈ lw_all := lw_g (lw_at lw_m8 5 rfl) rfl
theorem q1749 : (Jvm.Cond.methodLink "MustardMillLaw" (71 : Nat) ({ cls := "MustardMill", name := "servedIn", desc := "(I)I" } : Jvm.MethodName)) ∈ lw_all := lw_g (lw_at lw_m8 6 rfl) rfl
theorem q1758 : (Jvm.Cond.methodLink "MustardMillLaw" (198 : Nat) ({ cls := "MustardMillLaw", name := "rest", desc := "(LMustardMill;I[J)I" } : Jvm.MethodName)) ∈ lw_all := lw_g (lw_at lw_m8 15 rfl) rfl
theorem q1759 : (Jvm.Cond.static ({ cls := "MustardMillLaw", name := "rest", desc := "(LMustardMill;I[J)I" } : Jvm.MethodName)) ∈ lw_all := lw_g (lw_at lw_m8 16 rfl) rfl
theorem q1760 : (Jvm.Cond.codeWith ({ cls := "MustardMillLaw", name := "rest", desc := "(LMustardMill;I[J)I" } : Jvm.MethodName) method_20_code (4 : Nat) (Option.some Jvm.ClassFile.FieldType.int) [((0 : Nat), (9 : Nat), (12 : Nat), (13 : Nat))]) ∈ lw_all := lw_g (lw_at lw_m8 17 rfl) rfl
theorem q1761 : (Jvm.Cond.methodLink "MustardMillLaw" (74 : Nat) ({ cls := "MustardMill", name := "rest", desc := "(I)I" } : Jvm.MethodName)) ∈ lw_all := lw_g (lw_at lw_m8 18 rfl) rfl
theorem q1766 : (Jvm.Cond.methodLink "MustardMillLaw" (201 : Nat) ({ cls := "MustardMillLaw", name := "tray", desc := "(LMustardMill;I[J)I" } : Jvm.MethodName)) ∈ lw_all := lw_g (lw_at lw_m8 23 rfl) rfl
theorem q1767 : (Jvm.Cond.static ({ cls := "MustardMillLaw", name := "tray", desc := "(LMustardMill;I[J)I" } : Jvm.MethodName)) ∈ lw_all := lw_g (lw_at lw_m8 24 rfl) rfl
theorem q1768 : (Jvm.Cond.codeWith ({ cls := "MustardMillLaw", name := "tray", desc := "(LMustardMill;I[J)I" } : Jvm.MethodName) method_21_code (4 : Nat) (Option.some Jvm.ClassFile.FieldType.int) [((0 : Nat), (9 : Nat), (12 : Nat), (13 : Nat))]) ∈ lw_all := lw_g (lw_at lw_m8 25 rfl) rfl
theorem q1769 : (Jvm.Cond.methodLink "MustardMillLaw" (77 : Nat) ({ cls := "MustardMill", name := "tray", desc := "(I)I" } : Jvm.MethodName)) ∈ lw_all := lw_g (lw_at lw_m8 26 rfl) rfl
theorem q1774 : (Jvm.Cond.methodLink "MustardMillLaw" (204 : Nat) ({ cls := "MustardMillLaw", name := "lay", desc := "(LMustardMill;III[J)I" } : Jvm.MethodName)) ∈ lw_all := lw_g (lw_at lw_m8 31 rfl) rfl
theorem q1775 : (Jvm.Cond.static ({ cls := "MustardMillLaw", name := "lay", desc := "(LMustardMill;III[J)I" } : Jvm.MethodName)) ∈ lw_all := lw_g (lw_at lw_m8 32 rfl) rfl
theorem q1776 : (Jvm.Cond.codeWith ({ cls := "MustardMillLaw", name := "lay", desc := "(LMustardMill;III[J)I" } : Jvm.MethodName) method_22_code (6 : Nat) (Option.some Jvm.ClassFile.FieldType.int) [((0 : Nat), (12 : Nat), (15 : Nat), (20 : Nat)), ((0 : Nat), (12 : Nat), (19 : Nat), (13 : Nat)), ((0 : Nat), (12 : Nat), (23 : Nat), (15 : Nat))]) ∈ lw_all := lw_g (lw_at lw_m8 33 rfl) rfl
theorem q1777 : (Jvm.Cond.methodLink "MustardMillLaw" (80 : Nat) ({ cls := "MustardMill", name := "lay", desc := "(III)I" } : Jvm.MethodName)) ∈ lw_all := lw_g (lw_at lw_m8 34 rfl) rfl
theorem q1782 : (Jvm.Cond.methodLink "MustardMillLaw" (208 : Nat) ({ cls := "MustardMillLaw", name := "onTray", desc := "(LMustardMill;I[J)I" } : Jvm.MethodName)) ∈ lw_all := lw_g (lw_at lw_m8 39 rfl) rfl
theorem q1783 : (Jvm.Cond.static ({ cls := "MustardMillLaw", name := "onTray", desc := "(LMustardMill;I[J)I" } : Jvm.MethodName)) ∈ lw_all := lw_g (lw_at lw_m8 40 rfl) rfl
theorem q1784 : (Jvm.Cond.codeWith ({ cls := "MustardMillLaw", name := "onTray", desc := "(LMustardMill;I[J)I" } : Jvm.MethodName) method_23_code (4 : Nat) (Option.some Jvm.ClassFile.FieldType.int) [((0 : Nat), (9 : Nat), (12 : Nat), (20 : Nat)), ((0 : Nat), (9 : Nat), (15 : Nat), (60 : Nat))]) ∈ lw_all := lw_g (lw_at lw_m8 41 rfl) rfl
theorem q1785 : (Jvm.Cond.methodLink "MustardMillLaw" (84 : Nat) ({ cls := "MustardMill", name := "onTray", desc := "(I)I" } : Jvm.MethodName)) ∈ lw_all := lw_g (lw_at lw_m8 42 rfl) rfl
theorem q1791 : (Jvm.Cond.methodLink "MustardMillLaw" (211 : Nat) ({ cls := "MustardMillLaw", name := "line", desc := "(LMustardMill;I[J)I" } : Jvm.MethodName)) ∈ lw_all := lw_g (lw_at lw_m8 48 rfl) rfl
theorem q1792 : (Jvm.Cond.static ({ cls := "MustardMillLaw", name := "line", desc := "(LMustardMill;I[J)I" } : Jvm.MethodName)) ∈ lw_all := lw_g (lw_at lw_m8 49 rfl) rfl
theorem q1793 : (Jvm.Cond.codeWith ({ cls := "MustardMillLaw", name := "line", desc := "(LMustardMill;I[J)I" } : Jvm.MethodName) method_24_code (4 : Nat) (Option.some Jvm.ClassFile.FieldType.int) [((0 : Nat), (9 : Nat), (12 : Nat), (20 : Nat))]) ∈ lw_all := lw_g (lw_at lw_m8 50 rfl) rfl
theorem q1794 : (Jvm.Cond.methodLink "MustardMillLaw" (87 : Nat) ({ cls := "MustardMill", name := "line", desc := "(I)I" } : Jvm.MethodName)) ∈ lw_all := lw_g (lw_at lw_m8 51 rfl) rfl
theorem q1816 : (Jvm.Cond.methodLink "MustardMillLaw" (218 : Nat) ({ cls := "MustardMillLaw", name := "character", desc := "(LMustardMill;I[J)I" } : Jvm.MethodName)) ∈ lw_all := lw_g (lw_at lw_m8 73 rfl) rfl
theorem q1817 : (Jvm.Cond.static ({ cls := "MustardMillLaw", name := "character", desc := "(LMustardMill;I[J)I" } : Jvm.MethodName)) ∈ lw_all := lw_g (lw_at lw_m8 74 rfl) rfl
theorem q1818 : (Jvm.Cond.codeWith ({ cls := "MustardMillLaw", name := "character", desc := "(LMustardMill;I[J)I" } : Jvm.MethodName) method_25_code (4 : Nat) (Option.some Jvm.ClassFile.FieldType.int) [((0 : Nat), (9 : Nat), (12 : Nat), (20 : Nat))]) ∈ lw_all := lw_g (lw_at lw_m8 75 rfl) rfl
theorem q1819 : (Jvm.Cond.methodLink "MustardMillLaw" (90 : Nat) ({ cls := "MustardMill", name := "character", desc := "(I)C" } : Jvm.MethodName)) ∈ lw_all := lw_g (lw_at lw_m8 76 rfl) rfl
theorem q1824 : (Jvm.Cond.methodLink "MustardMillLaw" (221 : Nat) ({ cls := "MustardMillLaw", name := "refusal", desc := "(LMustardMill;Z[J)I" } : Jvm.MethodName)) ∈ lw_all := lw_g (lw_at lw_m8 81 rfl) rfl
theorem q1825 : (Jvm.Cond.static ({ cls := "MustardMillLaw", name := "refusal", desc := "(LMustardMill;Z[J)I" } : Jvm.MethodName)) ∈ lw_all := lw_g (lw_at lw_m8 82 rfl) rfl
theorem q1826 : (Jvm.Cond.codeWith ({ cls := "MustardMillLaw", name := "refusal", desc := "(LMustardMill;Z[J)I" } : Jvm.MethodName) method_26_code (4 : Nat) (Option.some Jvm.ClassFile.FieldType.int) [((0 : Nat), (9 : Nat), (12 : Nat), (55 : Nat))]) ∈ lw_all := lw_g (lw_at lw_m8 83 rfl) rfl
theorem q1827 : (Jvm.Cond.methodLink "MustardMillLaw" (94 : Nat) ({ cls := "MustardMill", name := "refusal", desc := "(Z)I" } : Jvm.MethodName)) ∈ lw_all := lw_g (lw_at lw_m8 84 rfl) rfl
theorem q1831 : (Jvm.Cond.methodLink "MustardMillLaw" (225 : Nat) ({ cls := "MustardMillLaw", name := "account", desc := "(LMustardMill;I[J)I" } : Jvm.MethodName)) ∈ lw_all := lw_g (lw_at lw_m8 88 rfl) rfl
theorem q1832 : (Jvm.Cond.static ({ cls := "MustardMillLaw", name := "account", desc := "(LMustardMill;I[J)I" } : Jvm.MethodName)) ∈ lw_all := lw_g (lw_at lw_m8 89 rfl) rfl
theorem q1833 : (Jvm.Cond.codeWith ({ cls := "MustardMillLaw", name := "account", desc := "(LMustardMill;I[J)I" } : Jvm.MethodName) method_27_code (4 : Nat) (Option.some Jvm.ClassFile.FieldType.int) [((0 : Nat), (9 : Nat), (12 : Nat), (13 : Nat))]) ∈ lw_all := lw_g (lw_at lw_m8 90 rfl) rfl
theorem q1834 : (Jvm.Cond.methodLink "MustardMillLaw" (98 : Nat) ({ cls := "MustardMill", name := "account", desc := "(I)I" } : Jvm.MethodName)) ∈ lw_all := lw_g (lw_at lw_m8 91 rfl) rfl
theorem q1845 : (Jvm.Cond.methodLink "MustardMillLaw" (228 : Nat) ({ cls := "MustardMillLaw", name := "meanTear", desc := "(LMustardMill;[D)I" } : Jvm.MethodName)) ∈ lw_all := lw_g (lw_at lw_m8 102 rfl) rfl
theorem q1846 : (Jvm.Cond.static ({ cls := "MustardMillLaw", name := "meanTear", desc := "(LMustardMill;[D)I" } : Jvm.MethodName)) ∈ lw_all := lw_g (lw_at lw_m8 103 rfl) rfl
theorem q1847 : (Jvm.Cond.codeWith ({ cls := "MustardMillLaw", name := "meanTear", desc := "(LMustardMill;[D)I" } : Jvm.MethodName) method_28_code (3 : Nat) (Option.some Jvm.ClassFile.FieldType.int) [((0 : Nat), (7 : Nat), (10 : Nat), (105 : Nat))]) ∈ lw_all := lw_g (lw_at lw_m8 104 rfl) rfl
theorem q1848 : (Jvm.Cond.classLink "MustardMillLaw" (105 : Nat) "java/lang/ArithmeticException") ∈ lw_all := lw_g (lw_at lw_m8 105 rfl) rfl
theorem q1862 : (Jvm.Cond.methodLink "MustardMillLaw" (101 : Nat) ({ cls := "MustardMill", name := "meanTear", desc := "()D" } : Jvm.MethodName)) ∈ lw_all := lw_g (lw_at lw_m8 119 rfl) rfl
theorem q1878 : (Jvm.Cond.methodLink "MustardMillLaw" (232 : Nat) ({ cls := "MustardMillLaw", name := "soldShare", desc := "(LMustardMill;[D)I" } : Jvm.MethodName)) ∈ lw_all := lw_g (lw_at lw_m8 135 rfl) rfl
theorem q1879 : (Jvm.Cond.static ({ cls := "MustardMillLaw", name := "soldShare", desc := "(LMustardMill;[D)I" } : Jvm.MethodName)) ∈ lw_all := lw_g (lw_at lw_m8 136 rfl) rfl
theorem q1880 : (Jvm.Cond.codeWith ({ cls := "MustardMillLaw", name := "soldShare", desc := "(LMustardMill;[D)I" } : Jvm.MethodName) method_29_code (3 : Nat) (Option.some Jvm.ClassFile.FieldType.int) [((0 : Nat), (8 : Nat), (11 : Nat), (105 : Nat))]) ∈ lw_all := lw_g (lw_at lw_m8 137 rfl) rfl
theorem q1881 : (Jvm.Cond.methodLink "MustardMillLaw" (107 : Nat) ({ cls := "MustardMill", name := "soldShare", desc := "()F" } : Jvm.MethodName)) ∈ lw_all := lw_g (lw_at lw_m8 138 rfl) rfl
theorem q1885 : (Jvm.Cond.methodLink "MustardMillLaw" (235 : Nat) ({ cls := "MustardMillLaw", name := "append", desc := "(LMustardMill;I[J)I" } : Jvm.MethodName)) ∈ lw_all := lw_g (lw_at lw_m8 142 rfl) rfl
theorem q1886 : (Jvm.Cond.static ({ cls := "MustardMillLaw", name := "append", desc := "(LMustardMill;I[J)I" } : Jvm.MethodName)) ∈ lw_all := lw_g (lw_at lw_m8 143 rfl) rfl
theorem q1887 : (Jvm.Cond.codeWith ({ cls := "MustardMillLaw", name := "append", desc := "(LMustardMill;I[J)I" } : Jvm.MethodName) method_30_code (4 : Nat) (Option.some Jvm.ClassFile.FieldType.int) [((0 : Nat), (9 : Nat), (12 : Nat), (13 : Nat)), ((0 : Nat), (9 : Nat), (15 : Nat), (55 : Nat))]) ∈ lw_all := lw_g (lw_at lw_m8 144 rfl) rfl
theorem q1888 : (Jvm.Cond.methodLink "MustardMillLaw" (111 : Nat) ({ cls := "MustardMill", name := "append", desc := "(I)I" } : Jvm.MethodName)) ∈ lw_all := lw_g (lw_at lw_m8 145 rfl) rfl
theorem q1895 : (Jvm.Cond.methodLink "MustardMillLaw" (238 : Nat) ({ cls := "MustardMillLaw", name := "read", desc := "(LMustardMill;[J)I" } : Jvm.MethodName)) ∈ lw_all := lw_g (lw_at lw_m8 152 rfl) rfl
theorem q1896 : (Jvm.Cond.static ({ cls := "MustardMillLaw", name := "read", desc := "(LMustardMill;[J)I" } : Jvm.MethodName)) ∈ lw_all := lw_g (lw_at lw_m8 153 rfl) rfl
theorem q1897 : (Jvm.Cond.codeWith ({ cls := "MustardMillLaw", name := "read", desc := "(LMustardMill;[J)I" } : Jvm.MethodName) method_31_code (3 : Nat) (Option.some Jvm.ClassFile.FieldType.int) [((0 : Nat), (8 : Nat), (11 : Nat), (13 : Nat)), ((0 : Nat), (8 : Nat), (14 : Nat), (15 : Nat))]) ∈ lw_all := lw_g (lw_at lw_m8 154 rfl) rfl
theorem q1898 : (Jvm.Cond.methodLink "MustardMillLaw" (114 : Nat) ({ cls := "MustardMill", name := "read", desc := "()I" } : Jvm.MethodName)) ∈ lw_all := lw_g (lw_at lw_m8 155 rfl) rfl
theorem q2029 : (Jvm.Cond.methodLink "MustardMillLaw" (242 : Nat) ({ cls := "MustardMillLaw", name := "errorPosition", desc := "(LMustardMill;[J)I" } : Jvm.MethodName)) ∈ lw_all := lw_g (lw_at lw_m9 46 rfl) rfl
theorem q2030 : (Jvm.Cond.static ({ cls := "MustardMillLaw", name := "errorPosition", desc := "(LMustardMill;[J)I" } : Jvm.MethodName)) ∈ lw_all := lw_g (lw_at lw_m9 47 rfl) rfl
theorem q2031 : (Jvm.Cond.codeWith ({ cls := "MustardMillLaw", name := "errorPosition", desc := "(LMustardMill;[J)I" } : Jvm.MethodName) method_32_code (3 : Nat) (Option.some Jvm.ClassFile.FieldType.int) [((0 : Nat), (8 : Nat), (11 : Nat), (60 : Nat))]) ∈ lw_all := lw_g (lw_at lw_m9 48 rfl) rfl
theorem q2032 : (Jvm.Cond.methodLink "MustardMillLaw" (118 : Nat) ({ cls := "MustardMill", name := "errorPosition", desc := "()I" } : Jvm.MethodName)) ∈ lw_all := lw_g (lw_at lw_m9 49 rfl) rfl
theorem q2036 : (Jvm.Cond.methodLink "MustardMillLaw" (245 : Nat) ({ cls := "MustardMillLaw", name := "refusedItem", desc := "(LMustardMill;[J)I" } : Jvm.MethodName)) ∈ lw_all := lw_g (lw_at lw_m9 53 rfl) rfl
theorem q2037 : (Jvm.Cond.static ({ cls := "MustardMillLaw", name := "refusedItem", desc := "(LMustardMill;[J)I" } : Jvm.MethodName)) ∈ lw_all := lw_g (lw_at lw_m9 54 rfl) rfl
theorem q2038 : (Jvm.Cond.codeWith ({ cls := "MustardMillLaw", name := "refusedItem", desc := "(LMustardMill;[J)I" } : Jvm.MethodName) method_33_code (3 : Nat) (Option.some Jvm.ClassFile.FieldType.int) [((0 : Nat), (8 : Nat), (11 : Nat), (60 : Nat))]) ∈ lw_all := lw_g (lw_at lw_m9 55 rfl) rfl
theorem q2039 : (Jvm.Cond.methodLink "MustardMillLaw" (121 : Nat) ({ cls := "MustardMill", name := "refusedItem", desc := "()I" } : Jvm.MethodName)) ∈ lw_all := lw_g (lw_at lw_m9 56 rfl) rfl
theorem q2043 : (Jvm.Cond.methodLink "MustardMillLaw" (248 : Nat) ({ cls := "MustardMillLaw", name := "undo", desc := "(LMustardMill;[J)I" } : Jvm.MethodName)) ∈ lw_all := lw_g (lw_at lw_m9 60 rfl) rfl
theorem q2044 : (Jvm.Cond.static ({ cls := "MustardMillLaw", name := "undo", desc := "(LMustardMill;[J)I" } : Jvm.MethodName)) ∈ lw_all := lw_g (lw_at lw_m9 61 rfl) rfl
theorem q2045 : (Jvm.Cond.codeWith ({ cls := "MustardMillLaw", name := "undo", desc := "(LMustardMill;[J)I" } : Jvm.MethodName) method_34_code (3 : Nat) (Option.some Jvm.ClassFile.FieldType.int) [((0 : Nat), (8 : Nat), (11 : Nat), (55 : Nat))]) ∈ lw_all := lw_g (lw_at lw_m9 62 rfl) rfl
theorem q2046 : (Jvm.Cond.methodLink "MustardMillLaw" (124 : Nat) ({ cls := "MustardMill", name := "undo", desc := "()I" } : Jvm.MethodName)) ∈ lw_all := lw_g (lw_at lw_m9 63 rfl) rfl
theorem q2065 : (Jvm.Cond.methodLink "MustardMillLaw" (255 : Nat) ({ cls := "MustardMillLaw", name := "restore", desc := "(LMustardMill;[J)I" } : Jvm.MethodName)) ∈ lw_all := lw_g (lw_at lw_m9 82 rfl) rfl
theorem q2066 : (Jvm.Cond.static ({ cls := "MustardMillLaw", name := "restore", desc := "(LMustardMill;[J)I" } : Jvm.MethodName)) ∈ lw_all := lw_g (lw_at lw_m9 83 rfl) rfl
theorem q2067 : (Jvm.Cond.codeWith ({ cls := "MustardMillLaw", name := "restore", desc := "(LMustardMill;[J)I" } : Jvm.MethodName) method_35_code (3 : Nat) (Option.some Jvm.ClassFile.FieldType.int) [((0 : Nat), (8 : Nat), (11 : Nat), (55 : Nat))]) ∈ lw_all := lw_g (lw_at lw_m9 84 rfl) rfl
theorem q2068 : (Jvm.Cond.methodLink "MustardMillLaw" (127 : Nat) ({ cls := "MustardMill", name := "restore", desc := "()I" } : Jvm.MethodName)) ∈ lw_all := lw_g (lw_at lw_m9 85 rfl) rfl
theorem q2072 : (Jvm.Cond.classLink "MustardMillLaw" (131 : Nat) "MustardMillModel") ∈ lw_all := lw_g (lw_at lw_m9 89 rfl) rfl
theorem q2074 : (Jvm.Cond.methodLink "MustardMillLaw" (133 : Nat) ({ cls := "MustardMillModel", name := "<init>", desc := "()V" } : Jvm.MethodName)) ∈ lw_all := lw_g (lw_at lw_m9 91 rfl) rfl
theorem q2144 : (Jvm.Cond.methodLink "MustardMillLaw" (144 : Nat) ({ cls := "MustardMillModel", name := "thrown", desc := "()I" } : Jvm.MethodName)) ∈ lw_all := lw_g (lw_at lw_m9 161 rfl) rfl
theorem q2148 : (Jvm.Cond.methodLink "MustardMillLaw" (137 : Nat) ({ cls := "MustardMillModel", name := "clear", desc := "()I" } : Jvm.MethodName)) ∈ lw_all := lw_g (lw_at lw_m9 165 rfl) rfl
theorem q2152 : (Jvm.Cond.methodLink "MustardMillLaw" (143 : Nat) ({ cls := "MustardMillModel", name := "buy", desc := "(II)I" } : Jvm.MethodName)) ∈ lw_all := lw_g (lw_at lw_m9 169 rfl) rfl
theorem q2174 : (Jvm.Cond.methodLink "MustardMillLaw" (149 : Nat) ({ cls := "MustardMillModel", name := "quernOf", desc := "(II)I" } : Jvm.MethodName)) ∈ lw_all := lw_g (lw_at lw_m9 191 rfl) rfl
theorem q2185 : (Jvm.Cond.methodLink "MustardMillLaw" (153 : Nat) ({ cls := "MustardMillModel", name := "dress", desc := "(I)I" } : Jvm.MethodName)) ∈ lw_all := lw_g (lw_at lw_m9 202 rfl) rfl
theorem q2189 : (Jvm.Cond.methodLink "MustardMillLaw" (157 : Nat) ({ cls := "MustardMillModel", name := "grind", desc := "(IIII)I" } : Jvm.MethodName)) ∈ lw_all := lw_g (lw_at lw_m9 206 rfl) rfl
theorem q2211 : (Jvm.Cond.methodLink "MustardMillLaw" (160 : Nat) ({ cls := "MustardMillModel", name := "biteOf", desc := "(IIII)I" } : Jvm.MethodName)) ∈ lw_all := lw_g (lw_at lw_m9 228 rfl) rfl
theorem q2215 : (Jvm.Cond.methodLink "MustardMillLaw" (163 : Nat) ({ cls := "MustardMillModel", name := "mix", desc := "(II)I" } : Jvm.MethodName)) ∈ lw_all := lw_g (lw_at lw_m9 232 rfl) rfl
theorem q2231 : (Jvm.Cond.methodLink "MustardMillLaw" (166 : Nat) ({ cls := "MustardMillModel", name := "batchOf", desc := "(II)I" } : Jvm.MethodName)) ∈ lw_all := lw_g (lw_at lw_m10 8 rfl) rfl
theorem q2235 : (Jvm.Cond.methodLink "MustardMillLaw" (169 : Nat) ({ cls := "MustardMillModel", name := "jar", desc := "(II)I" } : Jvm.MethodName)) ∈ lw_all := lw_g (lw_at lw_m10 12 rfl) rfl
theorem q2243 : (Jvm.Cond.methodLink "MustardMillLaw" (172 : Nat) ({ cls := "MustardMillModel", name := "open", desc := "(I)I" } : Jvm.MethodName)) ∈ lw_all := lw_g (lw_at lw_m10 20 rfl) rfl
theorem q2267 : (Jvm.Cond.methodLink "MustardMillLaw" (175 : Nat) ({ cls := "MustardMillModel", name := "sell", desc := "(I)I" } : Jvm.MethodName)) ∈ lw_all := lw_g (lw_at lw_m10 44 rfl) rfl
theorem q2282 : (Jvm.Cond.methodLink "MustardMillLaw" (178 : Nat) ({ cls := "MustardMillModel", name := "jarOf", desc := "(II)I" } : Jvm.MethodName)) ∈ lw_all := lw_g (lw_at lw_m10 59 rfl) rfl
theorem q2286 : (Jvm.Cond.methodLink "MustardMillLaw" (182 : Nat) ({ cls := "MustardMillModel", name := "tearBehind", desc := "(IIZ)I" } : Jvm.MethodName)) ∈ lw_all := lw_g (lw_at lw_m10 63 rfl) rfl
theorem q2294 : (Jvm.Cond.methodLink "MustardMillLaw" (185 : Nat) ({ cls := "MustardMillModel", name := "strongest", desc := "(I)I" } : Jvm.MethodName)) ∈ lw_all := lw_g (lw_at lw_m10 71 rfl) rfl
theorem q2302 : (Jvm.Cond.methodLink "MustardMillLaw" (188 : Nat) ({ cls := "MustardMillModel", name := "order", desc := "(II)I" } : Jvm.MethodName)) ∈ lw_all := lw_g (lw_at lw_m10 79 rfl) rfl
theorem q2306 : (Jvm.Cond.methodLink "MustardMillLaw" (191 : Nat) ({ cls := "MustardMillModel", name := "serve", desc := "(I)I" } : Jvm.MethodName)) ∈ lw_all := lw_g (lw_at lw_m10 83 rfl) rfl
theorem q2330 : (Jvm.Cond.methodLink "MustardMillLaw" (194 : Nat) ({ cls := "MustardMillModel", name := "orderOf", desc := "(II)I" } : Jvm.MethodName)) ∈ lw_all := lw_g (lw_at lw_m10 107 rfl) rfl
theorem q2334 : (Jvm.Cond.methodLink "MustardMillLaw" (197 : Nat) ({ cls := "MustardMillModel", name := "servedIn", desc := "(I)I" } : Jvm.MethodName)) ∈ lw_all := lw_g (lw_at lw_m10 111 rfl) rfl
theorem q2342 : (Jvm.Cond.methodLink "MustardMillLaw" (200 : Nat) ({ cls := "MustardMillModel", name := "rest", desc := "(I)I" } : Jvm.MethodName)) ∈ lw_all := lw_g (lw_at lw_m10 119 rfl) rfl
theorem q2346 : (Jvm.Cond.methodLink "MustardMillLaw" (203 : Nat) ({ cls := "MustardMillModel", name := "tray", desc := "(I)I" } : Jvm.MethodName)) ∈ lw_all := lw_g (lw_at lw_m10 123 rfl) rfl
theorem q2354 : (Jvm.Cond.methodLink "MustardMillLaw" (207 : Nat) ({ cls := "MustardMillModel", name := "lay", desc := "(III)I" } : Jvm.MethodName)) ∈ lw_all := lw_g (lw_at lw_m10 131 rfl) rfl
theorem q2358 : (Jvm.Cond.methodLink "MustardMillLaw" (210 : Nat) ({ cls := "MustardMillModel", name := "onTray", desc := "(I)I" } : Jvm.MethodName)) ∈ lw_all := lw_g (lw_at lw_m10 135 rfl) rfl
theorem q2362 : (Jvm.Cond.methodLink "MustardMillLaw" (213 : Nat) ({ cls := "MustardMillModel", name := "line", desc := "(I)I" } : Jvm.MethodName)) ∈ lw_all := lw_g (lw_at lw_m10 139 rfl) rfl
theorem q2387 : (Jvm.Cond.methodLink "MustardMillLaw" (217 : Nat) ({ cls := "MustardMillModel", name := "stockLine", desc := "()I" } : Jvm.MethodName)) ∈ lw_all := lw_g (lw_at lw_m10 164 rfl) rfl
theorem q2392 : (Jvm.Cond.methodLink "MustardMillLaw" (220 : Nat) ({ cls := "MustardMillModel", name := "character", desc := "(I)C" } : Jvm.MethodName)) ∈ lw_all := lw_g (lw_at lw_m10 169 rfl) rfl
theorem q2396 : (Jvm.Cond.methodLink "MustardMillLaw" (224 : Nat) ({ cls := "MustardMillModel", name := "refusal", desc := "(Z)I" } : Jvm.MethodName)) ∈ lw_all := lw_g (lw_at lw_m10 173 rfl) rfl
theorem q2400 : (Jvm.Cond.methodLink "MustardMillLaw" (227 : Nat) ({ cls := "MustardMillModel", name := "account", desc := "(I)I" } : Jvm.MethodName)) ∈ lw_all := lw_g (lw_at lw_m10 177 rfl) rfl
theorem q2412 : (Jvm.Cond.methodLink "MustardMillLaw" (231 : Nat) ({ cls := "MustardMillModel", name := "meanTear", desc := "()D" } : Jvm.MethodName)) ∈ lw_all := lw_g (lw_at lw_m10 189 rfl) rfl
theorem q2416 : (Jvm.Cond.methodLink "MustardMillLaw" (234 : Nat) ({ cls := "MustardMillModel", name := "soldShare", desc := "()F" } : Jvm.MethodName)) ∈ lw_all := lw_g (lw_at lw_m10 193 rfl) rfl
theorem q2420 : (Jvm.Cond.methodLink "MustardMillLaw" (237 : Nat) ({ cls := "MustardMillModel", name := "append", desc := "(I)I" } : Jvm.MethodName)) ∈ lw_all := lw_g (lw_at lw_m10 197 rfl) rfl
theorem q2424 : (Jvm.Cond.methodLink "MustardMillLaw" (241 : Nat) ({ cls := "MustardMillModel", name := "read", desc := "()I" } : Jvm.MethodName)) ∈ lw_all := lw_g (lw_at lw_m10 201 rfl) rfl
theorem q2476 : (Jvm.Cond.methodLink "MustardMillLaw" (244 : Nat) ({ cls := "MustardMillModel", name := "errorPosition", desc := "()I" } : Jvm.MethodName)) ∈ lw_all := lw_g (lw_at lw_m11 13 rfl) rfl
theorem q2480 : (Jvm.Cond.methodLink "MustardMillLaw" (247 : Nat) ({ cls := "MustardMillModel", name := "refusedItem", desc := "()I" } : Jvm.MethodName)) ∈ lw_all := lw_g (lw_at lw_m11 17 rfl) rfl
theorem q2484 : (Jvm.Cond.methodLink "MustardMillLaw" (250 : Nat) ({ cls := "MustardMillModel", name := "undo", desc := "()I" } : Jvm.MethodName)) ∈ lw_all := lw_g (lw_at lw_m11 21 rfl) rfl
theorem q2488 : (Jvm.Cond.methodLink "MustardMillLaw" (254 : Nat) ({ cls := "MustardMillModel", name := "snapshot", desc := "()I" } : Jvm.MethodName)) ∈ lw_all := lw_g (lw_at lw_m11 25 rfl) rfl
theorem q2492 : (Jvm.Cond.methodLink "MustardMillLaw" (257 : Nat) ({ cls := "MustardMillModel", name := "restore", desc := "()I" } : Jvm.MethodName)) ∈ lw_all := lw_g (lw_at lw_m11 29 rfl) rfl
/-! MustardMill -/
set_option maxRecDepth 100000
def RX1 : String := "MustardMill"
def TX1 : u_T := fun k => match k with
  | 0 => ("MustardMill", "mill", "LMustardMill$Mill;", false)
  | 1 => ("MustardMill", "undoSteps", "Ljava/util/ArrayDeque;", true)
  | 2 => ("MustardMill", "saved", "LMustardMill$Mill;", false)
  | 3 => ("MustardMill", "input", "Ljava/lang/StringBuilder;", false)
  | 4 => ("MustardMill", "line", "Ljava/lang/String;", false)
  | 5 => ("MustardMill", "lastError", "LMustardMill$SyntaxException;", false)
  | 6 => ("MustardMill", "lastItem", "I", false)
  | _ => ("MustardMill", "lastRefusal", "LMustardMill$Refused;", false)
def tyX1 : Nat → FieldType := fun k => match k with
  | 0 => .object "MustardMill$Mill"
  | 1 => .object "java/util/ArrayDeque"
  | 2 => .object "MustardMill$Mill"
  | 3 => .object "java/lang/StringBuilder"
  | 4 => .object "java/lang/String"
  | 5 => .object "MustardMill$SyntaxException"
  | 6 => .int
  | _ => .object "MustardMill$Refused"
abbrev wsX10 : List Cond := u_ws RX1 TX1 8
theorem nmX1 : ∀ a, a < 8 → ∀ b, b < 8 → a ≠ b → (TX1 a).2.1 ≠ (TX1 b).2.1 := by decide +kernel
theorem tyX1_ok : ∀ k, k < 8 → parseFieldDescriptor (TX1 k).2.2.1 = some (tyX1 k) := by decide +kernel
abbrev cX1_init : ByteArray := prog_1_method_7_code
def yX1_init : MethodName := ⟨RX1, "<init>", "()V"⟩
def dkwX1_init_2 : List UInt8 := [181, 0, 51, 177]
abbrev dktX1_init_2 : List UInt8 := dkwX1_init_2 ++ []
def dkwX1_init_1 : List UInt8 := [181, 0, 34, 42, 187, 0, 38, 89, 183, 0, 40, 181, 0, 41, 42, 18, 45, 181, 0, 47, 42, 2]
abbrev dktX1_init_1 : List UInt8 := dkwX1_init_1 ++ dktX1_init_2
def dkwX1_init_0 : List UInt8 := [42, 183, 0, 19, 42, 187, 0, 22, 89, 183, 0, 24, 181, 0, 25, 42, 187, 0, 31, 89, 183, 0, 33]
abbrev dktX1_init_0 : List UInt8 := dkwX1_init_0 ++ dktX1_init_1
theorem dksX1_init_0 : cX1_init.data.toList.drop 0 = dktX1_init_0 := by decide +kernel
theorem dksX1_init_1 : cX1_init.data.toList.drop 23 = dktX1_init_1 := dk_seg dksX1_init_0 23 rfl rfl
theorem dksX1_init_2 : cX1_init.data.toList.drop 45 = dktX1_init_2 := dk_seg dksX1_init_1 22 rfl rfl
theorem dX1_init_0 : decode cX1_init 0 = .ok (.aload_n 0, 1) := dk_42 (dk_at dksX1_init_0 0 rfl rfl)
theorem dX1_init_1 : decode cX1_init 1 = .ok (.invokespecial 19, 3) := dk_183 0 19 (dk_at dksX1_init_0 1 rfl rfl)
theorem dX1_init_4 : decode cX1_init 4 = .ok (.aload_n 0, 1) := dk_42 (dk_at dksX1_init_0 4 rfl rfl)
theorem dX1_init_5 : decode cX1_init 5 = .ok (.new 22, 3) := dk_187 0 22 (dk_at dksX1_init_0 5 rfl rfl)
theorem dX1_init_8 : decode cX1_init 8 = .ok (.dup, 1) := dk_89 (dk_at dksX1_init_0 8 rfl rfl)
theorem dX1_init_9 : decode cX1_init 9 = .ok (.invokespecial 24, 3) := dk_183 0 24 (dk_at dksX1_init_0 9 rfl rfl)
theorem dX1_init_12 : decode cX1_init 12 = .ok (.putfield 25, 3) := dk_181 0 25 (dk_at dksX1_init_0 12 rfl rfl)
theorem dX1_init_15 : decode cX1_init 15 = .ok (.aload_n 0, 1) := dk_42 (dk_at dksX1_init_0 15 rfl rfl)
theorem dX1_init_16 : decode cX1_init 16 = .ok (.new 31, 3) := dk_187 0 31 (dk_at dksX1_init_0 16 rfl rfl)
theorem dX1_init_19 : decode cX1_init 19 = .ok (.dup, 1) := dk_89 (dk_at dksX1_init_0 19 rfl rfl)
theorem dX1_init_20 : decode cX1_init 20 = .ok (.invokespecial 33, 3) := dk_183 0 33 (dk_at dksX1_init_0 20 rfl rfl)
theorem dX1_init_23 : decode cX1_init 23 = .ok (.putfield 34, 3) := dk_181 0 34 (dk_at dksX1_init_1 0 rfl rfl)
theorem dX1_init_26 : decode cX1_init 26 = .ok (.aload_n 0, 1) := dk_42 (dk_at dksX1_init_1 3 rfl rfl)
theorem dX1_init_27 : decode cX1_init 27 = .ok (.new 38, 3) := dk_187 0 38 (dk_at dksX1_init_1 4 rfl rfl)
theorem dX1_init_30 : decode cX1_init 30 = .ok (.dup, 1) := dk_89 (dk_at dksX1_init_1 7 rfl rfl)
theorem dX1_init_31 : decode cX1_init 31 = .ok (.invokespecial 40, 3) := dk_183 0 40 (dk_at dksX1_init_1 8 rfl rfl)
theorem dX1_init_34 : decode cX1_init 34 = .ok (.putfield 41, 3) := dk_181 0 41 (dk_at dksX1_init_1 11 rfl rfl)
theorem dX1_init_37 : decode cX1_init 37 = .ok (.aload_n 0, 1) := dk_42 (dk_at dksX1_init_1 14 rfl rfl)
theorem dX1_init_38 : decode cX1_init 38 = .ok (.ldc 45, 2) := dk_18 45 (dk_at dksX1_init_1 15 rfl rfl)
theorem dX1_init_40 : decode cX1_init 40 = .ok (.putfield 47, 3) := dk_181 0 47 (dk_at dksX1_init_1 17 rfl rfl)
theorem dX1_init_43 : decode cX1_init 43 = .ok (.aload_n 0, 1) := dk_42 (dk_at dksX1_init_1 20 rfl rfl)
theorem dX1_init_44 : decode cX1_init 44 = .ok (.iconst (-1), 1) := dk_2 (dk_at dksX1_init_1 21 rfl rfl)
theorem dX1_init_45 : decode cX1_init 45 = .ok (.putfield 51, 3) := dk_181 0 51 (dk_at dksX1_init_2 0 rfl rfl)
theorem dX1_init_48 : decode cX1_init 48 = .ok (.return_, 1) := dk_177 (dk_at dksX1_init_2 3 rfl rfl)
abbrev cX1_clear : ByteArray := prog_1_method_10_code
def yX1_clear : MethodName := ⟨RX1, "clear", "()I"⟩
def dkwX1_clear_1 : List UInt8 := [182, 0, 96, 27, 172]
abbrev dktX1_clear_1 : List UInt8 := dkwX1_clear_1 ++ []
def dkwX1_clear_0 : List UInt8 := [42, 180, 0, 25, 180, 0, 93, 60, 42, 187, 0, 22, 89, 183, 0, 24, 181, 0, 25, 42, 180, 0, 34]
abbrev dktX1_clear_0 : List UInt8 := dkwX1_clear_0 ++ dktX1_clear_1
theorem dksX1_clear_0 : cX1_clear.data.toList.drop 0 = dktX1_clear_0 := by decide +kernel
theorem dksX1_clear_1 : cX1_clear.data.toList.drop 23 = dktX1_clear_1 := dk_seg dksX1_clear_0 23 rfl rfl
theorem dX1_clear_0 : decode cX1_clear 0 = .ok (.aload_n 0, 1) := dk_42 (dk_at dksX1_clear_0 0 rfl rfl)
theorem dX1_clear_1 : decode cX1_clear 1 = .ok (.getfield 25, 3) := dk_180 0 25 (dk_at dksX1_clear_0 1 rfl rfl)
theorem dX1_clear_4 : decode cX1_clear 4 = .ok (.getfield 93, 3) := dk_180 0 93 (dk_at dksX1_clear_0 4 rfl rfl)
theorem dX1_clear_7 : decode cX1_clear 7 = .ok (.istore_n 1, 1) := dk_60 (dk_at dksX1_clear_0 7 rfl rfl)
theorem dX1_clear_8 : decode cX1_clear 8 = .ok (.aload_n 0, 1) := dk_42 (dk_at dksX1_clear_0 8 rfl rfl)
theorem dX1_clear_9 : decode cX1_clear 9 = .ok (.new 22, 3) := dk_187 0 22 (dk_at dksX1_clear_0 9 rfl rfl)
theorem dX1_clear_12 : decode cX1_clear 12 = .ok (.dup, 1) := dk_89 (dk_at dksX1_clear_0 12 rfl rfl)
theorem dX1_clear_13 : decode cX1_clear 13 = .ok (.invokespecial 24, 3) := dk_183 0 24 (dk_at dksX1_clear_0 13 rfl rfl)
theorem dX1_clear_16 : decode cX1_clear 16 = .ok (.putfield 25, 3) := dk_181 0 25 (dk_at dksX1_clear_0 16 rfl rfl)
theorem dX1_clear_19 : decode cX1_clear 19 = .ok (.aload_n 0, 1) := dk_42 (dk_at dksX1_clear_0 19 rfl rfl)
theorem dX1_clear_20 : decode cX1_clear 20 = .ok (.getfield 34, 3) := dk_180 0 34 (dk_at dksX1_clear_0 20 rfl rfl)
theorem dX1_clear_23 : decode cX1_clear 23 = .ok (.invokevirtual 96, 3) := dk_182 0 96 (dk_at dksX1_clear_1 0 rfl rfl)
theorem dX1_clear_26 : decode cX1_clear 26 = .ok (.iload_n 1, 1) := dk_27 (dk_at dksX1_clear_1 3 rfl rfl)
theorem dX1_clear_27 : decode cX1_clear 27 = .ok (.ireturn, 1) := dk_172 (dk_at dksX1_clear_1 4 rfl rfl)
abbrev cX1_stockLine : ByteArray := prog_1_method_34_code
def yX1_stockLine : MethodName := ⟨RX1, "stockLine", "()I"⟩
def dkwX1_stockLine_0 : List UInt8 := [42, 42, 180, 0, 25, 182, 1, 12, 181, 0, 47, 42, 180, 0, 47, 182, 1, 7, 172]
abbrev dktX1_stockLine_0 : List UInt8 := dkwX1_stockLine_0 ++ []
theorem dksX1_stockLine_0 : cX1_stockLine.data.toList.drop 0 = dktX1_stockLine_0 := by decide +kernel
theorem dX1_stockLine_0 : decode cX1_stockLine 0 = .ok (.aload_n 0, 1) := dk_42 (dk_at dksX1_stockLine_0 0 rfl rfl)
theorem dX1_stockLine_1 : decode cX1_stockLine 1 = .ok (.aload_n 0, 1) := dk_42 (dk_at dksX1_stockLine_0 1 rfl rfl)
theorem dX1_stockLine_2 : decode cX1_stockLine 2 = .ok (.getfield 25, 3) := dk_180 0 25 (dk_at dksX1_stockLine_0 2 rfl rfl)
theorem dX1_stockLine_5 : decode cX1_stockLine 5 = .ok (.invokevirtual 268, 3) := dk_182 1 12 (dk_at dksX1_stockLine_0 5 rfl rfl)
theorem dX1_stockLine_8 : decode cX1_stockLine 8 = .ok (.putfield 47, 3) := dk_181 0 47 (dk_at dksX1_stockLine_0 8 rfl rfl)
theorem dX1_stockLine_11 : decode cX1_stockLine 11 = .ok (.aload_n 0, 1) := dk_42 (dk_at dksX1_stockLine_0 11 rfl rfl)
theorem dX1_stockLine_12 : decode cX1_stockLine 12 = .ok (.getfield 47, 3) := dk_180 0 47 (dk_at dksX1_stockLine_0 12 rfl rfl)
theorem dX1_stockLine_15 : decode cX1_stockLine 15 = .ok (.invokevirtual 263, 3) := dk_182 1 7 (dk_at dksX1_stockLine_0 15 rfl rfl)
theorem dX1_stockLine_18 : decode cX1_stockLine 18 = .ok (.ireturn, 1) := dk_172 (dk_at dksX1_stockLine_0 18 rfl rfl)
abbrev cX1_snapshot : ByteArray := prog_1_method_46_code
def yX1_snapshot : MethodName := ⟨RX1, "snapshot", "()I"⟩
def dkwX1_snapshot_0 : List UInt8 := [42, 42, 180, 0, 25, 181, 1, 100, 42, 180, 0, 25, 180, 0, 93, 172]
abbrev dktX1_snapshot_0 : List UInt8 := dkwX1_snapshot_0 ++ []
theorem dksX1_snapshot_0 : cX1_snapshot.data.toList.drop 0 = dktX1_snapshot_0 := by decide +kernel
theorem dX1_snapshot_0 : decode cX1_snapshot 0 = .ok (.aload_n 0, 1) := dk_42 (dk_at dksX1_snapshot_0 0 rfl rfl)
theorem dX1_snapshot_1 : decode cX1_snapshot 1 = .ok (.aload_n 0, 1) := dk_42 (dk_at dksX1_snapshot_0 1 rfl rfl)
theorem dX1_snapshot_2 : decode cX1_snapshot 2 = .ok (.getfield 25, 3) := dk_180 0 25 (dk_at dksX1_snapshot_0 2 rfl rfl)
theorem dX1_snapshot_5 : decode cX1_snapshot 5 = .ok (.putfield 356, 3) := dk_181 1 100 (dk_at dksX1_snapshot_0 5 rfl rfl)
theorem dX1_snapshot_8 : decode cX1_snapshot 8 = .ok (.aload_n 0, 1) := dk_42 (dk_at dksX1_snapshot_0 8 rfl rfl)
theorem dX1_snapshot_9 : decode cX1_snapshot 9 = .ok (.getfield 25, 3) := dk_180 0 25 (dk_at dksX1_snapshot_0 9 rfl rfl)
theorem dX1_snapshot_12 : decode cX1_snapshot 12 = .ok (.getfield 93, 3) := dk_180 0 93 (dk_at dksX1_snapshot_0 12 rfl rfl)
theorem dX1_snapshot_15 : decode cX1_snapshot 15 = .ok (.ireturn, 1) := dk_172 (dk_at dksX1_snapshot_0 15 rfl rfl)
abbrev cX1_buy : ByteArray := prog_1_method_11_code
def yX1_buy : MethodName := ⟨RX1, "buy", "(II)I"⟩
def dkwX1_buy_0 : List UInt8 := [42, 18, 99, 5, 188, 10, 89, 3, 27, 79, 89, 4, 28, 79, 182, 0, 101, 172]
abbrev dktX1_buy_0 : List UInt8 := dkwX1_buy_0 ++ []
theorem dksX1_buy_0 : cX1_buy.data.toList.drop 0 = dktX1_buy_0 := by decide +kernel
theorem dX1_buy_0 : decode cX1_buy 0 = .ok (.aload_n 0, 1) := dk_42 (dk_at dksX1_buy_0 0 rfl rfl)
theorem dX1_buy_1 : decode cX1_buy 1 = .ok (.ldc 99, 2) := dk_18 99 (dk_at dksX1_buy_0 1 rfl rfl)
theorem dX1_buy_3 : decode cX1_buy 3 = .ok (.iconst 2, 1) := dk_5 (dk_at dksX1_buy_0 3 rfl rfl)
theorem dX1_buy_4 : decode cX1_buy 4 = .ok (.newarray .int, 2) := dk_188_10 (dk_at dksX1_buy_0 4 rfl rfl)
theorem dX1_buy_6 : decode cX1_buy 6 = .ok (.dup, 1) := dk_89 (dk_at dksX1_buy_0 6 rfl rfl)
theorem dX1_buy_7 : decode cX1_buy 7 = .ok (.iconst 0, 1) := dk_3 (dk_at dksX1_buy_0 7 rfl rfl)
theorem dX1_buy_8 : decode cX1_buy 8 = .ok (.iload_n 1, 1) := dk_27 (dk_at dksX1_buy_0 8 rfl rfl)
theorem dX1_buy_9 : decode cX1_buy 9 = .ok (.iastore, 1) := dk_79 (dk_at dksX1_buy_0 9 rfl rfl)
theorem dX1_buy_10 : decode cX1_buy 10 = .ok (.dup, 1) := dk_89 (dk_at dksX1_buy_0 10 rfl rfl)
theorem dX1_buy_11 : decode cX1_buy 11 = .ok (.iconst 1, 1) := dk_4 (dk_at dksX1_buy_0 11 rfl rfl)
theorem dX1_buy_12 : decode cX1_buy 12 = .ok (.iload_n 2, 1) := dk_28 (dk_at dksX1_buy_0 12 rfl rfl)
theorem dX1_buy_13 : decode cX1_buy 13 = .ok (.iastore, 1) := dk_79 (dk_at dksX1_buy_0 13 rfl rfl)
theorem dX1_buy_14 : decode cX1_buy 14 = .ok (.invokevirtual 101, 3) := dk_182 0 101 (dk_at dksX1_buy_0 14 rfl rfl)
theorem dX1_buy_17 : decode cX1_buy 17 = .ok (.ireturn, 1) := dk_172 (dk_at dksX1_buy_0 17 rfl rfl)
abbrev cX1_change : ByteArray := prog_1_method_9_code
def yX1_change : MethodName := ⟨RX1, "change", "(Ljava/lang/String;[I)I"⟩
def dkwX1_change_2 : List UInt8 := [21, 4, 172]
abbrev dktX1_change_2 : List UInt8 := dkwX1_change_2 ++ []
def dkwX1_change_1 : List UInt8 := [167, 0, 19, 58, 5, 42, 25, 5, 181, 0, 82, 187, 0, 86, 89, 183, 0, 88, 191, 42, 45, 182, 0, 89]
abbrev dktX1_change_1 : List UInt8 := dkwX1_change_1 ++ dktX1_change_2
def dkwX1_change_0 : List UInt8 := [42, 180, 0, 25, 182, 0, 67, 78, 187, 0, 71, 89, 43, 44, 183, 0, 73, 45, 182, 0, 76, 54, 4]
abbrev dktX1_change_0 : List UInt8 := dkwX1_change_0 ++ dktX1_change_1
theorem dksX1_change_0 : cX1_change.data.toList.drop 0 = dktX1_change_0 := by decide +kernel
theorem dksX1_change_1 : cX1_change.data.toList.drop 23 = dktX1_change_1 := dk_seg dksX1_change_0 23 rfl rfl
theorem dksX1_change_2 : cX1_change.data.toList.drop 47 = dktX1_change_2 := dk_seg dksX1_change_1 24 rfl rfl
theorem dX1_change_0 : decode cX1_change 0 = .ok (.aload_n 0, 1) := dk_42 (dk_at dksX1_change_0 0 rfl rfl)
theorem dX1_change_1 : decode cX1_change 1 = .ok (.getfield 25, 3) := dk_180 0 25 (dk_at dksX1_change_0 1 rfl rfl)
theorem dX1_change_4 : decode cX1_change 4 = .ok (.invokevirtual 67, 3) := dk_182 0 67 (dk_at dksX1_change_0 4 rfl rfl)
theorem dX1_change_7 : decode cX1_change 7 = .ok (.astore_n 3, 1) := dk_78 (dk_at dksX1_change_0 7 rfl rfl)
theorem dX1_change_8 : decode cX1_change 8 = .ok (.new 71, 3) := dk_187 0 71 (dk_at dksX1_change_0 8 rfl rfl)
theorem dX1_change_11 : decode cX1_change 11 = .ok (.dup, 1) := dk_89 (dk_at dksX1_change_0 11 rfl rfl)
theorem dX1_change_12 : decode cX1_change 12 = .ok (.aload_n 1, 1) := dk_43 (dk_at dksX1_change_0 12 rfl rfl)
theorem dX1_change_13 : decode cX1_change 13 = .ok (.aload_n 2, 1) := dk_44 (dk_at dksX1_change_0 13 rfl rfl)
theorem dX1_change_14 : decode cX1_change 14 = .ok (.invokespecial 73, 3) := dk_183 0 73 (dk_at dksX1_change_0 14 rfl rfl)
theorem dX1_change_17 : decode cX1_change 17 = .ok (.aload_n 3, 1) := dk_45 (dk_at dksX1_change_0 17 rfl rfl)
theorem dX1_change_18 : decode cX1_change 18 = .ok (.invokevirtual 76, 3) := dk_182 0 76 (dk_at dksX1_change_0 18 rfl rfl)
theorem dX1_change_21 : decode cX1_change 21 = .ok (.istore 4, 2) := dk_54 4 (dk_at dksX1_change_0 21 rfl rfl)
theorem dX1_change_23 : decode cX1_change 23 = .ok (.goto 19, 3) := dk_167 0 19 (dk_at dksX1_change_1 0 rfl rfl)
theorem dX1_change_26 : decode cX1_change 26 = .ok (.astore 5, 2) := dk_58 5 (dk_at dksX1_change_1 3 rfl rfl)
theorem dX1_change_28 : decode cX1_change 28 = .ok (.aload_n 0, 1) := dk_42 (dk_at dksX1_change_1 5 rfl rfl)
theorem dX1_change_29 : decode cX1_change 29 = .ok (.aload 5, 2) := dk_25 5 (dk_at dksX1_change_1 6 rfl rfl)
theorem dX1_change_31 : decode cX1_change 31 = .ok (.putfield 82, 3) := dk_181 0 82 (dk_at dksX1_change_1 8 rfl rfl)
theorem dX1_change_34 : decode cX1_change 34 = .ok (.new 86, 3) := dk_187 0 86 (dk_at dksX1_change_1 11 rfl rfl)
theorem dX1_change_37 : decode cX1_change 37 = .ok (.dup, 1) := dk_89 (dk_at dksX1_change_1 14 rfl rfl)
theorem dX1_change_38 : decode cX1_change 38 = .ok (.invokespecial 88, 3) := dk_183 0 88 (dk_at dksX1_change_1 15 rfl rfl)
theorem dX1_change_41 : decode cX1_change 41 = .ok (.athrow, 1) := dk_191 (dk_at dksX1_change_1 18 rfl rfl)
theorem dX1_change_42 : decode cX1_change 42 = .ok (.aload_n 0, 1) := dk_42 (dk_at dksX1_change_1 19 rfl rfl)
theorem dX1_change_43 : decode cX1_change 43 = .ok (.aload_n 3, 1) := dk_45 (dk_at dksX1_change_1 20 rfl rfl)
theorem dX1_change_44 : decode cX1_change 44 = .ok (.invokevirtual 89, 3) := dk_182 0 89 (dk_at dksX1_change_1 21 rfl rfl)
theorem dX1_change_47 : decode cX1_change 47 = .ok (.iload 4, 2) := dk_21 4 (dk_at dksX1_change_2 0 rfl rfl)
theorem dX1_change_49 : decode cX1_change 49 = .ok (.ireturn, 1) := dk_172 (dk_at dksX1_change_2 2 rfl rfl)
abbrev cX1_inRange : ByteArray := prog_1_method_1_code
def yX1_inRange : MethodName := ⟨RX1, "inRange", "(JJJ)Z"⟩
def dkwX1_inRange_0 : List UInt8 := [30, 32, 148, 155, 0, 14, 30, 22, 4, 148, 157, 0, 7, 4, 167, 0, 4, 3, 172]
abbrev dktX1_inRange_0 : List UInt8 := dkwX1_inRange_0 ++ []
theorem dksX1_inRange_0 : cX1_inRange.data.toList.drop 0 = dktX1_inRange_0 := by decide +kernel
theorem dX1_inRange_0 : decode cX1_inRange 0 = .ok (.lload_n 0, 1) := dk_30 (dk_at dksX1_inRange_0 0 rfl rfl)
theorem dX1_inRange_1 : decode cX1_inRange 1 = .ok (.lload_n 2, 1) := dk_32 (dk_at dksX1_inRange_0 1 rfl rfl)
theorem dX1_inRange_2 : decode cX1_inRange 2 = .ok (.lcmp, 1) := dk_148 (dk_at dksX1_inRange_0 2 rfl rfl)
theorem dX1_inRange_3 : decode cX1_inRange 3 = .ok (.ifCond .lt 14, 3) := dk_155 0 14 (dk_at dksX1_inRange_0 3 rfl rfl)
theorem dX1_inRange_6 : decode cX1_inRange 6 = .ok (.lload_n 0, 1) := dk_30 (dk_at dksX1_inRange_0 6 rfl rfl)
theorem dX1_inRange_7 : decode cX1_inRange 7 = .ok (.lload 4, 2) := dk_22 4 (dk_at dksX1_inRange_0 7 rfl rfl)
theorem dX1_inRange_9 : decode cX1_inRange 9 = .ok (.lcmp, 1) := dk_148 (dk_at dksX1_inRange_0 9 rfl rfl)
theorem dX1_inRange_10 : decode cX1_inRange 10 = .ok (.ifCond .gt 7, 3) := dk_157 0 7 (dk_at dksX1_inRange_0 10 rfl rfl)
theorem dX1_inRange_13 : decode cX1_inRange 13 = .ok (.iconst 1, 1) := dk_4 (dk_at dksX1_inRange_0 13 rfl rfl)
theorem dX1_inRange_14 : decode cX1_inRange 14 = .ok (.goto 4, 3) := dk_167 0 4 (dk_at dksX1_inRange_0 14 rfl rfl)
theorem dX1_inRange_17 : decode cX1_inRange 17 = .ok (.iconst 0, 1) := dk_3 (dk_at dksX1_inRange_0 17 rfl rfl)
theorem dX1_inRange_18 : decode cX1_inRange 18 = .ok (.ireturn, 1) := dk_172 (dk_at dksX1_inRange_0 18 rfl rfl)
abbrev cX1_checkIndex : ByteArray := prog_1_method_3_code
def yX1_checkIndex : MethodName := ⟨RX1, "checkIndex", "(Z)V"⟩
def dkwX1_checkIndex_0 : List UInt8 := [26, 154, 0, 11, 187, 0, 7, 89, 183, 0, 9, 191, 177]
abbrev dktX1_checkIndex_0 : List UInt8 := dkwX1_checkIndex_0 ++ []
theorem dksX1_checkIndex_0 : cX1_checkIndex.data.toList.drop 0 = dktX1_checkIndex_0 := by decide +kernel
theorem dX1_checkIndex_0 : decode cX1_checkIndex 0 = .ok (.iload_n 0, 1) := dk_26 (dk_at dksX1_checkIndex_0 0 rfl rfl)
theorem dX1_checkIndex_1 : decode cX1_checkIndex 1 = .ok (.ifCond .ne 11, 3) := dk_154 0 11 (dk_at dksX1_checkIndex_0 1 rfl rfl)
theorem dX1_checkIndex_4 : decode cX1_checkIndex 4 = .ok (.new 7, 3) := dk_187 0 7 (dk_at dksX1_checkIndex_0 4 rfl rfl)
theorem dX1_checkIndex_7 : decode cX1_checkIndex 7 = .ok (.dup, 1) := dk_89 (dk_at dksX1_checkIndex_0 7 rfl rfl)
theorem dX1_checkIndex_8 : decode cX1_checkIndex 8 = .ok (.invokespecial 9, 3) := dk_183 0 9 (dk_at dksX1_checkIndex_0 8 rfl rfl)
theorem dX1_checkIndex_11 : decode cX1_checkIndex 11 = .ok (.athrow, 1) := dk_191 (dk_at dksX1_checkIndex_0 11 rfl rfl)
theorem dX1_checkIndex_12 : decode cX1_checkIndex 12 = .ok (.return_, 1) := dk_177 (dk_at dksX1_checkIndex_0 12 rfl rfl)
abbrev cX1_checkArgument : ByteArray := prog_1_method_2_code
def yX1_checkArgument : MethodName := ⟨RX1, "checkArgument", "(Z)V"⟩
def dkwX1_checkArgument_0 : List UInt8 := [26, 154, 0, 11, 187, 0, 1, 89, 183, 0, 3, 191, 177]
abbrev dktX1_checkArgument_0 : List UInt8 := dkwX1_checkArgument_0 ++ []
theorem dksX1_checkArgument_0 : cX1_checkArgument.data.toList.drop 0 = dktX1_checkArgument_0 := by decide +kernel
theorem dX1_checkArgument_0 : decode cX1_checkArgument 0 = .ok (.iload_n 0, 1) := dk_26 (dk_at dksX1_checkArgument_0 0 rfl rfl)
theorem dX1_checkArgument_1 : decode cX1_checkArgument 1 = .ok (.ifCond .ne 11, 3) := dk_154 0 11 (dk_at dksX1_checkArgument_0 1 rfl rfl)
theorem dX1_checkArgument_4 : decode cX1_checkArgument 4 = .ok (.new 1, 3) := dk_187 0 1 (dk_at dksX1_checkArgument_0 4 rfl rfl)
theorem dX1_checkArgument_7 : decode cX1_checkArgument 7 = .ok (.dup, 1) := dk_89 (dk_at dksX1_checkArgument_0 7 rfl rfl)
theorem dX1_checkArgument_8 : decode cX1_checkArgument 8 = .ok (.invokespecial 3, 3) := dk_183 0 3 (dk_at dksX1_checkArgument_0 8 rfl rfl)
theorem dX1_checkArgument_11 : decode cX1_checkArgument 11 = .ok (.athrow, 1) := dk_191 (dk_at dksX1_checkArgument_0 11 rfl rfl)
theorem dX1_checkArgument_12 : decode cX1_checkArgument 12 = .ok (.return_, 1) := dk_177 (dk_at dksX1_checkArgument_0 12 rfl rfl)
abbrev cX1_become : ByteArray := prog_1_method_8_code
def yX1_become : MethodName := ⟨RX1, "become", "(LMustardMill$Mill;)V"⟩
def dkwX1_become_1 : List UInt8 := [180, 0, 34, 42, 180, 0, 25, 182, 0, 63, 42, 43, 181, 0, 25, 177]
abbrev dktX1_become_1 : List UInt8 := dkwX1_become_1 ++ []
def dkwX1_become_0 : List UInt8 := [42, 180, 0, 34, 182, 0, 55, 16, 8, 160, 0, 14, 42, 180, 0, 34, 182, 0, 59, 192, 0, 22, 77, 42]
abbrev dktX1_become_0 : List UInt8 := dkwX1_become_0 ++ dktX1_become_1
theorem dksX1_become_0 : cX1_become.data.toList.drop 0 = dktX1_become_0 := by decide +kernel
theorem dksX1_become_1 : cX1_become.data.toList.drop 24 = dktX1_become_1 := dk_seg dksX1_become_0 24 rfl rfl
theorem dX1_become_0 : decode cX1_become 0 = .ok (.aload_n 0, 1) := dk_42 (dk_at dksX1_become_0 0 rfl rfl)
theorem dX1_become_1 : decode cX1_become 1 = .ok (.getfield 34, 3) := dk_180 0 34 (dk_at dksX1_become_0 1 rfl rfl)
theorem dX1_become_4 : decode cX1_become 4 = .ok (.invokevirtual 55, 3) := dk_182 0 55 (dk_at dksX1_become_0 4 rfl rfl)
theorem dX1_become_7 : decode cX1_become 7 = .ok (.bipush 8, 2) := dk_16 8 (dk_at dksX1_become_0 7 rfl rfl)
theorem dX1_become_9 : decode cX1_become 9 = .ok (.if_icmp .ne 14, 3) := dk_160 0 14 (dk_at dksX1_become_0 9 rfl rfl)
theorem dX1_become_12 : decode cX1_become 12 = .ok (.aload_n 0, 1) := dk_42 (dk_at dksX1_become_0 12 rfl rfl)
theorem dX1_become_13 : decode cX1_become 13 = .ok (.getfield 34, 3) := dk_180 0 34 (dk_at dksX1_become_0 13 rfl rfl)
theorem dX1_become_16 : decode cX1_become 16 = .ok (.invokevirtual 59, 3) := dk_182 0 59 (dk_at dksX1_become_0 16 rfl rfl)
theorem dX1_become_19 : decode cX1_become 19 = .ok (.checkcast 22, 3) := dk_192 0 22 (dk_at dksX1_become_0 19 rfl rfl)
theorem dX1_become_22 : decode cX1_become 22 = .ok (.astore_n 2, 1) := dk_77 (dk_at dksX1_become_0 22 rfl rfl)
theorem dX1_become_23 : decode cX1_become 23 = .ok (.aload_n 0, 1) := dk_42 (dk_at dksX1_become_0 23 rfl rfl)
theorem dX1_become_24 : decode cX1_become 24 = .ok (.getfield 34, 3) := dk_180 0 34 (dk_at dksX1_become_1 0 rfl rfl)
theorem dX1_become_27 : decode cX1_become 27 = .ok (.aload_n 0, 1) := dk_42 (dk_at dksX1_become_1 3 rfl rfl)
theorem dX1_become_28 : decode cX1_become 28 = .ok (.getfield 25, 3) := dk_180 0 25 (dk_at dksX1_become_1 4 rfl rfl)
theorem dX1_become_31 : decode cX1_become 31 = .ok (.invokevirtual 63, 3) := dk_182 0 63 (dk_at dksX1_become_1 7 rfl rfl)
theorem dX1_become_34 : decode cX1_become 34 = .ok (.aload_n 0, 1) := dk_42 (dk_at dksX1_become_1 10 rfl rfl)
theorem dX1_become_35 : decode cX1_become 35 = .ok (.aload_n 1, 1) := dk_43 (dk_at dksX1_become_1 11 rfl rfl)
theorem dX1_become_36 : decode cX1_become 36 = .ok (.putfield 25, 3) := dk_181 0 25 (dk_at dksX1_become_1 12 rfl rfl)
theorem dX1_become_39 : decode cX1_become 39 = .ok (.return_, 1) := dk_177 (dk_at dksX1_become_1 15 rfl rfl)
abbrev cX1_quernOf : ByteArray := prog_1_method_12_code
def yX1_quernOf : MethodName := ⟨RX1, "quernOf", "(II)I"⟩
def dkwX1_quernOf_3 : List UInt8 := [108, 172, 187, 0, 1, 89, 183, 0, 3, 191]
abbrev dktX1_quernOf_3 : List UInt8 := dkwX1_quernOf_3 ++ []
def dkwX1_quernOf_2 : List UInt8 := [45, 180, 0, 109, 172, 45, 180, 0, 114, 172, 45, 180, 0, 117, 172, 45, 180, 0, 114, 6, 96, 4, 100, 6]
abbrev dktX1_quernOf_2 : List UInt8 := dkwX1_quernOf_2 ++ dktX1_quernOf_3
def dkwX1_quernOf_1 : List UInt8 := [170, 0, 0, 0, 0, 56, 0, 0, 0, 0, 0, 0, 0, 3, 0, 0, 0, 30, 0, 0, 0, 35, 0, 0, 0, 40, 0, 0, 0, 45]
abbrev dktX1_quernOf_1 : List UInt8 := dkwX1_quernOf_1 ++ dktX1_quernOf_2
def dkwX1_quernOf_0 : List UInt8 := [42, 180, 0, 25, 27, 182, 0, 105, 78, 28]
abbrev dktX1_quernOf_0 : List UInt8 := dkwX1_quernOf_0 ++ dktX1_quernOf_1
theorem dksX1_quernOf_0 : cX1_quernOf.data.toList.drop 0 = dktX1_quernOf_0 := by decide +kernel
theorem dksX1_quernOf_1 : cX1_quernOf.data.toList.drop 10 = dktX1_quernOf_1 := dk_seg dksX1_quernOf_0 10 rfl rfl
theorem dksX1_quernOf_2 : cX1_quernOf.data.toList.drop 40 = dktX1_quernOf_2 := dk_seg dksX1_quernOf_1 30 rfl rfl
theorem dksX1_quernOf_3 : cX1_quernOf.data.toList.drop 64 = dktX1_quernOf_3 := dk_seg dksX1_quernOf_2 24 rfl rfl
theorem dX1_quernOf_0 : decode cX1_quernOf 0 = .ok (.aload_n 0, 1) := dk_42 (dk_at dksX1_quernOf_0 0 rfl rfl)
theorem dX1_quernOf_1 : decode cX1_quernOf 1 = .ok (.getfield 25, 3) := dk_180 0 25 (dk_at dksX1_quernOf_0 1 rfl rfl)
theorem dX1_quernOf_4 : decode cX1_quernOf 4 = .ok (.iload_n 1, 1) := dk_27 (dk_at dksX1_quernOf_0 4 rfl rfl)
theorem dX1_quernOf_5 : decode cX1_quernOf 5 = .ok (.invokevirtual 105, 3) := dk_182 0 105 (dk_at dksX1_quernOf_0 5 rfl rfl)
theorem dX1_quernOf_8 : decode cX1_quernOf 8 = .ok (.astore_n 3, 1) := dk_78 (dk_at dksX1_quernOf_0 8 rfl rfl)
theorem dX1_quernOf_9 : decode cX1_quernOf 9 = .ok (.iload_n 2, 1) := dk_28 (dk_at dksX1_quernOf_0 9 rfl rfl)
theorem dX1_quernOf_10 : decode cX1_quernOf 10 = .ok (.tableswitch 56 0 3 #[30, 35, 40, 45], 30) := by decide +kernel
theorem dX1_quernOf_40 : decode cX1_quernOf 40 = .ok (.aload_n 3, 1) := dk_45 (dk_at dksX1_quernOf_2 0 rfl rfl)
theorem dX1_quernOf_41 : decode cX1_quernOf 41 = .ok (.getfield 109, 3) := dk_180 0 109 (dk_at dksX1_quernOf_2 1 rfl rfl)
theorem dX1_quernOf_44 : decode cX1_quernOf 44 = .ok (.ireturn, 1) := dk_172 (dk_at dksX1_quernOf_2 4 rfl rfl)
theorem dX1_quernOf_45 : decode cX1_quernOf 45 = .ok (.aload_n 3, 1) := dk_45 (dk_at dksX1_quernOf_2 5 rfl rfl)
theorem dX1_quernOf_46 : decode cX1_quernOf 46 = .ok (.getfield 114, 3) := dk_180 0 114 (dk_at dksX1_quernOf_2 6 rfl rfl)
theorem dX1_quernOf_49 : decode cX1_quernOf 49 = .ok (.ireturn, 1) := dk_172 (dk_at dksX1_quernOf_2 9 rfl rfl)
theorem dX1_quernOf_50 : decode cX1_quernOf 50 = .ok (.aload_n 3, 1) := dk_45 (dk_at dksX1_quernOf_2 10 rfl rfl)
theorem dX1_quernOf_51 : decode cX1_quernOf 51 = .ok (.getfield 117, 3) := dk_180 0 117 (dk_at dksX1_quernOf_2 11 rfl rfl)
theorem dX1_quernOf_54 : decode cX1_quernOf 54 = .ok (.ireturn, 1) := dk_172 (dk_at dksX1_quernOf_2 14 rfl rfl)
theorem dX1_quernOf_55 : decode cX1_quernOf 55 = .ok (.aload_n 3, 1) := dk_45 (dk_at dksX1_quernOf_2 15 rfl rfl)
theorem dX1_quernOf_56 : decode cX1_quernOf 56 = .ok (.getfield 114, 3) := dk_180 0 114 (dk_at dksX1_quernOf_2 16 rfl rfl)
theorem dX1_quernOf_59 : decode cX1_quernOf 59 = .ok (.iconst 3, 1) := dk_6 (dk_at dksX1_quernOf_2 19 rfl rfl)
theorem dX1_quernOf_60 : decode cX1_quernOf 60 = .ok (.iadd, 1) := dk_96 (dk_at dksX1_quernOf_2 20 rfl rfl)
theorem dX1_quernOf_61 : decode cX1_quernOf 61 = .ok (.iconst 1, 1) := dk_4 (dk_at dksX1_quernOf_2 21 rfl rfl)
theorem dX1_quernOf_62 : decode cX1_quernOf 62 = .ok (.isub, 1) := dk_100 (dk_at dksX1_quernOf_2 22 rfl rfl)
theorem dX1_quernOf_63 : decode cX1_quernOf 63 = .ok (.iconst 3, 1) := dk_6 (dk_at dksX1_quernOf_2 23 rfl rfl)
theorem dX1_quernOf_64 : decode cX1_quernOf 64 = .ok (.idiv, 1) := dk_108 (dk_at dksX1_quernOf_3 0 rfl rfl)
theorem dX1_quernOf_65 : decode cX1_quernOf 65 = .ok (.ireturn, 1) := dk_172 (dk_at dksX1_quernOf_3 1 rfl rfl)
theorem dX1_quernOf_66 : decode cX1_quernOf 66 = .ok (.new 1, 3) := dk_187 0 1 (dk_at dksX1_quernOf_3 2 rfl rfl)
theorem dX1_quernOf_69 : decode cX1_quernOf 69 = .ok (.dup, 1) := dk_89 (dk_at dksX1_quernOf_3 5 rfl rfl)
theorem dX1_quernOf_70 : decode cX1_quernOf 70 = .ok (.invokespecial 3, 3) := dk_183 0 3 (dk_at dksX1_quernOf_3 6 rfl rfl)
theorem dX1_quernOf_73 : decode cX1_quernOf 73 = .ok (.athrow, 1) := dk_191 (dk_at dksX1_quernOf_3 9 rfl rfl)
abbrev cX1_dress : ByteArray := prog_1_method_13_code
def yX1_dress : MethodName := ⟨RX1, "dress", "(I)I"⟩
def dkwX1_dress_0 : List UInt8 := [42, 18, 120, 4, 188, 10, 89, 3, 27, 79, 182, 0, 101, 172]
abbrev dktX1_dress_0 : List UInt8 := dkwX1_dress_0 ++ []
theorem dksX1_dress_0 : cX1_dress.data.toList.drop 0 = dktX1_dress_0 := by decide +kernel
theorem dX1_dress_0 : decode cX1_dress 0 = .ok (.aload_n 0, 1) := dk_42 (dk_at dksX1_dress_0 0 rfl rfl)
theorem dX1_dress_1 : decode cX1_dress 1 = .ok (.ldc 120, 2) := dk_18 120 (dk_at dksX1_dress_0 1 rfl rfl)
theorem dX1_dress_3 : decode cX1_dress 3 = .ok (.iconst 1, 1) := dk_4 (dk_at dksX1_dress_0 3 rfl rfl)
theorem dX1_dress_4 : decode cX1_dress 4 = .ok (.newarray .int, 2) := dk_188_10 (dk_at dksX1_dress_0 4 rfl rfl)
theorem dX1_dress_6 : decode cX1_dress 6 = .ok (.dup, 1) := dk_89 (dk_at dksX1_dress_0 6 rfl rfl)
theorem dX1_dress_7 : decode cX1_dress 7 = .ok (.iconst 0, 1) := dk_3 (dk_at dksX1_dress_0 7 rfl rfl)
theorem dX1_dress_8 : decode cX1_dress 8 = .ok (.iload_n 1, 1) := dk_27 (dk_at dksX1_dress_0 8 rfl rfl)
theorem dX1_dress_9 : decode cX1_dress 9 = .ok (.iastore, 1) := dk_79 (dk_at dksX1_dress_0 9 rfl rfl)
theorem dX1_dress_10 : decode cX1_dress 10 = .ok (.invokevirtual 101, 3) := dk_182 0 101 (dk_at dksX1_dress_0 10 rfl rfl)
theorem dX1_dress_13 : decode cX1_dress 13 = .ok (.ireturn, 1) := dk_172 (dk_at dksX1_dress_0 13 rfl rfl)
abbrev cX1_grind : ByteArray := prog_1_method_14_code
def yX1_grind : MethodName := ⟨RX1, "grind", "(IIII)I"⟩
def dkwX1_grind_1 : List UInt8 := [182, 0, 101, 172]
abbrev dktX1_grind_1 : List UInt8 := dkwX1_grind_1 ++ []
def dkwX1_grind_0 : List UInt8 := [42, 18, 121, 7, 188, 10, 89, 3, 27, 79, 89, 4, 28, 79, 89, 5, 29, 79, 89, 6, 21, 4, 79]
abbrev dktX1_grind_0 : List UInt8 := dkwX1_grind_0 ++ dktX1_grind_1
theorem dksX1_grind_0 : cX1_grind.data.toList.drop 0 = dktX1_grind_0 := by decide +kernel
theorem dksX1_grind_1 : cX1_grind.data.toList.drop 23 = dktX1_grind_1 := dk_seg dksX1_grind_0 23 rfl rfl
theorem dX1_grind_0 : decode cX1_grind 0 = .ok (.aload_n 0, 1) := dk_42 (dk_at dksX1_grind_0 0 rfl rfl)
theorem dX1_grind_1 : decode cX1_grind 1 = .ok (.ldc 121, 2) := dk_18 121 (dk_at dksX1_grind_0 1 rfl rfl)
theorem dX1_grind_3 : decode cX1_grind 3 = .ok (.iconst 4, 1) := dk_7 (dk_at dksX1_grind_0 3 rfl rfl)
theorem dX1_grind_4 : decode cX1_grind 4 = .ok (.newarray .int, 2) := dk_188_10 (dk_at dksX1_grind_0 4 rfl rfl)
theorem dX1_grind_6 : decode cX1_grind 6 = .ok (.dup, 1) := dk_89 (dk_at dksX1_grind_0 6 rfl rfl)
theorem dX1_grind_7 : decode cX1_grind 7 = .ok (.iconst 0, 1) := dk_3 (dk_at dksX1_grind_0 7 rfl rfl)
theorem dX1_grind_8 : decode cX1_grind 8 = .ok (.iload_n 1, 1) := dk_27 (dk_at dksX1_grind_0 8 rfl rfl)
theorem dX1_grind_9 : decode cX1_grind 9 = .ok (.iastore, 1) := dk_79 (dk_at dksX1_grind_0 9 rfl rfl)
theorem dX1_grind_10 : decode cX1_grind 10 = .ok (.dup, 1) := dk_89 (dk_at dksX1_grind_0 10 rfl rfl)
theorem dX1_grind_11 : decode cX1_grind 11 = .ok (.iconst 1, 1) := dk_4 (dk_at dksX1_grind_0 11 rfl rfl)
theorem dX1_grind_12 : decode cX1_grind 12 = .ok (.iload_n 2, 1) := dk_28 (dk_at dksX1_grind_0 12 rfl rfl)
theorem dX1_grind_13 : decode cX1_grind 13 = .ok (.iastore, 1) := dk_79 (dk_at dksX1_grind_0 13 rfl rfl)
theorem dX1_grind_14 : decode cX1_grind 14 = .ok (.dup, 1) := dk_89 (dk_at dksX1_grind_0 14 rfl rfl)
theorem dX1_grind_15 : decode cX1_grind 15 = .ok (.iconst 2, 1) := dk_5 (dk_at dksX1_grind_0 15 rfl rfl)
theorem dX1_grind_16 : decode cX1_grind 16 = .ok (.iload_n 3, 1) := dk_29 (dk_at dksX1_grind_0 16 rfl rfl)
theorem dX1_grind_17 : decode cX1_grind 17 = .ok (.iastore, 1) := dk_79 (dk_at dksX1_grind_0 17 rfl rfl)
theorem dX1_grind_18 : decode cX1_grind 18 = .ok (.dup, 1) := dk_89 (dk_at dksX1_grind_0 18 rfl rfl)
theorem dX1_grind_19 : decode cX1_grind 19 = .ok (.iconst 3, 1) := dk_6 (dk_at dksX1_grind_0 19 rfl rfl)
theorem dX1_grind_20 : decode cX1_grind 20 = .ok (.iload 4, 2) := dk_21 4 (dk_at dksX1_grind_0 20 rfl rfl)
theorem dX1_grind_22 : decode cX1_grind 22 = .ok (.iastore, 1) := dk_79 (dk_at dksX1_grind_0 22 rfl rfl)
theorem dX1_grind_23 : decode cX1_grind 23 = .ok (.invokevirtual 101, 3) := dk_182 0 101 (dk_at dksX1_grind_1 0 rfl rfl)
theorem dX1_grind_26 : decode cX1_grind 26 = .ok (.ireturn, 1) := dk_172 (dk_at dksX1_grind_1 3 rfl rfl)
abbrev cX1_biteOf : ByteArray := prog_1_method_15_code
def yX1_biteOf : MethodName := ⟨RX1, "biteOf", "(IIII)I"⟩
def dkwX1_biteOf_1 : List UInt8 := [172]
abbrev dktX1_biteOf_1 : List UInt8 := dkwX1_biteOf_1 ++ []
def dkwX1_biteOf_0 : List UInt8 := [42, 180, 0, 25, 27, 6, 188, 10, 89, 3, 28, 79, 89, 4, 29, 79, 89, 5, 21, 4, 79, 182, 0, 123]
abbrev dktX1_biteOf_0 : List UInt8 := dkwX1_biteOf_0 ++ dktX1_biteOf_1
theorem dksX1_biteOf_0 : cX1_biteOf.data.toList.drop 0 = dktX1_biteOf_0 := by decide +kernel
theorem dksX1_biteOf_1 : cX1_biteOf.data.toList.drop 24 = dktX1_biteOf_1 := dk_seg dksX1_biteOf_0 24 rfl rfl
theorem dX1_biteOf_0 : decode cX1_biteOf 0 = .ok (.aload_n 0, 1) := dk_42 (dk_at dksX1_biteOf_0 0 rfl rfl)
theorem dX1_biteOf_1 : decode cX1_biteOf 1 = .ok (.getfield 25, 3) := dk_180 0 25 (dk_at dksX1_biteOf_0 1 rfl rfl)
theorem dX1_biteOf_4 : decode cX1_biteOf 4 = .ok (.iload_n 1, 1) := dk_27 (dk_at dksX1_biteOf_0 4 rfl rfl)
theorem dX1_biteOf_5 : decode cX1_biteOf 5 = .ok (.iconst 3, 1) := dk_6 (dk_at dksX1_biteOf_0 5 rfl rfl)
theorem dX1_biteOf_6 : decode cX1_biteOf 6 = .ok (.newarray .int, 2) := dk_188_10 (dk_at dksX1_biteOf_0 6 rfl rfl)
theorem dX1_biteOf_8 : decode cX1_biteOf 8 = .ok (.dup, 1) := dk_89 (dk_at dksX1_biteOf_0 8 rfl rfl)
theorem dX1_biteOf_9 : decode cX1_biteOf 9 = .ok (.iconst 0, 1) := dk_3 (dk_at dksX1_biteOf_0 9 rfl rfl)
theorem dX1_biteOf_10 : decode cX1_biteOf 10 = .ok (.iload_n 2, 1) := dk_28 (dk_at dksX1_biteOf_0 10 rfl rfl)
theorem dX1_biteOf_11 : decode cX1_biteOf 11 = .ok (.iastore, 1) := dk_79 (dk_at dksX1_biteOf_0 11 rfl rfl)
theorem dX1_biteOf_12 : decode cX1_biteOf 12 = .ok (.dup, 1) := dk_89 (dk_at dksX1_biteOf_0 12 rfl rfl)
theorem dX1_biteOf_13 : decode cX1_biteOf 13 = .ok (.iconst 1, 1) := dk_4 (dk_at dksX1_biteOf_0 13 rfl rfl)
theorem dX1_biteOf_14 : decode cX1_biteOf 14 = .ok (.iload_n 3, 1) := dk_29 (dk_at dksX1_biteOf_0 14 rfl rfl)
theorem dX1_biteOf_15 : decode cX1_biteOf 15 = .ok (.iastore, 1) := dk_79 (dk_at dksX1_biteOf_0 15 rfl rfl)
theorem dX1_biteOf_16 : decode cX1_biteOf 16 = .ok (.dup, 1) := dk_89 (dk_at dksX1_biteOf_0 16 rfl rfl)
theorem dX1_biteOf_17 : decode cX1_biteOf 17 = .ok (.iconst 2, 1) := dk_5 (dk_at dksX1_biteOf_0 17 rfl rfl)
theorem dX1_biteOf_18 : decode cX1_biteOf 18 = .ok (.iload 4, 2) := dk_21 4 (dk_at dksX1_biteOf_0 18 rfl rfl)
theorem dX1_biteOf_20 : decode cX1_biteOf 20 = .ok (.iastore, 1) := dk_79 (dk_at dksX1_biteOf_0 20 rfl rfl)
theorem dX1_biteOf_21 : decode cX1_biteOf 21 = .ok (.invokevirtual 123, 3) := dk_182 0 123 (dk_at dksX1_biteOf_0 21 rfl rfl)
theorem dX1_biteOf_24 : decode cX1_biteOf 24 = .ok (.ireturn, 1) := dk_172 (dk_at dksX1_biteOf_1 0 rfl rfl)
abbrev cX1_mix : ByteArray := prog_1_method_16_code
def yX1_mix : MethodName := ⟨RX1, "mix", "(II)I"⟩
def dkwX1_mix_0 : List UInt8 := [42, 18, 127, 5, 188, 10, 89, 3, 27, 79, 89, 4, 28, 79, 182, 0, 101, 172]
abbrev dktX1_mix_0 : List UInt8 := dkwX1_mix_0 ++ []
theorem dksX1_mix_0 : cX1_mix.data.toList.drop 0 = dktX1_mix_0 := by decide +kernel
theorem dX1_mix_0 : decode cX1_mix 0 = .ok (.aload_n 0, 1) := dk_42 (dk_at dksX1_mix_0 0 rfl rfl)
theorem dX1_mix_1 : decode cX1_mix 1 = .ok (.ldc 127, 2) := dk_18 127 (dk_at dksX1_mix_0 1 rfl rfl)
theorem dX1_mix_3 : decode cX1_mix 3 = .ok (.iconst 2, 1) := dk_5 (dk_at dksX1_mix_0 3 rfl rfl)
theorem dX1_mix_4 : decode cX1_mix 4 = .ok (.newarray .int, 2) := dk_188_10 (dk_at dksX1_mix_0 4 rfl rfl)
theorem dX1_mix_6 : decode cX1_mix 6 = .ok (.dup, 1) := dk_89 (dk_at dksX1_mix_0 6 rfl rfl)
theorem dX1_mix_7 : decode cX1_mix 7 = .ok (.iconst 0, 1) := dk_3 (dk_at dksX1_mix_0 7 rfl rfl)
theorem dX1_mix_8 : decode cX1_mix 8 = .ok (.iload_n 1, 1) := dk_27 (dk_at dksX1_mix_0 8 rfl rfl)
theorem dX1_mix_9 : decode cX1_mix 9 = .ok (.iastore, 1) := dk_79 (dk_at dksX1_mix_0 9 rfl rfl)
theorem dX1_mix_10 : decode cX1_mix 10 = .ok (.dup, 1) := dk_89 (dk_at dksX1_mix_0 10 rfl rfl)
theorem dX1_mix_11 : decode cX1_mix 11 = .ok (.iconst 1, 1) := dk_4 (dk_at dksX1_mix_0 11 rfl rfl)
theorem dX1_mix_12 : decode cX1_mix 12 = .ok (.iload_n 2, 1) := dk_28 (dk_at dksX1_mix_0 12 rfl rfl)
theorem dX1_mix_13 : decode cX1_mix 13 = .ok (.iastore, 1) := dk_79 (dk_at dksX1_mix_0 13 rfl rfl)
theorem dX1_mix_14 : decode cX1_mix 14 = .ok (.invokevirtual 101, 3) := dk_182 0 101 (dk_at dksX1_mix_0 14 rfl rfl)
theorem dX1_mix_17 : decode cX1_mix 17 = .ok (.ireturn, 1) := dk_172 (dk_at dksX1_mix_0 17 rfl rfl)
abbrev cX1_batchOf : ByteArray := prog_1_method_17_code
def yX1_batchOf : MethodName := ⟨RX1, "batchOf", "(II)I"⟩
def dkwX1_batchOf_3 : List UInt8 := [172, 45, 180, 0, 156, 172, 45, 180, 0, 159, 172, 187, 0, 1, 89, 183, 0, 3, 191]
abbrev dktX1_batchOf_3 : List UInt8 := dkwX1_batchOf_3 ++ []
def dkwX1_batchOf_2 : List UInt8 := [45, 182, 0, 141, 172, 45, 180, 0, 144, 172, 45, 180, 0, 147, 172, 45, 180, 0, 150, 172, 45, 180, 0, 153]
abbrev dktX1_batchOf_2 : List UInt8 := dkwX1_batchOf_2 ++ dktX1_batchOf_3
def dkwX1_batchOf_1 : List UInt8 := [170, 0, 0, 0, 0, 0, 0, 79, 0, 0, 0, 0, 0, 0, 0, 6, 0, 0, 0, 44, 0, 0, 0, 49, 0, 0, 0, 54, 0, 0, 0, 59, 0, 0, 0, 64, 0, 0, 0, 69, 0, 0, 0, 74]
abbrev dktX1_batchOf_1 : List UInt8 := dkwX1_batchOf_1 ++ dktX1_batchOf_2
def dkwX1_batchOf_0 : List UInt8 := [42, 180, 0, 25, 180, 0, 129, 27, 182, 0, 133, 192, 0, 139, 78, 28]
abbrev dktX1_batchOf_0 : List UInt8 := dkwX1_batchOf_0 ++ dktX1_batchOf_1
theorem dksX1_batchOf_0 : cX1_batchOf.data.toList.drop 0 = dktX1_batchOf_0 := by decide +kernel
theorem dksX1_batchOf_1 : cX1_batchOf.data.toList.drop 16 = dktX1_batchOf_1 := dk_seg dksX1_batchOf_0 16 rfl rfl
theorem dksX1_batchOf_2 : cX1_batchOf.data.toList.drop 60 = dktX1_batchOf_2 := dk_seg dksX1_batchOf_1 44 rfl rfl
theorem dksX1_batchOf_3 : cX1_batchOf.data.toList.drop 84 = dktX1_batchOf_3 := dk_seg dksX1_batchOf_2 24 rfl rfl
theorem dX1_batchOf_0 : decode cX1_batchOf 0 = .ok (.aload_n 0, 1) := dk_42 (dk_at dksX1_batchOf_0 0 rfl rfl)
theorem dX1_batchOf_1 : decode cX1_batchOf 1 = .ok (.getfield 25, 3) := dk_180 0 25 (dk_at dksX1_batchOf_0 1 rfl rfl)
theorem dX1_batchOf_4 : decode cX1_batchOf 4 = .ok (.getfield 129, 3) := dk_180 0 129 (dk_at dksX1_batchOf_0 4 rfl rfl)
theorem dX1_batchOf_7 : decode cX1_batchOf 7 = .ok (.iload_n 1, 1) := dk_27 (dk_at dksX1_batchOf_0 7 rfl rfl)
theorem dX1_batchOf_8 : decode cX1_batchOf 8 = .ok (.invokevirtual 133, 3) := dk_182 0 133 (dk_at dksX1_batchOf_0 8 rfl rfl)
theorem dX1_batchOf_11 : decode cX1_batchOf 11 = .ok (.checkcast 139, 3) := dk_192 0 139 (dk_at dksX1_batchOf_0 11 rfl rfl)
theorem dX1_batchOf_14 : decode cX1_batchOf 14 = .ok (.astore_n 3, 1) := dk_78 (dk_at dksX1_batchOf_0 14 rfl rfl)
theorem dX1_batchOf_15 : decode cX1_batchOf 15 = .ok (.iload_n 2, 1) := dk_28 (dk_at dksX1_batchOf_0 15 rfl rfl)
theorem dX1_batchOf_16 : decode cX1_batchOf 16 = .ok (.tableswitch 79 0 6 #[44, 49, 54, 59, 64, 69, 74], 44) := by decide +kernel
theorem dX1_batchOf_60 : decode cX1_batchOf 60 = .ok (.aload_n 3, 1) := dk_45 (dk_at dksX1_batchOf_2 0 rfl rfl)
theorem dX1_batchOf_61 : decode cX1_batchOf 61 = .ok (.invokevirtual 141, 3) := dk_182 0 141 (dk_at dksX1_batchOf_2 1 rfl rfl)
theorem dX1_batchOf_64 : decode cX1_batchOf 64 = .ok (.ireturn, 1) := dk_172 (dk_at dksX1_batchOf_2 4 rfl rfl)
theorem dX1_batchOf_65 : decode cX1_batchOf 65 = .ok (.aload_n 3, 1) := dk_45 (dk_at dksX1_batchOf_2 5 rfl rfl)
theorem dX1_batchOf_66 : decode cX1_batchOf 66 = .ok (.getfield 144, 3) := dk_180 0 144 (dk_at dksX1_batchOf_2 6 rfl rfl)
theorem dX1_batchOf_69 : decode cX1_batchOf 69 = .ok (.ireturn, 1) := dk_172 (dk_at dksX1_batchOf_2 9 rfl rfl)
theorem dX1_batchOf_70 : decode cX1_batchOf 70 = .ok (.aload_n 3, 1) := dk_45 (dk_at dksX1_batchOf_2 10 rfl rfl)
theorem dX1_batchOf_71 : decode cX1_batchOf 71 = .ok (.getfield 147, 3) := dk_180 0 147 (dk_at dksX1_batchOf_2 11 rfl rfl)
theorem dX1_batchOf_74 : decode cX1_batchOf 74 = .ok (.ireturn, 1) := dk_172 (dk_at dksX1_batchOf_2 14 rfl rfl)
theorem dX1_batchOf_75 : decode cX1_batchOf 75 = .ok (.aload_n 3, 1) := dk_45 (dk_at dksX1_batchOf_2 15 rfl rfl)
theorem dX1_batchOf_76 : decode cX1_batchOf 76 = .ok (.getfield 150, 3) := dk_180 0 150 (dk_at dksX1_batchOf_2 16 rfl rfl)
theorem dX1_batchOf_79 : decode cX1_batchOf 79 = .ok (.ireturn, 1) := dk_172 (dk_at dksX1_batchOf_2 19 rfl rfl)
theorem dX1_batchOf_80 : decode cX1_batchOf 80 = .ok (.aload_n 3, 1) := dk_45 (dk_at dksX1_batchOf_2 20 rfl rfl)
theorem dX1_batchOf_81 : decode cX1_batchOf 81 = .ok (.getfield 153, 3) := dk_180 0 153 (dk_at dksX1_batchOf_2 21 rfl rfl)
theorem dX1_batchOf_84 : decode cX1_batchOf 84 = .ok (.ireturn, 1) := dk_172 (dk_at dksX1_batchOf_3 0 rfl rfl)
theorem dX1_batchOf_85 : decode cX1_batchOf 85 = .ok (.aload_n 3, 1) := dk_45 (dk_at dksX1_batchOf_3 1 rfl rfl)
theorem dX1_batchOf_86 : decode cX1_batchOf 86 = .ok (.getfield 156, 3) := dk_180 0 156 (dk_at dksX1_batchOf_3 2 rfl rfl)
theorem dX1_batchOf_89 : decode cX1_batchOf 89 = .ok (.ireturn, 1) := dk_172 (dk_at dksX1_batchOf_3 5 rfl rfl)
theorem dX1_batchOf_90 : decode cX1_batchOf 90 = .ok (.aload_n 3, 1) := dk_45 (dk_at dksX1_batchOf_3 6 rfl rfl)
theorem dX1_batchOf_91 : decode cX1_batchOf 91 = .ok (.getfield 159, 3) := dk_180 0 159 (dk_at dksX1_batchOf_3 7 rfl rfl)
theorem dX1_batchOf_94 : decode cX1_batchOf 94 = .ok (.ireturn, 1) := dk_172 (dk_at dksX1_batchOf_3 10 rfl rfl)
theorem dX1_batchOf_95 : decode cX1_batchOf 95 = .ok (.new 1, 3) := dk_187 0 1 (dk_at dksX1_batchOf_3 11 rfl rfl)
theorem dX1_batchOf_98 : decode cX1_batchOf 98 = .ok (.dup, 1) := dk_89 (dk_at dksX1_batchOf_3 14 rfl rfl)
theorem dX1_batchOf_99 : decode cX1_batchOf 99 = .ok (.invokespecial 3, 3) := dk_183 0 3 (dk_at dksX1_batchOf_3 15 rfl rfl)
theorem dX1_batchOf_102 : decode cX1_batchOf 102 = .ok (.athrow, 1) := dk_191 (dk_at dksX1_batchOf_3 18 rfl rfl)
abbrev cX1_jar : ByteArray := prog_1_method_18_code
def yX1_jar : MethodName := ⟨RX1, "jar", "(II)I"⟩
def dkwX1_jar_0 : List UInt8 := [42, 18, 160, 5, 188, 10, 89, 3, 27, 79, 89, 4, 28, 79, 182, 0, 101, 172]
abbrev dktX1_jar_0 : List UInt8 := dkwX1_jar_0 ++ []
theorem dksX1_jar_0 : cX1_jar.data.toList.drop 0 = dktX1_jar_0 := by decide +kernel
theorem dX1_jar_0 : decode cX1_jar 0 = .ok (.aload_n 0, 1) := dk_42 (dk_at dksX1_jar_0 0 rfl rfl)
theorem dX1_jar_1 : decode cX1_jar 1 = .ok (.ldc 160, 2) := dk_18 160 (dk_at dksX1_jar_0 1 rfl rfl)
theorem dX1_jar_3 : decode cX1_jar 3 = .ok (.iconst 2, 1) := dk_5 (dk_at dksX1_jar_0 3 rfl rfl)
theorem dX1_jar_4 : decode cX1_jar 4 = .ok (.newarray .int, 2) := dk_188_10 (dk_at dksX1_jar_0 4 rfl rfl)
theorem dX1_jar_6 : decode cX1_jar 6 = .ok (.dup, 1) := dk_89 (dk_at dksX1_jar_0 6 rfl rfl)
theorem dX1_jar_7 : decode cX1_jar 7 = .ok (.iconst 0, 1) := dk_3 (dk_at dksX1_jar_0 7 rfl rfl)
theorem dX1_jar_8 : decode cX1_jar 8 = .ok (.iload_n 1, 1) := dk_27 (dk_at dksX1_jar_0 8 rfl rfl)
theorem dX1_jar_9 : decode cX1_jar 9 = .ok (.iastore, 1) := dk_79 (dk_at dksX1_jar_0 9 rfl rfl)
theorem dX1_jar_10 : decode cX1_jar 10 = .ok (.dup, 1) := dk_89 (dk_at dksX1_jar_0 10 rfl rfl)
theorem dX1_jar_11 : decode cX1_jar 11 = .ok (.iconst 1, 1) := dk_4 (dk_at dksX1_jar_0 11 rfl rfl)
theorem dX1_jar_12 : decode cX1_jar 12 = .ok (.iload_n 2, 1) := dk_28 (dk_at dksX1_jar_0 12 rfl rfl)
theorem dX1_jar_13 : decode cX1_jar 13 = .ok (.iastore, 1) := dk_79 (dk_at dksX1_jar_0 13 rfl rfl)
theorem dX1_jar_14 : decode cX1_jar 14 = .ok (.invokevirtual 101, 3) := dk_182 0 101 (dk_at dksX1_jar_0 14 rfl rfl)
theorem dX1_jar_17 : decode cX1_jar 17 = .ok (.ireturn, 1) := dk_172 (dk_at dksX1_jar_0 17 rfl rfl)
abbrev cX1_open : ByteArray := prog_1_method_19_code
def yX1_open : MethodName := ⟨RX1, "open", "(I)I"⟩
def dkwX1_open_0 : List UInt8 := [42, 18, 162, 4, 188, 10, 89, 3, 27, 79, 182, 0, 101, 172]
abbrev dktX1_open_0 : List UInt8 := dkwX1_open_0 ++ []
theorem dksX1_open_0 : cX1_open.data.toList.drop 0 = dktX1_open_0 := by decide +kernel
theorem dX1_open_0 : decode cX1_open 0 = .ok (.aload_n 0, 1) := dk_42 (dk_at dksX1_open_0 0 rfl rfl)
theorem dX1_open_1 : decode cX1_open 1 = .ok (.ldc 162, 2) := dk_18 162 (dk_at dksX1_open_0 1 rfl rfl)
theorem dX1_open_3 : decode cX1_open 3 = .ok (.iconst 1, 1) := dk_4 (dk_at dksX1_open_0 3 rfl rfl)
theorem dX1_open_4 : decode cX1_open 4 = .ok (.newarray .int, 2) := dk_188_10 (dk_at dksX1_open_0 4 rfl rfl)
theorem dX1_open_6 : decode cX1_open 6 = .ok (.dup, 1) := dk_89 (dk_at dksX1_open_0 6 rfl rfl)
theorem dX1_open_7 : decode cX1_open 7 = .ok (.iconst 0, 1) := dk_3 (dk_at dksX1_open_0 7 rfl rfl)
theorem dX1_open_8 : decode cX1_open 8 = .ok (.iload_n 1, 1) := dk_27 (dk_at dksX1_open_0 8 rfl rfl)
theorem dX1_open_9 : decode cX1_open 9 = .ok (.iastore, 1) := dk_79 (dk_at dksX1_open_0 9 rfl rfl)
theorem dX1_open_10 : decode cX1_open 10 = .ok (.invokevirtual 101, 3) := dk_182 0 101 (dk_at dksX1_open_0 10 rfl rfl)
theorem dX1_open_13 : decode cX1_open 13 = .ok (.ireturn, 1) := dk_172 (dk_at dksX1_open_0 13 rfl rfl)
abbrev cX1_sell : ByteArray := prog_1_method_20_code
def yX1_sell : MethodName := ⟨RX1, "sell", "(I)I"⟩
def dkwX1_sell_0 : List UInt8 := [42, 18, 164, 4, 188, 10, 89, 3, 27, 79, 182, 0, 101, 172]
abbrev dktX1_sell_0 : List UInt8 := dkwX1_sell_0 ++ []
theorem dksX1_sell_0 : cX1_sell.data.toList.drop 0 = dktX1_sell_0 := by decide +kernel
theorem dX1_sell_0 : decode cX1_sell 0 = .ok (.aload_n 0, 1) := dk_42 (dk_at dksX1_sell_0 0 rfl rfl)
theorem dX1_sell_1 : decode cX1_sell 1 = .ok (.ldc 164, 2) := dk_18 164 (dk_at dksX1_sell_0 1 rfl rfl)
theorem dX1_sell_3 : decode cX1_sell 3 = .ok (.iconst 1, 1) := dk_4 (dk_at dksX1_sell_0 3 rfl rfl)
theorem dX1_sell_4 : decode cX1_sell 4 = .ok (.newarray .int, 2) := dk_188_10 (dk_at dksX1_sell_0 4 rfl rfl)
theorem dX1_sell_6 : decode cX1_sell 6 = .ok (.dup, 1) := dk_89 (dk_at dksX1_sell_0 6 rfl rfl)
theorem dX1_sell_7 : decode cX1_sell 7 = .ok (.iconst 0, 1) := dk_3 (dk_at dksX1_sell_0 7 rfl rfl)
theorem dX1_sell_8 : decode cX1_sell 8 = .ok (.iload_n 1, 1) := dk_27 (dk_at dksX1_sell_0 8 rfl rfl)
theorem dX1_sell_9 : decode cX1_sell 9 = .ok (.iastore, 1) := dk_79 (dk_at dksX1_sell_0 9 rfl rfl)
theorem dX1_sell_10 : decode cX1_sell 10 = .ok (.invokevirtual 101, 3) := dk_182 0 101 (dk_at dksX1_sell_0 10 rfl rfl)
theorem dX1_sell_13 : decode cX1_sell 13 = .ok (.ireturn, 1) := dk_172 (dk_at dksX1_sell_0 13 rfl rfl)
abbrev cX1_jarOf : ByteArray := prog_1_method_21_code
def yX1_jarOf : MethodName := ⟨RX1, "jarOf", "(II)I"⟩
def dkwX1_jarOf_3 : List UInt8 := [172, 187, 0, 1, 89, 183, 0, 3, 191]
abbrev dktX1_jarOf_3 : List UInt8 := dkwX1_jarOf_3 ++ []
def dkwX1_jarOf_2 : List UInt8 := [45, 182, 0, 170, 172, 45, 180, 0, 171, 172, 45, 180, 0, 174, 172, 45, 182, 0, 177, 172, 45, 182, 0, 180]
abbrev dktX1_jarOf_2 : List UInt8 := dkwX1_jarOf_2 ++ dktX1_jarOf_3
def dkwX1_jarOf_1 : List UInt8 := [170, 0, 0, 0, 0, 0, 0, 61, 0, 0, 0, 0, 0, 0, 0, 4, 0, 0, 0, 36, 0, 0, 0, 41, 0, 0, 0, 46, 0, 0, 0, 51, 0, 0, 0, 56]
abbrev dktX1_jarOf_1 : List UInt8 := dkwX1_jarOf_1 ++ dktX1_jarOf_2
def dkwX1_jarOf_0 : List UInt8 := [42, 180, 0, 25, 180, 0, 166, 27, 182, 0, 133, 192, 0, 168, 78, 28]
abbrev dktX1_jarOf_0 : List UInt8 := dkwX1_jarOf_0 ++ dktX1_jarOf_1
theorem dksX1_jarOf_0 : cX1_jarOf.data.toList.drop 0 = dktX1_jarOf_0 := by decide +kernel
theorem dksX1_jarOf_1 : cX1_jarOf.data.toList.drop 16 = dktX1_jarOf_1 := dk_seg dksX1_jarOf_0 16 rfl rfl
theorem dksX1_jarOf_2 : cX1_jarOf.data.toList.drop 52 = dktX1_jarOf_2 := dk_seg dksX1_jarOf_1 36 rfl rfl
theorem dksX1_jarOf_3 : cX1_jarOf.data.toList.drop 76 = dktX1_jarOf_3 := dk_seg dksX1_jarOf_2 24 rfl rfl
theorem dX1_jarOf_0 : decode cX1_jarOf 0 = .ok (.aload_n 0, 1) := dk_42 (dk_at dksX1_jarOf_0 0 rfl rfl)
theorem dX1_jarOf_1 : decode cX1_jarOf 1 = .ok (.getfield 25, 3) := dk_180 0 25 (dk_at dksX1_jarOf_0 1 rfl rfl)
theorem dX1_jarOf_4 : decode cX1_jarOf 4 = .ok (.getfield 166, 3) := dk_180 0 166 (dk_at dksX1_jarOf_0 4 rfl rfl)
theorem dX1_jarOf_7 : decode cX1_jarOf 7 = .ok (.iload_n 1, 1) := dk_27 (dk_at dksX1_jarOf_0 7 rfl rfl)
theorem dX1_jarOf_8 : decode cX1_jarOf 8 = .ok (.invokevirtual 133, 3) := dk_182 0 133 (dk_at dksX1_jarOf_0 8 rfl rfl)
theorem dX1_jarOf_11 : decode cX1_jarOf 11 = .ok (.checkcast 168, 3) := dk_192 0 168 (dk_at dksX1_jarOf_0 11 rfl rfl)
theorem dX1_jarOf_14 : decode cX1_jarOf 14 = .ok (.astore_n 3, 1) := dk_78 (dk_at dksX1_jarOf_0 14 rfl rfl)
theorem dX1_jarOf_15 : decode cX1_jarOf 15 = .ok (.iload_n 2, 1) := dk_28 (dk_at dksX1_jarOf_0 15 rfl rfl)
theorem dX1_jarOf_16 : decode cX1_jarOf 16 = .ok (.tableswitch 61 0 4 #[36, 41, 46, 51, 56], 36) := by decide +kernel
theorem dX1_jarOf_52 : decode cX1_jarOf 52 = .ok (.aload_n 3, 1) := dk_45 (dk_at dksX1_jarOf_2 0 rfl rfl)
theorem dX1_jarOf_53 : decode cX1_jarOf 53 = .ok (.invokevirtual 170, 3) := dk_182 0 170 (dk_at dksX1_jarOf_2 1 rfl rfl)
theorem dX1_jarOf_56 : decode cX1_jarOf 56 = .ok (.ireturn, 1) := dk_172 (dk_at dksX1_jarOf_2 4 rfl rfl)
theorem dX1_jarOf_57 : decode cX1_jarOf 57 = .ok (.aload_n 3, 1) := dk_45 (dk_at dksX1_jarOf_2 5 rfl rfl)
theorem dX1_jarOf_58 : decode cX1_jarOf 58 = .ok (.getfield 171, 3) := dk_180 0 171 (dk_at dksX1_jarOf_2 6 rfl rfl)
theorem dX1_jarOf_61 : decode cX1_jarOf 61 = .ok (.ireturn, 1) := dk_172 (dk_at dksX1_jarOf_2 9 rfl rfl)
theorem dX1_jarOf_62 : decode cX1_jarOf 62 = .ok (.aload_n 3, 1) := dk_45 (dk_at dksX1_jarOf_2 10 rfl rfl)
theorem dX1_jarOf_63 : decode cX1_jarOf 63 = .ok (.getfield 174, 3) := dk_180 0 174 (dk_at dksX1_jarOf_2 11 rfl rfl)
theorem dX1_jarOf_66 : decode cX1_jarOf 66 = .ok (.ireturn, 1) := dk_172 (dk_at dksX1_jarOf_2 14 rfl rfl)
theorem dX1_jarOf_67 : decode cX1_jarOf 67 = .ok (.aload_n 3, 1) := dk_45 (dk_at dksX1_jarOf_2 15 rfl rfl)
theorem dX1_jarOf_68 : decode cX1_jarOf 68 = .ok (.invokevirtual 177, 3) := dk_182 0 177 (dk_at dksX1_jarOf_2 16 rfl rfl)
theorem dX1_jarOf_71 : decode cX1_jarOf 71 = .ok (.ireturn, 1) := dk_172 (dk_at dksX1_jarOf_2 19 rfl rfl)
theorem dX1_jarOf_72 : decode cX1_jarOf 72 = .ok (.aload_n 3, 1) := dk_45 (dk_at dksX1_jarOf_2 20 rfl rfl)
theorem dX1_jarOf_73 : decode cX1_jarOf 73 = .ok (.invokevirtual 180, 3) := dk_182 0 180 (dk_at dksX1_jarOf_2 21 rfl rfl)
theorem dX1_jarOf_76 : decode cX1_jarOf 76 = .ok (.ireturn, 1) := dk_172 (dk_at dksX1_jarOf_3 0 rfl rfl)
theorem dX1_jarOf_77 : decode cX1_jarOf 77 = .ok (.new 1, 3) := dk_187 0 1 (dk_at dksX1_jarOf_3 1 rfl rfl)
theorem dX1_jarOf_80 : decode cX1_jarOf 80 = .ok (.dup, 1) := dk_89 (dk_at dksX1_jarOf_3 4 rfl rfl)
theorem dX1_jarOf_81 : decode cX1_jarOf 81 = .ok (.invokespecial 3, 3) := dk_183 0 3 (dk_at dksX1_jarOf_3 5 rfl rfl)
theorem dX1_jarOf_84 : decode cX1_jarOf 84 = .ok (.athrow, 1) := dk_191 (dk_at dksX1_jarOf_3 8 rfl rfl)
abbrev cX1_tearBehind : ByteArray := prog_1_method_22_code
def yX1_tearBehind : MethodName := ⟨RX1, "tearBehind", "(IIZ)I"⟩
def dkwX1_tearBehind_2 : List UInt8 := [153, 0, 12, 25, 4, 28, 182, 0, 200, 167, 0, 9, 25, 4, 28, 182, 0, 204, 172]
abbrev dktX1_tearBehind_2 : List UInt8 := dkwX1_tearBehind_2 ++ []
def dkwX1_tearBehind_1 : List UInt8 := [184, 0, 185, 184, 0, 189, 25, 4, 3, 182, 0, 193, 154, 0, 7, 4, 167, 0, 4, 3, 184, 0, 197, 29]
abbrev dktX1_tearBehind_1 : List UInt8 := dkwX1_tearBehind_1 ++ dktX1_tearBehind_2
def dkwX1_tearBehind_0 : List UInt8 := [42, 180, 0, 25, 180, 0, 129, 27, 182, 0, 133, 192, 0, 139, 58, 4, 28, 133, 9, 20, 0, 183]
abbrev dktX1_tearBehind_0 : List UInt8 := dkwX1_tearBehind_0 ++ dktX1_tearBehind_1
theorem dksX1_tearBehind_0 : cX1_tearBehind.data.toList.drop 0 = dktX1_tearBehind_0 := by decide +kernel
theorem dksX1_tearBehind_1 : cX1_tearBehind.data.toList.drop 22 = dktX1_tearBehind_1 := dk_seg dksX1_tearBehind_0 22 rfl rfl
theorem dksX1_tearBehind_2 : cX1_tearBehind.data.toList.drop 46 = dktX1_tearBehind_2 := dk_seg dksX1_tearBehind_1 24 rfl rfl
theorem dX1_tearBehind_0 : decode cX1_tearBehind 0 = .ok (.aload_n 0, 1) := dk_42 (dk_at dksX1_tearBehind_0 0 rfl rfl)
theorem dX1_tearBehind_1 : decode cX1_tearBehind 1 = .ok (.getfield 25, 3) := dk_180 0 25 (dk_at dksX1_tearBehind_0 1 rfl rfl)
theorem dX1_tearBehind_4 : decode cX1_tearBehind 4 = .ok (.getfield 129, 3) := dk_180 0 129 (dk_at dksX1_tearBehind_0 4 rfl rfl)
theorem dX1_tearBehind_7 : decode cX1_tearBehind 7 = .ok (.iload_n 1, 1) := dk_27 (dk_at dksX1_tearBehind_0 7 rfl rfl)
theorem dX1_tearBehind_8 : decode cX1_tearBehind 8 = .ok (.invokevirtual 133, 3) := dk_182 0 133 (dk_at dksX1_tearBehind_0 8 rfl rfl)
theorem dX1_tearBehind_11 : decode cX1_tearBehind 11 = .ok (.checkcast 139, 3) := dk_192 0 139 (dk_at dksX1_tearBehind_0 11 rfl rfl)
theorem dX1_tearBehind_14 : decode cX1_tearBehind 14 = .ok (.astore 4, 2) := dk_58 4 (dk_at dksX1_tearBehind_0 14 rfl rfl)
theorem dX1_tearBehind_16 : decode cX1_tearBehind 16 = .ok (.iload_n 2, 1) := dk_28 (dk_at dksX1_tearBehind_0 16 rfl rfl)
theorem dX1_tearBehind_17 : decode cX1_tearBehind 17 = .ok (.i2l, 1) := dk_133 (dk_at dksX1_tearBehind_0 17 rfl rfl)
theorem dX1_tearBehind_18 : decode cX1_tearBehind 18 = .ok (.lconst 0, 1) := dk_9 (dk_at dksX1_tearBehind_0 18 rfl rfl)
theorem dX1_tearBehind_19 : decode cX1_tearBehind 19 = .ok (.ldc2_w 183, 3) := dk_20 0 183 (dk_at dksX1_tearBehind_0 19 rfl rfl)
theorem dX1_tearBehind_22 : decode cX1_tearBehind 22 = .ok (.invokestatic 185, 3) := dk_184 0 185 (dk_at dksX1_tearBehind_1 0 rfl rfl)
theorem dX1_tearBehind_25 : decode cX1_tearBehind 25 = .ok (.invokestatic 189, 3) := dk_184 0 189 (dk_at dksX1_tearBehind_1 3 rfl rfl)
theorem dX1_tearBehind_28 : decode cX1_tearBehind 28 = .ok (.aload 4, 2) := dk_25 4 (dk_at dksX1_tearBehind_1 6 rfl rfl)
theorem dX1_tearBehind_30 : decode cX1_tearBehind 30 = .ok (.iconst 0, 1) := dk_3 (dk_at dksX1_tearBehind_1 8 rfl rfl)
theorem dX1_tearBehind_31 : decode cX1_tearBehind 31 = .ok (.invokevirtual 193, 3) := dk_182 0 193 (dk_at dksX1_tearBehind_1 9 rfl rfl)
theorem dX1_tearBehind_34 : decode cX1_tearBehind 34 = .ok (.ifCond .ne 7, 3) := dk_154 0 7 (dk_at dksX1_tearBehind_1 12 rfl rfl)
theorem dX1_tearBehind_37 : decode cX1_tearBehind 37 = .ok (.iconst 1, 1) := dk_4 (dk_at dksX1_tearBehind_1 15 rfl rfl)
theorem dX1_tearBehind_38 : decode cX1_tearBehind 38 = .ok (.goto 4, 3) := dk_167 0 4 (dk_at dksX1_tearBehind_1 16 rfl rfl)
theorem dX1_tearBehind_41 : decode cX1_tearBehind 41 = .ok (.iconst 0, 1) := dk_3 (dk_at dksX1_tearBehind_1 19 rfl rfl)
theorem dX1_tearBehind_42 : decode cX1_tearBehind 42 = .ok (.invokestatic 197, 3) := dk_184 0 197 (dk_at dksX1_tearBehind_1 20 rfl rfl)
theorem dX1_tearBehind_45 : decode cX1_tearBehind 45 = .ok (.iload_n 3, 1) := dk_29 (dk_at dksX1_tearBehind_1 23 rfl rfl)
theorem dX1_tearBehind_46 : decode cX1_tearBehind 46 = .ok (.ifCond .eq 12, 3) := dk_153 0 12 (dk_at dksX1_tearBehind_2 0 rfl rfl)
theorem dX1_tearBehind_49 : decode cX1_tearBehind 49 = .ok (.aload 4, 2) := dk_25 4 (dk_at dksX1_tearBehind_2 3 rfl rfl)
theorem dX1_tearBehind_51 : decode cX1_tearBehind 51 = .ok (.iload_n 2, 1) := dk_28 (dk_at dksX1_tearBehind_2 5 rfl rfl)
theorem dX1_tearBehind_52 : decode cX1_tearBehind 52 = .ok (.invokevirtual 200, 3) := dk_182 0 200 (dk_at dksX1_tearBehind_2 6 rfl rfl)
theorem dX1_tearBehind_55 : decode cX1_tearBehind 55 = .ok (.goto 9, 3) := dk_167 0 9 (dk_at dksX1_tearBehind_2 9 rfl rfl)
theorem dX1_tearBehind_58 : decode cX1_tearBehind 58 = .ok (.aload 4, 2) := dk_25 4 (dk_at dksX1_tearBehind_2 12 rfl rfl)
theorem dX1_tearBehind_60 : decode cX1_tearBehind 60 = .ok (.iload_n 2, 1) := dk_28 (dk_at dksX1_tearBehind_2 14 rfl rfl)
theorem dX1_tearBehind_61 : decode cX1_tearBehind 61 = .ok (.invokevirtual 204, 3) := dk_182 0 204 (dk_at dksX1_tearBehind_2 15 rfl rfl)
theorem dX1_tearBehind_64 : decode cX1_tearBehind 64 = .ok (.ireturn, 1) := dk_172 (dk_at dksX1_tearBehind_2 18 rfl rfl)
abbrev cX1_checkState : ByteArray := prog_1_method_4_code
def yX1_checkState : MethodName := ⟨RX1, "checkState", "(Z)V"⟩
def dkwX1_checkState_0 : List UInt8 := [26, 154, 0, 11, 187, 0, 10, 89, 183, 0, 12, 191, 177]
abbrev dktX1_checkState_0 : List UInt8 := dkwX1_checkState_0 ++ []
theorem dksX1_checkState_0 : cX1_checkState.data.toList.drop 0 = dktX1_checkState_0 := by decide +kernel
theorem dX1_checkState_0 : decode cX1_checkState 0 = .ok (.iload_n 0, 1) := dk_26 (dk_at dksX1_checkState_0 0 rfl rfl)
theorem dX1_checkState_1 : decode cX1_checkState 1 = .ok (.ifCond .ne 11, 3) := dk_154 0 11 (dk_at dksX1_checkState_0 1 rfl rfl)
theorem dX1_checkState_4 : decode cX1_checkState 4 = .ok (.new 10, 3) := dk_187 0 10 (dk_at dksX1_checkState_0 4 rfl rfl)
theorem dX1_checkState_7 : decode cX1_checkState 7 = .ok (.dup, 1) := dk_89 (dk_at dksX1_checkState_0 7 rfl rfl)
theorem dX1_checkState_8 : decode cX1_checkState 8 = .ok (.invokespecial 12, 3) := dk_183 0 12 (dk_at dksX1_checkState_0 8 rfl rfl)
theorem dX1_checkState_11 : decode cX1_checkState 11 = .ok (.athrow, 1) := dk_191 (dk_at dksX1_checkState_0 11 rfl rfl)
theorem dX1_checkState_12 : decode cX1_checkState 12 = .ok (.return_, 1) := dk_177 (dk_at dksX1_checkState_0 12 rfl rfl)
abbrev cX1_strongest : ByteArray := prog_1_method_24_code
def yX1_strongest : MethodName := ⟨RX1, "strongest", "(I)I"⟩
def dkwX1_strongest_0 : List UInt8 := [42, 180, 0, 25, 27, 182, 0, 214, 184, 0, 218, 172]
abbrev dktX1_strongest_0 : List UInt8 := dkwX1_strongest_0 ++ []
theorem dksX1_strongest_0 : cX1_strongest.data.toList.drop 0 = dktX1_strongest_0 := by decide +kernel
theorem dX1_strongest_0 : decode cX1_strongest 0 = .ok (.aload_n 0, 1) := dk_42 (dk_at dksX1_strongest_0 0 rfl rfl)
theorem dX1_strongest_1 : decode cX1_strongest 1 = .ok (.getfield 25, 3) := dk_180 0 25 (dk_at dksX1_strongest_0 1 rfl rfl)
theorem dX1_strongest_4 : decode cX1_strongest 4 = .ok (.iload_n 1, 1) := dk_27 (dk_at dksX1_strongest_0 4 rfl rfl)
theorem dX1_strongest_5 : decode cX1_strongest 5 = .ok (.invokevirtual 214, 3) := dk_182 0 214 (dk_at dksX1_strongest_0 5 rfl rfl)
theorem dX1_strongest_8 : decode cX1_strongest 8 = .ok (.invokestatic 218, 3) := dk_184 0 218 (dk_at dksX1_strongest_0 8 rfl rfl)
theorem dX1_strongest_11 : decode cX1_strongest 11 = .ok (.ireturn, 1) := dk_172 (dk_at dksX1_strongest_0 11 rfl rfl)
abbrev cX1_numberOf : ByteArray := prog_1_method_23_code
def yX1_numberOf : MethodName := ⟨RX1, "numberOf", "(LMustardMill$Thing;)I"⟩
def dkwX1_numberOf_0 : List UInt8 := [42, 198, 0, 7, 4, 167, 0, 4, 3, 184, 0, 206, 42, 182, 0, 209, 172]
abbrev dktX1_numberOf_0 : List UInt8 := dkwX1_numberOf_0 ++ []
theorem dksX1_numberOf_0 : cX1_numberOf.data.toList.drop 0 = dktX1_numberOf_0 := by decide +kernel
theorem dX1_numberOf_0 : decode cX1_numberOf 0 = .ok (.aload_n 0, 1) := dk_42 (dk_at dksX1_numberOf_0 0 rfl rfl)
theorem dX1_numberOf_1 : decode cX1_numberOf 1 = .ok (.ifnull 7, 3) := dk_198 0 7 (dk_at dksX1_numberOf_0 1 rfl rfl)
theorem dX1_numberOf_4 : decode cX1_numberOf 4 = .ok (.iconst 1, 1) := dk_4 (dk_at dksX1_numberOf_0 4 rfl rfl)
theorem dX1_numberOf_5 : decode cX1_numberOf 5 = .ok (.goto 4, 3) := dk_167 0 4 (dk_at dksX1_numberOf_0 5 rfl rfl)
theorem dX1_numberOf_8 : decode cX1_numberOf 8 = .ok (.iconst 0, 1) := dk_3 (dk_at dksX1_numberOf_0 8 rfl rfl)
theorem dX1_numberOf_9 : decode cX1_numberOf 9 = .ok (.invokestatic 206, 3) := dk_184 0 206 (dk_at dksX1_numberOf_0 9 rfl rfl)
theorem dX1_numberOf_12 : decode cX1_numberOf 12 = .ok (.aload_n 0, 1) := dk_42 (dk_at dksX1_numberOf_0 12 rfl rfl)
theorem dX1_numberOf_13 : decode cX1_numberOf 13 = .ok (.invokevirtual 209, 3) := dk_182 0 209 (dk_at dksX1_numberOf_0 13 rfl rfl)
theorem dX1_numberOf_16 : decode cX1_numberOf 16 = .ok (.ireturn, 1) := dk_172 (dk_at dksX1_numberOf_0 16 rfl rfl)
abbrev cX1_checkElement : ByteArray := prog_1_method_5_code
def yX1_checkElement : MethodName := ⟨RX1, "checkElement", "(Z)V"⟩
def dkwX1_checkElement_0 : List UInt8 := [26, 154, 0, 11, 187, 0, 13, 89, 183, 0, 15, 191, 177]
abbrev dktX1_checkElement_0 : List UInt8 := dkwX1_checkElement_0 ++ []
theorem dksX1_checkElement_0 : cX1_checkElement.data.toList.drop 0 = dktX1_checkElement_0 := by decide +kernel
theorem dX1_checkElement_0 : decode cX1_checkElement 0 = .ok (.iload_n 0, 1) := dk_26 (dk_at dksX1_checkElement_0 0 rfl rfl)
theorem dX1_checkElement_1 : decode cX1_checkElement 1 = .ok (.ifCond .ne 11, 3) := dk_154 0 11 (dk_at dksX1_checkElement_0 1 rfl rfl)
theorem dX1_checkElement_4 : decode cX1_checkElement 4 = .ok (.new 13, 3) := dk_187 0 13 (dk_at dksX1_checkElement_0 4 rfl rfl)
theorem dX1_checkElement_7 : decode cX1_checkElement 7 = .ok (.dup, 1) := dk_89 (dk_at dksX1_checkElement_0 7 rfl rfl)
theorem dX1_checkElement_8 : decode cX1_checkElement 8 = .ok (.invokespecial 15, 3) := dk_183 0 15 (dk_at dksX1_checkElement_0 8 rfl rfl)
theorem dX1_checkElement_11 : decode cX1_checkElement 11 = .ok (.athrow, 1) := dk_191 (dk_at dksX1_checkElement_0 11 rfl rfl)
theorem dX1_checkElement_12 : decode cX1_checkElement 12 = .ok (.return_, 1) := dk_177 (dk_at dksX1_checkElement_0 12 rfl rfl)
abbrev cX1_order : ByteArray := prog_1_method_25_code
def yX1_order : MethodName := ⟨RX1, "order", "(II)I"⟩
def dkwX1_order_0 : List UInt8 := [42, 18, 222, 5, 188, 10, 89, 3, 27, 79, 89, 4, 28, 79, 182, 0, 101, 172]
abbrev dktX1_order_0 : List UInt8 := dkwX1_order_0 ++ []
theorem dksX1_order_0 : cX1_order.data.toList.drop 0 = dktX1_order_0 := by decide +kernel
theorem dX1_order_0 : decode cX1_order 0 = .ok (.aload_n 0, 1) := dk_42 (dk_at dksX1_order_0 0 rfl rfl)
theorem dX1_order_1 : decode cX1_order 1 = .ok (.ldc 222, 2) := dk_18 222 (dk_at dksX1_order_0 1 rfl rfl)
theorem dX1_order_3 : decode cX1_order 3 = .ok (.iconst 2, 1) := dk_5 (dk_at dksX1_order_0 3 rfl rfl)
theorem dX1_order_4 : decode cX1_order 4 = .ok (.newarray .int, 2) := dk_188_10 (dk_at dksX1_order_0 4 rfl rfl)
theorem dX1_order_6 : decode cX1_order 6 = .ok (.dup, 1) := dk_89 (dk_at dksX1_order_0 6 rfl rfl)
theorem dX1_order_7 : decode cX1_order 7 = .ok (.iconst 0, 1) := dk_3 (dk_at dksX1_order_0 7 rfl rfl)
theorem dX1_order_8 : decode cX1_order 8 = .ok (.iload_n 1, 1) := dk_27 (dk_at dksX1_order_0 8 rfl rfl)
theorem dX1_order_9 : decode cX1_order 9 = .ok (.iastore, 1) := dk_79 (dk_at dksX1_order_0 9 rfl rfl)
theorem dX1_order_10 : decode cX1_order 10 = .ok (.dup, 1) := dk_89 (dk_at dksX1_order_0 10 rfl rfl)
theorem dX1_order_11 : decode cX1_order 11 = .ok (.iconst 1, 1) := dk_4 (dk_at dksX1_order_0 11 rfl rfl)
theorem dX1_order_12 : decode cX1_order 12 = .ok (.iload_n 2, 1) := dk_28 (dk_at dksX1_order_0 12 rfl rfl)
theorem dX1_order_13 : decode cX1_order 13 = .ok (.iastore, 1) := dk_79 (dk_at dksX1_order_0 13 rfl rfl)
theorem dX1_order_14 : decode cX1_order 14 = .ok (.invokevirtual 101, 3) := dk_182 0 101 (dk_at dksX1_order_0 14 rfl rfl)
theorem dX1_order_17 : decode cX1_order 17 = .ok (.ireturn, 1) := dk_172 (dk_at dksX1_order_0 17 rfl rfl)
abbrev cX1_serve : ByteArray := prog_1_method_26_code
def yX1_serve : MethodName := ⟨RX1, "serve", "(I)I"⟩
def dkwX1_serve_0 : List UInt8 := [42, 18, 224, 4, 188, 10, 89, 3, 27, 79, 182, 0, 101, 172]
abbrev dktX1_serve_0 : List UInt8 := dkwX1_serve_0 ++ []
theorem dksX1_serve_0 : cX1_serve.data.toList.drop 0 = dktX1_serve_0 := by decide +kernel
theorem dX1_serve_0 : decode cX1_serve 0 = .ok (.aload_n 0, 1) := dk_42 (dk_at dksX1_serve_0 0 rfl rfl)
theorem dX1_serve_1 : decode cX1_serve 1 = .ok (.ldc 224, 2) := dk_18 224 (dk_at dksX1_serve_0 1 rfl rfl)
theorem dX1_serve_3 : decode cX1_serve 3 = .ok (.iconst 1, 1) := dk_4 (dk_at dksX1_serve_0 3 rfl rfl)
theorem dX1_serve_4 : decode cX1_serve 4 = .ok (.newarray .int, 2) := dk_188_10 (dk_at dksX1_serve_0 4 rfl rfl)
theorem dX1_serve_6 : decode cX1_serve 6 = .ok (.dup, 1) := dk_89 (dk_at dksX1_serve_0 6 rfl rfl)
theorem dX1_serve_7 : decode cX1_serve 7 = .ok (.iconst 0, 1) := dk_3 (dk_at dksX1_serve_0 7 rfl rfl)
theorem dX1_serve_8 : decode cX1_serve 8 = .ok (.iload_n 1, 1) := dk_27 (dk_at dksX1_serve_0 8 rfl rfl)
theorem dX1_serve_9 : decode cX1_serve 9 = .ok (.iastore, 1) := dk_79 (dk_at dksX1_serve_0 9 rfl rfl)
theorem dX1_serve_10 : decode cX1_serve 10 = .ok (.invokevirtual 101, 3) := dk_182 0 101 (dk_at dksX1_serve_0 10 rfl rfl)
theorem dX1_serve_13 : decode cX1_serve 13 = .ok (.ireturn, 1) := dk_172 (dk_at dksX1_serve_0 13 rfl rfl)
abbrev cX1_orderOf : ByteArray := prog_1_method_27_code
def yX1_orderOf : MethodName := ⟨RX1, "orderOf", "(II)I"⟩
def dkwX1_orderOf_3 : List UInt8 := [183, 0, 3, 191]
abbrev dktX1_orderOf_3 : List UInt8 := dkwX1_orderOf_3 ++ []
def dkwX1_orderOf_2 : List UInt8 := [45, 180, 0, 231, 172, 45, 180, 0, 234, 172, 45, 182, 0, 237, 172, 45, 180, 0, 238, 172, 187, 0, 1, 89]
abbrev dktX1_orderOf_2 : List UInt8 := dkwX1_orderOf_2 ++ dktX1_orderOf_3
def dkwX1_orderOf_1 : List UInt8 := [170, 0, 0, 0, 0, 0, 0, 52, 0, 0, 0, 0, 0, 0, 0, 3, 0, 0, 0, 32, 0, 0, 0, 37, 0, 0, 0, 42, 0, 0, 0, 47]
abbrev dktX1_orderOf_1 : List UInt8 := dkwX1_orderOf_1 ++ dktX1_orderOf_2
def dkwX1_orderOf_0 : List UInt8 := [42, 180, 0, 25, 180, 0, 226, 27, 182, 0, 133, 192, 0, 229, 78, 28]
abbrev dktX1_orderOf_0 : List UInt8 := dkwX1_orderOf_0 ++ dktX1_orderOf_1
theorem dksX1_orderOf_0 : cX1_orderOf.data.toList.drop 0 = dktX1_orderOf_0 := by decide +kernel
theorem dksX1_orderOf_1 : cX1_orderOf.data.toList.drop 16 = dktX1_orderOf_1 := dk_seg dksX1_orderOf_0 16 rfl rfl
theorem dksX1_orderOf_2 : cX1_orderOf.data.toList.drop 48 = dktX1_orderOf_2 := dk_seg dksX1_orderOf_1 32 rfl rfl
theorem dksX1_orderOf_3 : cX1_orderOf.data.toList.drop 72 = dktX1_orderOf_3 := dk_seg dksX1_orderOf_2 24 rfl rfl
theorem dX1_orderOf_0 : decode cX1_orderOf 0 = .ok (.aload_n 0, 1) := dk_42 (dk_at dksX1_orderOf_0 0 rfl rfl)
theorem dX1_orderOf_1 : decode cX1_orderOf 1 = .ok (.getfield 25, 3) := dk_180 0 25 (dk_at dksX1_orderOf_0 1 rfl rfl)
theorem dX1_orderOf_4 : decode cX1_orderOf 4 = .ok (.getfield 226, 3) := dk_180 0 226 (dk_at dksX1_orderOf_0 4 rfl rfl)
theorem dX1_orderOf_7 : decode cX1_orderOf 7 = .ok (.iload_n 1, 1) := dk_27 (dk_at dksX1_orderOf_0 7 rfl rfl)
theorem dX1_orderOf_8 : decode cX1_orderOf 8 = .ok (.invokevirtual 133, 3) := dk_182 0 133 (dk_at dksX1_orderOf_0 8 rfl rfl)
theorem dX1_orderOf_11 : decode cX1_orderOf 11 = .ok (.checkcast 229, 3) := dk_192 0 229 (dk_at dksX1_orderOf_0 11 rfl rfl)
theorem dX1_orderOf_14 : decode cX1_orderOf 14 = .ok (.astore_n 3, 1) := dk_78 (dk_at dksX1_orderOf_0 14 rfl rfl)
theorem dX1_orderOf_15 : decode cX1_orderOf 15 = .ok (.iload_n 2, 1) := dk_28 (dk_at dksX1_orderOf_0 15 rfl rfl)
theorem dX1_orderOf_16 : decode cX1_orderOf 16 = .ok (.tableswitch 52 0 3 #[32, 37, 42, 47], 32) := by decide +kernel
theorem dX1_orderOf_48 : decode cX1_orderOf 48 = .ok (.aload_n 3, 1) := dk_45 (dk_at dksX1_orderOf_2 0 rfl rfl)
theorem dX1_orderOf_49 : decode cX1_orderOf 49 = .ok (.getfield 231, 3) := dk_180 0 231 (dk_at dksX1_orderOf_2 1 rfl rfl)
theorem dX1_orderOf_52 : decode cX1_orderOf 52 = .ok (.ireturn, 1) := dk_172 (dk_at dksX1_orderOf_2 4 rfl rfl)
theorem dX1_orderOf_53 : decode cX1_orderOf 53 = .ok (.aload_n 3, 1) := dk_45 (dk_at dksX1_orderOf_2 5 rfl rfl)
theorem dX1_orderOf_54 : decode cX1_orderOf 54 = .ok (.getfield 234, 3) := dk_180 0 234 (dk_at dksX1_orderOf_2 6 rfl rfl)
theorem dX1_orderOf_57 : decode cX1_orderOf 57 = .ok (.ireturn, 1) := dk_172 (dk_at dksX1_orderOf_2 9 rfl rfl)
theorem dX1_orderOf_58 : decode cX1_orderOf 58 = .ok (.aload_n 3, 1) := dk_45 (dk_at dksX1_orderOf_2 10 rfl rfl)
theorem dX1_orderOf_59 : decode cX1_orderOf 59 = .ok (.invokevirtual 237, 3) := dk_182 0 237 (dk_at dksX1_orderOf_2 11 rfl rfl)
theorem dX1_orderOf_62 : decode cX1_orderOf 62 = .ok (.ireturn, 1) := dk_172 (dk_at dksX1_orderOf_2 14 rfl rfl)
theorem dX1_orderOf_63 : decode cX1_orderOf 63 = .ok (.aload_n 3, 1) := dk_45 (dk_at dksX1_orderOf_2 15 rfl rfl)
theorem dX1_orderOf_64 : decode cX1_orderOf 64 = .ok (.getfield 238, 3) := dk_180 0 238 (dk_at dksX1_orderOf_2 16 rfl rfl)
theorem dX1_orderOf_67 : decode cX1_orderOf 67 = .ok (.ireturn, 1) := dk_172 (dk_at dksX1_orderOf_2 19 rfl rfl)
theorem dX1_orderOf_68 : decode cX1_orderOf 68 = .ok (.new 1, 3) := dk_187 0 1 (dk_at dksX1_orderOf_2 20 rfl rfl)
theorem dX1_orderOf_71 : decode cX1_orderOf 71 = .ok (.dup, 1) := dk_89 (dk_at dksX1_orderOf_2 23 rfl rfl)
theorem dX1_orderOf_72 : decode cX1_orderOf 72 = .ok (.invokespecial 3, 3) := dk_183 0 3 (dk_at dksX1_orderOf_3 0 rfl rfl)
theorem dX1_orderOf_75 : decode cX1_orderOf 75 = .ok (.athrow, 1) := dk_191 (dk_at dksX1_orderOf_3 3 rfl rfl)
abbrev cX1_servedIn : ByteArray := prog_1_method_28_code
def yX1_servedIn : MethodName := ⟨RX1, "servedIn", "(I)I"⟩
def dkwX1_servedIn_1 : List UInt8 := [180, 0, 25, 44, 182, 0, 241, 62, 29, 2, 159, 0, 7, 4, 167, 0, 4, 3, 184, 0, 206, 29, 172]
abbrev dktX1_servedIn_1 : List UInt8 := dkwX1_servedIn_1 ++ []
def dkwX1_servedIn_0 : List UInt8 := [42, 180, 0, 25, 180, 0, 226, 27, 182, 0, 133, 192, 0, 229, 77, 44, 3, 182, 0, 240, 184, 0, 197, 42]
abbrev dktX1_servedIn_0 : List UInt8 := dkwX1_servedIn_0 ++ dktX1_servedIn_1
theorem dksX1_servedIn_0 : cX1_servedIn.data.toList.drop 0 = dktX1_servedIn_0 := by decide +kernel
theorem dksX1_servedIn_1 : cX1_servedIn.data.toList.drop 24 = dktX1_servedIn_1 := dk_seg dksX1_servedIn_0 24 rfl rfl
theorem dX1_servedIn_0 : decode cX1_servedIn 0 = .ok (.aload_n 0, 1) := dk_42 (dk_at dksX1_servedIn_0 0 rfl rfl)
theorem dX1_servedIn_1 : decode cX1_servedIn 1 = .ok (.getfield 25, 3) := dk_180 0 25 (dk_at dksX1_servedIn_0 1 rfl rfl)
theorem dX1_servedIn_4 : decode cX1_servedIn 4 = .ok (.getfield 226, 3) := dk_180 0 226 (dk_at dksX1_servedIn_0 4 rfl rfl)
theorem dX1_servedIn_7 : decode cX1_servedIn 7 = .ok (.iload_n 1, 1) := dk_27 (dk_at dksX1_servedIn_0 7 rfl rfl)
theorem dX1_servedIn_8 : decode cX1_servedIn 8 = .ok (.invokevirtual 133, 3) := dk_182 0 133 (dk_at dksX1_servedIn_0 8 rfl rfl)
theorem dX1_servedIn_11 : decode cX1_servedIn 11 = .ok (.checkcast 229, 3) := dk_192 0 229 (dk_at dksX1_servedIn_0 11 rfl rfl)
theorem dX1_servedIn_14 : decode cX1_servedIn 14 = .ok (.astore_n 2, 1) := dk_77 (dk_at dksX1_servedIn_0 14 rfl rfl)
theorem dX1_servedIn_15 : decode cX1_servedIn 15 = .ok (.aload_n 2, 1) := dk_44 (dk_at dksX1_servedIn_0 15 rfl rfl)
theorem dX1_servedIn_16 : decode cX1_servedIn 16 = .ok (.iconst 0, 1) := dk_3 (dk_at dksX1_servedIn_0 16 rfl rfl)
theorem dX1_servedIn_17 : decode cX1_servedIn 17 = .ok (.invokevirtual 240, 3) := dk_182 0 240 (dk_at dksX1_servedIn_0 17 rfl rfl)
theorem dX1_servedIn_20 : decode cX1_servedIn 20 = .ok (.invokestatic 197, 3) := dk_184 0 197 (dk_at dksX1_servedIn_0 20 rfl rfl)
theorem dX1_servedIn_23 : decode cX1_servedIn 23 = .ok (.aload_n 0, 1) := dk_42 (dk_at dksX1_servedIn_0 23 rfl rfl)
theorem dX1_servedIn_24 : decode cX1_servedIn 24 = .ok (.getfield 25, 3) := dk_180 0 25 (dk_at dksX1_servedIn_1 0 rfl rfl)
theorem dX1_servedIn_27 : decode cX1_servedIn 27 = .ok (.aload_n 2, 1) := dk_44 (dk_at dksX1_servedIn_1 3 rfl rfl)
theorem dX1_servedIn_28 : decode cX1_servedIn 28 = .ok (.invokevirtual 241, 3) := dk_182 0 241 (dk_at dksX1_servedIn_1 4 rfl rfl)
theorem dX1_servedIn_31 : decode cX1_servedIn 31 = .ok (.istore_n 3, 1) := dk_62 (dk_at dksX1_servedIn_1 7 rfl rfl)
theorem dX1_servedIn_32 : decode cX1_servedIn 32 = .ok (.iload_n 3, 1) := dk_29 (dk_at dksX1_servedIn_1 8 rfl rfl)
theorem dX1_servedIn_33 : decode cX1_servedIn 33 = .ok (.iconst (-1), 1) := dk_2 (dk_at dksX1_servedIn_1 9 rfl rfl)
theorem dX1_servedIn_34 : decode cX1_servedIn 34 = .ok (.if_icmp .eq 7, 3) := dk_159 0 7 (dk_at dksX1_servedIn_1 10 rfl rfl)
theorem dX1_servedIn_37 : decode cX1_servedIn 37 = .ok (.iconst 1, 1) := dk_4 (dk_at dksX1_servedIn_1 13 rfl rfl)
theorem dX1_servedIn_38 : decode cX1_servedIn 38 = .ok (.goto 4, 3) := dk_167 0 4 (dk_at dksX1_servedIn_1 14 rfl rfl)
theorem dX1_servedIn_41 : decode cX1_servedIn 41 = .ok (.iconst 0, 1) := dk_3 (dk_at dksX1_servedIn_1 17 rfl rfl)
theorem dX1_servedIn_42 : decode cX1_servedIn 42 = .ok (.invokestatic 206, 3) := dk_184 0 206 (dk_at dksX1_servedIn_1 18 rfl rfl)
theorem dX1_servedIn_45 : decode cX1_servedIn 45 = .ok (.iload_n 3, 1) := dk_29 (dk_at dksX1_servedIn_1 21 rfl rfl)
theorem dX1_servedIn_46 : decode cX1_servedIn 46 = .ok (.ireturn, 1) := dk_172 (dk_at dksX1_servedIn_1 22 rfl rfl)
abbrev cX1_rest : ByteArray := prog_1_method_29_code
def yX1_rest : MethodName := ⟨RX1, "rest", "(I)I"⟩
def dkwX1_rest_0 : List UInt8 := [42, 18, 245, 4, 188, 10, 89, 3, 27, 79, 182, 0, 101, 172]
abbrev dktX1_rest_0 : List UInt8 := dkwX1_rest_0 ++ []
theorem dksX1_rest_0 : cX1_rest.data.toList.drop 0 = dktX1_rest_0 := by decide +kernel
theorem dX1_rest_0 : decode cX1_rest 0 = .ok (.aload_n 0, 1) := dk_42 (dk_at dksX1_rest_0 0 rfl rfl)
theorem dX1_rest_1 : decode cX1_rest 1 = .ok (.ldc 245, 2) := dk_18 245 (dk_at dksX1_rest_0 1 rfl rfl)
theorem dX1_rest_3 : decode cX1_rest 3 = .ok (.iconst 1, 1) := dk_4 (dk_at dksX1_rest_0 3 rfl rfl)
theorem dX1_rest_4 : decode cX1_rest 4 = .ok (.newarray .int, 2) := dk_188_10 (dk_at dksX1_rest_0 4 rfl rfl)
theorem dX1_rest_6 : decode cX1_rest 6 = .ok (.dup, 1) := dk_89 (dk_at dksX1_rest_0 6 rfl rfl)
theorem dX1_rest_7 : decode cX1_rest 7 = .ok (.iconst 0, 1) := dk_3 (dk_at dksX1_rest_0 7 rfl rfl)
theorem dX1_rest_8 : decode cX1_rest 8 = .ok (.iload_n 1, 1) := dk_27 (dk_at dksX1_rest_0 8 rfl rfl)
theorem dX1_rest_9 : decode cX1_rest 9 = .ok (.iastore, 1) := dk_79 (dk_at dksX1_rest_0 9 rfl rfl)
theorem dX1_rest_10 : decode cX1_rest 10 = .ok (.invokevirtual 101, 3) := dk_182 0 101 (dk_at dksX1_rest_0 10 rfl rfl)
theorem dX1_rest_13 : decode cX1_rest 13 = .ok (.ireturn, 1) := dk_172 (dk_at dksX1_rest_0 13 rfl rfl)
abbrev cX1_tray : ByteArray := prog_1_method_30_code
def yX1_tray : MethodName := ⟨RX1, "tray", "(I)I"⟩
def dkwX1_tray_0 : List UInt8 := [42, 18, 247, 4, 188, 10, 89, 3, 27, 79, 182, 0, 101, 172]
abbrev dktX1_tray_0 : List UInt8 := dkwX1_tray_0 ++ []
theorem dksX1_tray_0 : cX1_tray.data.toList.drop 0 = dktX1_tray_0 := by decide +kernel
theorem dX1_tray_0 : decode cX1_tray 0 = .ok (.aload_n 0, 1) := dk_42 (dk_at dksX1_tray_0 0 rfl rfl)
theorem dX1_tray_1 : decode cX1_tray 1 = .ok (.ldc 247, 2) := dk_18 247 (dk_at dksX1_tray_0 1 rfl rfl)
theorem dX1_tray_3 : decode cX1_tray 3 = .ok (.iconst 1, 1) := dk_4 (dk_at dksX1_tray_0 3 rfl rfl)
theorem dX1_tray_4 : decode cX1_tray 4 = .ok (.newarray .int, 2) := dk_188_10 (dk_at dksX1_tray_0 4 rfl rfl)
theorem dX1_tray_6 : decode cX1_tray 6 = .ok (.dup, 1) := dk_89 (dk_at dksX1_tray_0 6 rfl rfl)
theorem dX1_tray_7 : decode cX1_tray 7 = .ok (.iconst 0, 1) := dk_3 (dk_at dksX1_tray_0 7 rfl rfl)
theorem dX1_tray_8 : decode cX1_tray 8 = .ok (.iload_n 1, 1) := dk_27 (dk_at dksX1_tray_0 8 rfl rfl)
theorem dX1_tray_9 : decode cX1_tray 9 = .ok (.iastore, 1) := dk_79 (dk_at dksX1_tray_0 9 rfl rfl)
theorem dX1_tray_10 : decode cX1_tray 10 = .ok (.invokevirtual 101, 3) := dk_182 0 101 (dk_at dksX1_tray_0 10 rfl rfl)
theorem dX1_tray_13 : decode cX1_tray 13 = .ok (.ireturn, 1) := dk_172 (dk_at dksX1_tray_0 13 rfl rfl)
abbrev cX1_lay : ByteArray := prog_1_method_31_code
def yX1_lay : MethodName := ⟨RX1, "lay", "(III)I"⟩
def dkwX1_lay_0 : List UInt8 := [42, 18, 249, 6, 188, 10, 89, 3, 27, 79, 89, 4, 28, 79, 89, 5, 29, 79, 182, 0, 101, 172]
abbrev dktX1_lay_0 : List UInt8 := dkwX1_lay_0 ++ []
theorem dksX1_lay_0 : cX1_lay.data.toList.drop 0 = dktX1_lay_0 := by decide +kernel
theorem dX1_lay_0 : decode cX1_lay 0 = .ok (.aload_n 0, 1) := dk_42 (dk_at dksX1_lay_0 0 rfl rfl)
theorem dX1_lay_1 : decode cX1_lay 1 = .ok (.ldc 249, 2) := dk_18 249 (dk_at dksX1_lay_0 1 rfl rfl)
theorem dX1_lay_3 : decode cX1_lay 3 = .ok (.iconst 3, 1) := dk_6 (dk_at dksX1_lay_0 3 rfl rfl)
theorem dX1_lay_4 : decode cX1_lay 4 = .ok (.newarray .int, 2) := dk_188_10 (dk_at dksX1_lay_0 4 rfl rfl)
theorem dX1_lay_6 : decode cX1_lay 6 = .ok (.dup, 1) := dk_89 (dk_at dksX1_lay_0 6 rfl rfl)
theorem dX1_lay_7 : decode cX1_lay 7 = .ok (.iconst 0, 1) := dk_3 (dk_at dksX1_lay_0 7 rfl rfl)
theorem dX1_lay_8 : decode cX1_lay 8 = .ok (.iload_n 1, 1) := dk_27 (dk_at dksX1_lay_0 8 rfl rfl)
theorem dX1_lay_9 : decode cX1_lay 9 = .ok (.iastore, 1) := dk_79 (dk_at dksX1_lay_0 9 rfl rfl)
theorem dX1_lay_10 : decode cX1_lay 10 = .ok (.dup, 1) := dk_89 (dk_at dksX1_lay_0 10 rfl rfl)
theorem dX1_lay_11 : decode cX1_lay 11 = .ok (.iconst 1, 1) := dk_4 (dk_at dksX1_lay_0 11 rfl rfl)
theorem dX1_lay_12 : decode cX1_lay 12 = .ok (.iload_n 2, 1) := dk_28 (dk_at dksX1_lay_0 12 rfl rfl)
theorem dX1_lay_13 : decode cX1_lay 13 = .ok (.iastore, 1) := dk_79 (dk_at dksX1_lay_0 13 rfl rfl)
theorem dX1_lay_14 : decode cX1_lay 14 = .ok (.dup, 1) := dk_89 (dk_at dksX1_lay_0 14 rfl rfl)
theorem dX1_lay_15 : decode cX1_lay 15 = .ok (.iconst 2, 1) := dk_5 (dk_at dksX1_lay_0 15 rfl rfl)
theorem dX1_lay_16 : decode cX1_lay 16 = .ok (.iload_n 3, 1) := dk_29 (dk_at dksX1_lay_0 16 rfl rfl)
theorem dX1_lay_17 : decode cX1_lay 17 = .ok (.iastore, 1) := dk_79 (dk_at dksX1_lay_0 17 rfl rfl)
theorem dX1_lay_18 : decode cX1_lay 18 = .ok (.invokevirtual 101, 3) := dk_182 0 101 (dk_at dksX1_lay_0 18 rfl rfl)
theorem dX1_lay_21 : decode cX1_lay 21 = .ok (.ireturn, 1) := dk_172 (dk_at dksX1_lay_0 21 rfl rfl)
abbrev cX1_onTray : ByteArray := prog_1_method_32_code
def yX1_onTray : MethodName := ⟨RX1, "onTray", "(I)I"⟩
def dkwX1_onTray_1 : List UInt8 := [167, 0, 4, 3, 184, 0, 206, 42, 180, 0, 25, 180, 1, 0, 27, 50, 184, 0, 218, 172]
abbrev dktX1_onTray_1 : List UInt8 := dkwX1_onTray_1 ++ []
def dkwX1_onTray_0 : List UInt8 := [27, 133, 9, 20, 0, 251, 184, 0, 185, 184, 0, 253, 42, 180, 0, 25, 180, 1, 0, 198, 0, 7, 4]
abbrev dktX1_onTray_0 : List UInt8 := dkwX1_onTray_0 ++ dktX1_onTray_1
theorem dksX1_onTray_0 : cX1_onTray.data.toList.drop 0 = dktX1_onTray_0 := by decide +kernel
theorem dksX1_onTray_1 : cX1_onTray.data.toList.drop 23 = dktX1_onTray_1 := dk_seg dksX1_onTray_0 23 rfl rfl
theorem dX1_onTray_0 : decode cX1_onTray 0 = .ok (.iload_n 1, 1) := dk_27 (dk_at dksX1_onTray_0 0 rfl rfl)
theorem dX1_onTray_1 : decode cX1_onTray 1 = .ok (.i2l, 1) := dk_133 (dk_at dksX1_onTray_0 1 rfl rfl)
theorem dX1_onTray_2 : decode cX1_onTray 2 = .ok (.lconst 0, 1) := dk_9 (dk_at dksX1_onTray_0 2 rfl rfl)
theorem dX1_onTray_3 : decode cX1_onTray 3 = .ok (.ldc2_w 251, 3) := dk_20 0 251 (dk_at dksX1_onTray_0 3 rfl rfl)
theorem dX1_onTray_6 : decode cX1_onTray 6 = .ok (.invokestatic 185, 3) := dk_184 0 185 (dk_at dksX1_onTray_0 6 rfl rfl)
theorem dX1_onTray_9 : decode cX1_onTray 9 = .ok (.invokestatic 253, 3) := dk_184 0 253 (dk_at dksX1_onTray_0 9 rfl rfl)
theorem dX1_onTray_12 : decode cX1_onTray 12 = .ok (.aload_n 0, 1) := dk_42 (dk_at dksX1_onTray_0 12 rfl rfl)
theorem dX1_onTray_13 : decode cX1_onTray 13 = .ok (.getfield 25, 3) := dk_180 0 25 (dk_at dksX1_onTray_0 13 rfl rfl)
theorem dX1_onTray_16 : decode cX1_onTray 16 = .ok (.getfield 256, 3) := dk_180 1 0 (dk_at dksX1_onTray_0 16 rfl rfl)
theorem dX1_onTray_19 : decode cX1_onTray 19 = .ok (.ifnull 7, 3) := dk_198 0 7 (dk_at dksX1_onTray_0 19 rfl rfl)
theorem dX1_onTray_22 : decode cX1_onTray 22 = .ok (.iconst 1, 1) := dk_4 (dk_at dksX1_onTray_0 22 rfl rfl)
theorem dX1_onTray_23 : decode cX1_onTray 23 = .ok (.goto 4, 3) := dk_167 0 4 (dk_at dksX1_onTray_1 0 rfl rfl)
theorem dX1_onTray_26 : decode cX1_onTray 26 = .ok (.iconst 0, 1) := dk_3 (dk_at dksX1_onTray_1 3 rfl rfl)
theorem dX1_onTray_27 : decode cX1_onTray 27 = .ok (.invokestatic 206, 3) := dk_184 0 206 (dk_at dksX1_onTray_1 4 rfl rfl)
theorem dX1_onTray_30 : decode cX1_onTray 30 = .ok (.aload_n 0, 1) := dk_42 (dk_at dksX1_onTray_1 7 rfl rfl)
theorem dX1_onTray_31 : decode cX1_onTray 31 = .ok (.getfield 25, 3) := dk_180 0 25 (dk_at dksX1_onTray_1 8 rfl rfl)
theorem dX1_onTray_34 : decode cX1_onTray 34 = .ok (.getfield 256, 3) := dk_180 1 0 (dk_at dksX1_onTray_1 11 rfl rfl)
theorem dX1_onTray_37 : decode cX1_onTray 37 = .ok (.iload_n 1, 1) := dk_27 (dk_at dksX1_onTray_1 14 rfl rfl)
theorem dX1_onTray_38 : decode cX1_onTray 38 = .ok (.aaload, 1) := dk_50 (dk_at dksX1_onTray_1 15 rfl rfl)
theorem dX1_onTray_39 : decode cX1_onTray 39 = .ok (.invokestatic 218, 3) := dk_184 0 218 (dk_at dksX1_onTray_1 16 rfl rfl)
theorem dX1_onTray_42 : decode cX1_onTray 42 = .ok (.ireturn, 1) := dk_172 (dk_at dksX1_onTray_1 19 rfl rfl)
abbrev cX1_line : ByteArray := prog_1_method_33_code
def yX1_line : MethodName := ⟨RX1, "line", "(I)I"⟩
def dkwX1_line_1 : List UInt8 := [180, 0, 47, 182, 1, 7, 172]
abbrev dktX1_line_1 : List UInt8 := dkwX1_line_1 ++ []
def dkwX1_line_0 : List UInt8 := [42, 42, 180, 0, 25, 180, 0, 166, 27, 182, 0, 133, 192, 0, 168, 182, 1, 3, 181, 0, 47, 42]
abbrev dktX1_line_0 : List UInt8 := dkwX1_line_0 ++ dktX1_line_1
theorem dksX1_line_0 : cX1_line.data.toList.drop 0 = dktX1_line_0 := by decide +kernel
theorem dksX1_line_1 : cX1_line.data.toList.drop 22 = dktX1_line_1 := dk_seg dksX1_line_0 22 rfl rfl
theorem dX1_line_0 : decode cX1_line 0 = .ok (.aload_n 0, 1) := dk_42 (dk_at dksX1_line_0 0 rfl rfl)
theorem dX1_line_1 : decode cX1_line 1 = .ok (.aload_n 0, 1) := dk_42 (dk_at dksX1_line_0 1 rfl rfl)
theorem dX1_line_2 : decode cX1_line 2 = .ok (.getfield 25, 3) := dk_180 0 25 (dk_at dksX1_line_0 2 rfl rfl)
theorem dX1_line_5 : decode cX1_line 5 = .ok (.getfield 166, 3) := dk_180 0 166 (dk_at dksX1_line_0 5 rfl rfl)
theorem dX1_line_8 : decode cX1_line 8 = .ok (.iload_n 1, 1) := dk_27 (dk_at dksX1_line_0 8 rfl rfl)
theorem dX1_line_9 : decode cX1_line 9 = .ok (.invokevirtual 133, 3) := dk_182 0 133 (dk_at dksX1_line_0 9 rfl rfl)
theorem dX1_line_12 : decode cX1_line 12 = .ok (.checkcast 168, 3) := dk_192 0 168 (dk_at dksX1_line_0 12 rfl rfl)
theorem dX1_line_15 : decode cX1_line 15 = .ok (.invokevirtual 259, 3) := dk_182 1 3 (dk_at dksX1_line_0 15 rfl rfl)
theorem dX1_line_18 : decode cX1_line 18 = .ok (.putfield 47, 3) := dk_181 0 47 (dk_at dksX1_line_0 18 rfl rfl)
theorem dX1_line_21 : decode cX1_line 21 = .ok (.aload_n 0, 1) := dk_42 (dk_at dksX1_line_0 21 rfl rfl)
theorem dX1_line_22 : decode cX1_line 22 = .ok (.getfield 47, 3) := dk_180 0 47 (dk_at dksX1_line_1 0 rfl rfl)
theorem dX1_line_25 : decode cX1_line 25 = .ok (.invokevirtual 263, 3) := dk_182 1 7 (dk_at dksX1_line_1 3 rfl rfl)
theorem dX1_line_28 : decode cX1_line 28 = .ok (.ireturn, 1) := dk_172 (dk_at dksX1_line_1 6 rfl rfl)
abbrev cX1_character : ByteArray := prog_1_method_35_code
def yX1_character : MethodName := ⟨RX1, "character", "(I)C"⟩
def dkwX1_character_1 : List UInt8 := [182, 1, 13, 172]
abbrev dktX1_character_1 : List UInt8 := dkwX1_character_1 ++ []
def dkwX1_character_0 : List UInt8 := [27, 133, 9, 42, 180, 0, 47, 182, 1, 7, 4, 100, 133, 184, 0, 185, 184, 0, 253, 42, 180, 0, 47, 27]
abbrev dktX1_character_0 : List UInt8 := dkwX1_character_0 ++ dktX1_character_1
theorem dksX1_character_0 : cX1_character.data.toList.drop 0 = dktX1_character_0 := by decide +kernel
theorem dksX1_character_1 : cX1_character.data.toList.drop 24 = dktX1_character_1 := dk_seg dksX1_character_0 24 rfl rfl
theorem dX1_character_0 : decode cX1_character 0 = .ok (.iload_n 1, 1) := dk_27 (dk_at dksX1_character_0 0 rfl rfl)
theorem dX1_character_1 : decode cX1_character 1 = .ok (.i2l, 1) := dk_133 (dk_at dksX1_character_0 1 rfl rfl)
theorem dX1_character_2 : decode cX1_character 2 = .ok (.lconst 0, 1) := dk_9 (dk_at dksX1_character_0 2 rfl rfl)
theorem dX1_character_3 : decode cX1_character 3 = .ok (.aload_n 0, 1) := dk_42 (dk_at dksX1_character_0 3 rfl rfl)
theorem dX1_character_4 : decode cX1_character 4 = .ok (.getfield 47, 3) := dk_180 0 47 (dk_at dksX1_character_0 4 rfl rfl)
theorem dX1_character_7 : decode cX1_character 7 = .ok (.invokevirtual 263, 3) := dk_182 1 7 (dk_at dksX1_character_0 7 rfl rfl)
theorem dX1_character_10 : decode cX1_character 10 = .ok (.iconst 1, 1) := dk_4 (dk_at dksX1_character_0 10 rfl rfl)
theorem dX1_character_11 : decode cX1_character 11 = .ok (.isub, 1) := dk_100 (dk_at dksX1_character_0 11 rfl rfl)
theorem dX1_character_12 : decode cX1_character 12 = .ok (.i2l, 1) := dk_133 (dk_at dksX1_character_0 12 rfl rfl)
theorem dX1_character_13 : decode cX1_character 13 = .ok (.invokestatic 185, 3) := dk_184 0 185 (dk_at dksX1_character_0 13 rfl rfl)
theorem dX1_character_16 : decode cX1_character 16 = .ok (.invokestatic 253, 3) := dk_184 0 253 (dk_at dksX1_character_0 16 rfl rfl)
theorem dX1_character_19 : decode cX1_character 19 = .ok (.aload_n 0, 1) := dk_42 (dk_at dksX1_character_0 19 rfl rfl)
theorem dX1_character_20 : decode cX1_character 20 = .ok (.getfield 47, 3) := dk_180 0 47 (dk_at dksX1_character_0 20 rfl rfl)
theorem dX1_character_23 : decode cX1_character 23 = .ok (.iload_n 1, 1) := dk_27 (dk_at dksX1_character_0 23 rfl rfl)
theorem dX1_character_24 : decode cX1_character 24 = .ok (.invokevirtual 269, 3) := dk_182 1 13 (dk_at dksX1_character_1 0 rfl rfl)
theorem dX1_character_27 : decode cX1_character 27 = .ok (.ireturn, 1) := dk_172 (dk_at dksX1_character_1 3 rfl rfl)
abbrev cX1_refusal : ByteArray := prog_1_method_36_code
def yX1_refusal : MethodName := ⟨RX1, "refusal", "(Z)I"⟩
def dkwX1_refusal_1 : List UInt8 := [180, 1, 17, 167, 0, 10, 42, 180, 0, 82, 180, 1, 20, 172]
abbrev dktX1_refusal_1 : List UInt8 := dkwX1_refusal_1 ++ []
def dkwX1_refusal_0 : List UInt8 := [42, 180, 0, 82, 198, 0, 7, 4, 167, 0, 4, 3, 184, 0, 197, 27, 153, 0, 13, 42, 180, 0, 82]
abbrev dktX1_refusal_0 : List UInt8 := dkwX1_refusal_0 ++ dktX1_refusal_1
theorem dksX1_refusal_0 : cX1_refusal.data.toList.drop 0 = dktX1_refusal_0 := by decide +kernel
theorem dksX1_refusal_1 : cX1_refusal.data.toList.drop 23 = dktX1_refusal_1 := dk_seg dksX1_refusal_0 23 rfl rfl
theorem dX1_refusal_0 : decode cX1_refusal 0 = .ok (.aload_n 0, 1) := dk_42 (dk_at dksX1_refusal_0 0 rfl rfl)
theorem dX1_refusal_1 : decode cX1_refusal 1 = .ok (.getfield 82, 3) := dk_180 0 82 (dk_at dksX1_refusal_0 1 rfl rfl)
theorem dX1_refusal_4 : decode cX1_refusal 4 = .ok (.ifnull 7, 3) := dk_198 0 7 (dk_at dksX1_refusal_0 4 rfl rfl)
theorem dX1_refusal_7 : decode cX1_refusal 7 = .ok (.iconst 1, 1) := dk_4 (dk_at dksX1_refusal_0 7 rfl rfl)
theorem dX1_refusal_8 : decode cX1_refusal 8 = .ok (.goto 4, 3) := dk_167 0 4 (dk_at dksX1_refusal_0 8 rfl rfl)
theorem dX1_refusal_11 : decode cX1_refusal 11 = .ok (.iconst 0, 1) := dk_3 (dk_at dksX1_refusal_0 11 rfl rfl)
theorem dX1_refusal_12 : decode cX1_refusal 12 = .ok (.invokestatic 197, 3) := dk_184 0 197 (dk_at dksX1_refusal_0 12 rfl rfl)
theorem dX1_refusal_15 : decode cX1_refusal 15 = .ok (.iload_n 1, 1) := dk_27 (dk_at dksX1_refusal_0 15 rfl rfl)
theorem dX1_refusal_16 : decode cX1_refusal 16 = .ok (.ifCond .eq 13, 3) := dk_153 0 13 (dk_at dksX1_refusal_0 16 rfl rfl)
theorem dX1_refusal_19 : decode cX1_refusal 19 = .ok (.aload_n 0, 1) := dk_42 (dk_at dksX1_refusal_0 19 rfl rfl)
theorem dX1_refusal_20 : decode cX1_refusal 20 = .ok (.getfield 82, 3) := dk_180 0 82 (dk_at dksX1_refusal_0 20 rfl rfl)
theorem dX1_refusal_23 : decode cX1_refusal 23 = .ok (.getfield 273, 3) := dk_180 1 17 (dk_at dksX1_refusal_1 0 rfl rfl)
theorem dX1_refusal_26 : decode cX1_refusal 26 = .ok (.goto 10, 3) := dk_167 0 10 (dk_at dksX1_refusal_1 3 rfl rfl)
theorem dX1_refusal_29 : decode cX1_refusal 29 = .ok (.aload_n 0, 1) := dk_42 (dk_at dksX1_refusal_1 6 rfl rfl)
theorem dX1_refusal_30 : decode cX1_refusal 30 = .ok (.getfield 82, 3) := dk_180 0 82 (dk_at dksX1_refusal_1 7 rfl rfl)
theorem dX1_refusal_33 : decode cX1_refusal 33 = .ok (.getfield 276, 3) := dk_180 1 20 (dk_at dksX1_refusal_1 10 rfl rfl)
theorem dX1_refusal_36 : decode cX1_refusal 36 = .ok (.ireturn, 1) := dk_172 (dk_at dksX1_refusal_1 13 rfl rfl)
abbrev cX1_account : ByteArray := prog_1_method_37_code
def yX1_account : MethodName := ⟨RX1, "account", "(I)I"⟩
def dkwX1_account_7 : List UInt8 := [42, 180, 0, 41, 182, 1, 43, 172, 42, 180, 0, 34, 182, 0, 55, 172, 187, 0, 1, 89, 183, 0, 3, 191]
abbrev dktX1_account_7 : List UInt8 := dkwX1_account_7 ++ []
def dkwX1_account_6 : List UInt8 := [182, 1, 30, 172, 42, 180, 0, 25, 180, 0, 226, 3, 184, 1, 31, 172, 42, 180, 0, 25, 180, 1, 40, 172]
abbrev dktX1_account_6 : List UInt8 := dkwX1_account_6 ++ dktX1_account_7
def dkwX1_account_5 : List UInt8 := [42, 180, 0, 25, 180, 0, 166, 27, 16, 10, 100, 184, 1, 31, 172, 42, 180, 0, 25, 180, 0, 226]
abbrev dktX1_account_5 : List UInt8 := dkwX1_account_5 ++ dktX1_account_6
def dkwX1_account_4 : List UInt8 := [182, 1, 30, 172, 42, 180, 0, 25, 180, 0, 166, 3, 184, 1, 31, 172, 42, 180, 0, 25, 182, 1, 37, 172]
abbrev dktX1_account_4 : List UInt8 := dkwX1_account_4 ++ dktX1_account_5
def dkwX1_account_3 : List UInt8 := [180, 1, 27, 172, 42, 180, 0, 25, 180, 0, 129, 182, 1, 30, 172, 42, 180, 0, 25, 180, 0, 166]
abbrev dktX1_account_3 : List UInt8 := dkwX1_account_3 ++ dktX1_account_4
def dkwX1_account_2 : List UInt8 := [42, 180, 0, 25, 180, 0, 93, 172, 42, 180, 0, 25, 180, 1, 23, 27, 4, 100, 46, 172, 42, 180, 0, 25]
abbrev dktX1_account_2 : List UInt8 := dkwX1_account_2 ++ dktX1_account_3
def dkwX1_account_1 : List UInt8 := [170, 0, 0, 0, 0, 0, 219, 0, 0, 0, 0, 0, 0, 0, 17, 0, 0, 0, 87, 0, 0, 0, 95, 0, 0, 0, 95, 0, 0, 0, 95, 0, 0, 0, 95, 0, 0, 0, 95, 0, 0, 0, 107, 0, 0, 0, 115, 0, 0, 0, 126, 0, 0, 0, 137, 0, 0, 0, 149, 0, 0, 0, 157, 0, 0, 0, 157, 0, 0, 0, 172, 0, 0, 0, 183, 0, 0, 0, 195, 0, 0, 0, 203, 0, 0, 0, 211]
abbrev dktX1_account_1 : List UInt8 := dkwX1_account_1 ++ dktX1_account_2
def dkwX1_account_0 : List UInt8 := [27]
abbrev dktX1_account_0 : List UInt8 := dkwX1_account_0 ++ dktX1_account_1
theorem dksX1_account_0 : cX1_account.data.toList.drop 0 = dktX1_account_0 := by decide +kernel
theorem dksX1_account_1 : cX1_account.data.toList.drop 1 = dktX1_account_1 := dk_seg dksX1_account_0 1 rfl rfl
theorem dksX1_account_2 : cX1_account.data.toList.drop 88 = dktX1_account_2 := dk_seg dksX1_account_1 87 rfl rfl
theorem dksX1_account_3 : cX1_account.data.toList.drop 112 = dktX1_account_3 := dk_seg dksX1_account_2 24 rfl rfl
theorem dksX1_account_4 : cX1_account.data.toList.drop 134 = dktX1_account_4 := dk_seg dksX1_account_3 22 rfl rfl
theorem dksX1_account_5 : cX1_account.data.toList.drop 158 = dktX1_account_5 := dk_seg dksX1_account_4 24 rfl rfl
theorem dksX1_account_6 : cX1_account.data.toList.drop 180 = dktX1_account_6 := dk_seg dksX1_account_5 22 rfl rfl
theorem dksX1_account_7 : cX1_account.data.toList.drop 204 = dktX1_account_7 := dk_seg dksX1_account_6 24 rfl rfl
theorem dX1_account_0 : decode cX1_account 0 = .ok (.iload_n 1, 1) := dk_27 (dk_at dksX1_account_0 0 rfl rfl)
theorem dX1_account_1 : decode cX1_account 1 = .ok (.tableswitch 219 0 17 #[87, 95, 95, 95, 95, 95, 107, 115, 126, 137, 149, 157, 157, 172, 183, 195, 203, 211], 87) := by decide +kernel
theorem dX1_account_88 : decode cX1_account 88 = .ok (.aload_n 0, 1) := dk_42 (dk_at dksX1_account_2 0 rfl rfl)
theorem dX1_account_89 : decode cX1_account 89 = .ok (.getfield 25, 3) := dk_180 0 25 (dk_at dksX1_account_2 1 rfl rfl)
theorem dX1_account_92 : decode cX1_account 92 = .ok (.getfield 93, 3) := dk_180 0 93 (dk_at dksX1_account_2 4 rfl rfl)
theorem dX1_account_95 : decode cX1_account 95 = .ok (.ireturn, 1) := dk_172 (dk_at dksX1_account_2 7 rfl rfl)
theorem dX1_account_96 : decode cX1_account 96 = .ok (.aload_n 0, 1) := dk_42 (dk_at dksX1_account_2 8 rfl rfl)
theorem dX1_account_97 : decode cX1_account 97 = .ok (.getfield 25, 3) := dk_180 0 25 (dk_at dksX1_account_2 9 rfl rfl)
theorem dX1_account_100 : decode cX1_account 100 = .ok (.getfield 279, 3) := dk_180 1 23 (dk_at dksX1_account_2 12 rfl rfl)
theorem dX1_account_103 : decode cX1_account 103 = .ok (.iload_n 1, 1) := dk_27 (dk_at dksX1_account_2 15 rfl rfl)
theorem dX1_account_104 : decode cX1_account 104 = .ok (.iconst 1, 1) := dk_4 (dk_at dksX1_account_2 16 rfl rfl)
theorem dX1_account_105 : decode cX1_account 105 = .ok (.isub, 1) := dk_100 (dk_at dksX1_account_2 17 rfl rfl)
theorem dX1_account_106 : decode cX1_account 106 = .ok (.iaload, 1) := dk_46 (dk_at dksX1_account_2 18 rfl rfl)
theorem dX1_account_107 : decode cX1_account 107 = .ok (.ireturn, 1) := dk_172 (dk_at dksX1_account_2 19 rfl rfl)
theorem dX1_account_108 : decode cX1_account 108 = .ok (.aload_n 0, 1) := dk_42 (dk_at dksX1_account_2 20 rfl rfl)
theorem dX1_account_109 : decode cX1_account 109 = .ok (.getfield 25, 3) := dk_180 0 25 (dk_at dksX1_account_2 21 rfl rfl)
theorem dX1_account_112 : decode cX1_account 112 = .ok (.getfield 283, 3) := dk_180 1 27 (dk_at dksX1_account_3 0 rfl rfl)
theorem dX1_account_115 : decode cX1_account 115 = .ok (.ireturn, 1) := dk_172 (dk_at dksX1_account_3 3 rfl rfl)
theorem dX1_account_116 : decode cX1_account 116 = .ok (.aload_n 0, 1) := dk_42 (dk_at dksX1_account_3 4 rfl rfl)
theorem dX1_account_117 : decode cX1_account 117 = .ok (.getfield 25, 3) := dk_180 0 25 (dk_at dksX1_account_3 5 rfl rfl)
theorem dX1_account_120 : decode cX1_account 120 = .ok (.getfield 129, 3) := dk_180 0 129 (dk_at dksX1_account_3 8 rfl rfl)
theorem dX1_account_123 : decode cX1_account 123 = .ok (.invokevirtual 286, 3) := dk_182 1 30 (dk_at dksX1_account_3 11 rfl rfl)
theorem dX1_account_126 : decode cX1_account 126 = .ok (.ireturn, 1) := dk_172 (dk_at dksX1_account_3 14 rfl rfl)
theorem dX1_account_127 : decode cX1_account 127 = .ok (.aload_n 0, 1) := dk_42 (dk_at dksX1_account_3 15 rfl rfl)
theorem dX1_account_128 : decode cX1_account 128 = .ok (.getfield 25, 3) := dk_180 0 25 (dk_at dksX1_account_3 16 rfl rfl)
theorem dX1_account_131 : decode cX1_account 131 = .ok (.getfield 166, 3) := dk_180 0 166 (dk_at dksX1_account_3 19 rfl rfl)
theorem dX1_account_134 : decode cX1_account 134 = .ok (.invokevirtual 286, 3) := dk_182 1 30 (dk_at dksX1_account_4 0 rfl rfl)
theorem dX1_account_137 : decode cX1_account 137 = .ok (.ireturn, 1) := dk_172 (dk_at dksX1_account_4 3 rfl rfl)
theorem dX1_account_138 : decode cX1_account 138 = .ok (.aload_n 0, 1) := dk_42 (dk_at dksX1_account_4 4 rfl rfl)
theorem dX1_account_139 : decode cX1_account 139 = .ok (.getfield 25, 3) := dk_180 0 25 (dk_at dksX1_account_4 5 rfl rfl)
theorem dX1_account_142 : decode cX1_account 142 = .ok (.getfield 166, 3) := dk_180 0 166 (dk_at dksX1_account_4 8 rfl rfl)
theorem dX1_account_145 : decode cX1_account 145 = .ok (.iconst 0, 1) := dk_3 (dk_at dksX1_account_4 11 rfl rfl)
theorem dX1_account_146 : decode cX1_account 146 = .ok (.invokestatic 287, 3) := dk_184 1 31 (dk_at dksX1_account_4 12 rfl rfl)
theorem dX1_account_149 : decode cX1_account 149 = .ok (.ireturn, 1) := dk_172 (dk_at dksX1_account_4 15 rfl rfl)
theorem dX1_account_150 : decode cX1_account 150 = .ok (.aload_n 0, 1) := dk_42 (dk_at dksX1_account_4 16 rfl rfl)
theorem dX1_account_151 : decode cX1_account 151 = .ok (.getfield 25, 3) := dk_180 0 25 (dk_at dksX1_account_4 17 rfl rfl)
theorem dX1_account_154 : decode cX1_account 154 = .ok (.invokevirtual 293, 3) := dk_182 1 37 (dk_at dksX1_account_4 20 rfl rfl)
theorem dX1_account_157 : decode cX1_account 157 = .ok (.ireturn, 1) := dk_172 (dk_at dksX1_account_4 23 rfl rfl)
theorem dX1_account_158 : decode cX1_account 158 = .ok (.aload_n 0, 1) := dk_42 (dk_at dksX1_account_5 0 rfl rfl)
theorem dX1_account_159 : decode cX1_account 159 = .ok (.getfield 25, 3) := dk_180 0 25 (dk_at dksX1_account_5 1 rfl rfl)
theorem dX1_account_162 : decode cX1_account 162 = .ok (.getfield 166, 3) := dk_180 0 166 (dk_at dksX1_account_5 4 rfl rfl)
theorem dX1_account_165 : decode cX1_account 165 = .ok (.iload_n 1, 1) := dk_27 (dk_at dksX1_account_5 7 rfl rfl)
theorem dX1_account_166 : decode cX1_account 166 = .ok (.bipush 10, 2) := dk_16 10 (dk_at dksX1_account_5 8 rfl rfl)
theorem dX1_account_168 : decode cX1_account 168 = .ok (.isub, 1) := dk_100 (dk_at dksX1_account_5 10 rfl rfl)
theorem dX1_account_169 : decode cX1_account 169 = .ok (.invokestatic 287, 3) := dk_184 1 31 (dk_at dksX1_account_5 11 rfl rfl)
theorem dX1_account_172 : decode cX1_account 172 = .ok (.ireturn, 1) := dk_172 (dk_at dksX1_account_5 14 rfl rfl)
theorem dX1_account_173 : decode cX1_account 173 = .ok (.aload_n 0, 1) := dk_42 (dk_at dksX1_account_5 15 rfl rfl)
theorem dX1_account_174 : decode cX1_account 174 = .ok (.getfield 25, 3) := dk_180 0 25 (dk_at dksX1_account_5 16 rfl rfl)
theorem dX1_account_177 : decode cX1_account 177 = .ok (.getfield 226, 3) := dk_180 0 226 (dk_at dksX1_account_5 19 rfl rfl)
theorem dX1_account_180 : decode cX1_account 180 = .ok (.invokevirtual 286, 3) := dk_182 1 30 (dk_at dksX1_account_6 0 rfl rfl)
theorem dX1_account_183 : decode cX1_account 183 = .ok (.ireturn, 1) := dk_172 (dk_at dksX1_account_6 3 rfl rfl)
theorem dX1_account_184 : decode cX1_account 184 = .ok (.aload_n 0, 1) := dk_42 (dk_at dksX1_account_6 4 rfl rfl)
theorem dX1_account_185 : decode cX1_account 185 = .ok (.getfield 25, 3) := dk_180 0 25 (dk_at dksX1_account_6 5 rfl rfl)
theorem dX1_account_188 : decode cX1_account 188 = .ok (.getfield 226, 3) := dk_180 0 226 (dk_at dksX1_account_6 8 rfl rfl)
theorem dX1_account_191 : decode cX1_account 191 = .ok (.iconst 0, 1) := dk_3 (dk_at dksX1_account_6 11 rfl rfl)
theorem dX1_account_192 : decode cX1_account 192 = .ok (.invokestatic 287, 3) := dk_184 1 31 (dk_at dksX1_account_6 12 rfl rfl)
theorem dX1_account_195 : decode cX1_account 195 = .ok (.ireturn, 1) := dk_172 (dk_at dksX1_account_6 15 rfl rfl)
theorem dX1_account_196 : decode cX1_account 196 = .ok (.aload_n 0, 1) := dk_42 (dk_at dksX1_account_6 16 rfl rfl)
theorem dX1_account_197 : decode cX1_account 197 = .ok (.getfield 25, 3) := dk_180 0 25 (dk_at dksX1_account_6 17 rfl rfl)
theorem dX1_account_200 : decode cX1_account 200 = .ok (.getfield 296, 3) := dk_180 1 40 (dk_at dksX1_account_6 20 rfl rfl)
theorem dX1_account_203 : decode cX1_account 203 = .ok (.ireturn, 1) := dk_172 (dk_at dksX1_account_6 23 rfl rfl)
theorem dX1_account_204 : decode cX1_account 204 = .ok (.aload_n 0, 1) := dk_42 (dk_at dksX1_account_7 0 rfl rfl)
theorem dX1_account_205 : decode cX1_account 205 = .ok (.getfield 41, 3) := dk_180 0 41 (dk_at dksX1_account_7 1 rfl rfl)
theorem dX1_account_208 : decode cX1_account 208 = .ok (.invokevirtual 299, 3) := dk_182 1 43 (dk_at dksX1_account_7 4 rfl rfl)
theorem dX1_account_211 : decode cX1_account 211 = .ok (.ireturn, 1) := dk_172 (dk_at dksX1_account_7 7 rfl rfl)
theorem dX1_account_212 : decode cX1_account 212 = .ok (.aload_n 0, 1) := dk_42 (dk_at dksX1_account_7 8 rfl rfl)
theorem dX1_account_213 : decode cX1_account 213 = .ok (.getfield 34, 3) := dk_180 0 34 (dk_at dksX1_account_7 9 rfl rfl)
theorem dX1_account_216 : decode cX1_account 216 = .ok (.invokevirtual 55, 3) := dk_182 0 55 (dk_at dksX1_account_7 12 rfl rfl)
theorem dX1_account_219 : decode cX1_account 219 = .ok (.ireturn, 1) := dk_172 (dk_at dksX1_account_7 15 rfl rfl)
theorem dX1_account_220 : decode cX1_account 220 = .ok (.new 1, 3) := dk_187 0 1 (dk_at dksX1_account_7 16 rfl rfl)
theorem dX1_account_223 : decode cX1_account 223 = .ok (.dup, 1) := dk_89 (dk_at dksX1_account_7 19 rfl rfl)
theorem dX1_account_224 : decode cX1_account 224 = .ok (.invokespecial 3, 3) := dk_183 0 3 (dk_at dksX1_account_7 20 rfl rfl)
theorem dX1_account_227 : decode cX1_account 227 = .ok (.athrow, 1) := dk_191 (dk_at dksX1_account_7 23 rfl rfl)
abbrev cX1_meanTear : ByteArray := prog_1_method_38_code
def yX1_meanTear : MethodName := ⟨RX1, "meanTear", "()D"⟩
def dkwX1_meanTear_1 : List UInt8 := [42, 180, 0, 25, 182, 1, 47, 135, 27, 135, 111, 175]
abbrev dktX1_meanTear_1 : List UInt8 := dkwX1_meanTear_1 ++ []
def dkwX1_meanTear_0 : List UInt8 := [42, 180, 0, 25, 180, 0, 166, 5, 184, 1, 31, 60, 27, 158, 0, 7, 4, 167, 0, 4, 3, 184, 1, 44]
abbrev dktX1_meanTear_0 : List UInt8 := dkwX1_meanTear_0 ++ dktX1_meanTear_1
theorem dksX1_meanTear_0 : cX1_meanTear.data.toList.drop 0 = dktX1_meanTear_0 := by decide +kernel
theorem dksX1_meanTear_1 : cX1_meanTear.data.toList.drop 24 = dktX1_meanTear_1 := dk_seg dksX1_meanTear_0 24 rfl rfl
theorem dX1_meanTear_0 : decode cX1_meanTear 0 = .ok (.aload_n 0, 1) := dk_42 (dk_at dksX1_meanTear_0 0 rfl rfl)
theorem dX1_meanTear_1 : decode cX1_meanTear 1 = .ok (.getfield 25, 3) := dk_180 0 25 (dk_at dksX1_meanTear_0 1 rfl rfl)
theorem dX1_meanTear_4 : decode cX1_meanTear 4 = .ok (.getfield 166, 3) := dk_180 0 166 (dk_at dksX1_meanTear_0 4 rfl rfl)
theorem dX1_meanTear_7 : decode cX1_meanTear 7 = .ok (.iconst 2, 1) := dk_5 (dk_at dksX1_meanTear_0 7 rfl rfl)
theorem dX1_meanTear_8 : decode cX1_meanTear 8 = .ok (.invokestatic 287, 3) := dk_184 1 31 (dk_at dksX1_meanTear_0 8 rfl rfl)
theorem dX1_meanTear_11 : decode cX1_meanTear 11 = .ok (.istore_n 1, 1) := dk_60 (dk_at dksX1_meanTear_0 11 rfl rfl)
theorem dX1_meanTear_12 : decode cX1_meanTear 12 = .ok (.iload_n 1, 1) := dk_27 (dk_at dksX1_meanTear_0 12 rfl rfl)
theorem dX1_meanTear_13 : decode cX1_meanTear 13 = .ok (.ifCond .le 7, 3) := dk_158 0 7 (dk_at dksX1_meanTear_0 13 rfl rfl)
theorem dX1_meanTear_16 : decode cX1_meanTear 16 = .ok (.iconst 1, 1) := dk_4 (dk_at dksX1_meanTear_0 16 rfl rfl)
theorem dX1_meanTear_17 : decode cX1_meanTear 17 = .ok (.goto 4, 3) := dk_167 0 4 (dk_at dksX1_meanTear_0 17 rfl rfl)
theorem dX1_meanTear_20 : decode cX1_meanTear 20 = .ok (.iconst 0, 1) := dk_3 (dk_at dksX1_meanTear_0 20 rfl rfl)
theorem dX1_meanTear_21 : decode cX1_meanTear 21 = .ok (.invokestatic 300, 3) := dk_184 1 44 (dk_at dksX1_meanTear_0 21 rfl rfl)
theorem dX1_meanTear_24 : decode cX1_meanTear 24 = .ok (.aload_n 0, 1) := dk_42 (dk_at dksX1_meanTear_1 0 rfl rfl)
theorem dX1_meanTear_25 : decode cX1_meanTear 25 = .ok (.getfield 25, 3) := dk_180 0 25 (dk_at dksX1_meanTear_1 1 rfl rfl)
theorem dX1_meanTear_28 : decode cX1_meanTear 28 = .ok (.invokevirtual 303, 3) := dk_182 1 47 (dk_at dksX1_meanTear_1 4 rfl rfl)
theorem dX1_meanTear_31 : decode cX1_meanTear 31 = .ok (.i2d, 1) := dk_135 (dk_at dksX1_meanTear_1 7 rfl rfl)
theorem dX1_meanTear_32 : decode cX1_meanTear 32 = .ok (.iload_n 1, 1) := dk_27 (dk_at dksX1_meanTear_1 8 rfl rfl)
theorem dX1_meanTear_33 : decode cX1_meanTear 33 = .ok (.i2d, 1) := dk_135 (dk_at dksX1_meanTear_1 9 rfl rfl)
theorem dX1_meanTear_34 : decode cX1_meanTear 34 = .ok (.ddiv, 1) := dk_111 (dk_at dksX1_meanTear_1 10 rfl rfl)
theorem dX1_meanTear_35 : decode cX1_meanTear 35 = .ok (.dreturn, 1) := dk_175 (dk_at dksX1_meanTear_1 11 rfl rfl)
abbrev cX1_checkNumbers : ByteArray := prog_1_method_6_code
def yX1_checkNumbers : MethodName := ⟨RX1, "checkNumbers", "(Z)V"⟩
def dkwX1_checkNumbers_0 : List UInt8 := [26, 154, 0, 11, 187, 0, 16, 89, 183, 0, 18, 191, 177]
abbrev dktX1_checkNumbers_0 : List UInt8 := dkwX1_checkNumbers_0 ++ []
theorem dksX1_checkNumbers_0 : cX1_checkNumbers.data.toList.drop 0 = dktX1_checkNumbers_0 := by decide +kernel
theorem dX1_checkNumbers_0 : decode cX1_checkNumbers 0 = .ok (.iload_n 0, 1) := dk_26 (dk_at dksX1_checkNumbers_0 0 rfl rfl)
theorem dX1_checkNumbers_1 : decode cX1_checkNumbers 1 = .ok (.ifCond .ne 11, 3) := dk_154 0 11 (dk_at dksX1_checkNumbers_0 1 rfl rfl)
theorem dX1_checkNumbers_4 : decode cX1_checkNumbers 4 = .ok (.new 16, 3) := dk_187 0 16 (dk_at dksX1_checkNumbers_0 4 rfl rfl)
theorem dX1_checkNumbers_7 : decode cX1_checkNumbers 7 = .ok (.dup, 1) := dk_89 (dk_at dksX1_checkNumbers_0 7 rfl rfl)
theorem dX1_checkNumbers_8 : decode cX1_checkNumbers 8 = .ok (.invokespecial 18, 3) := dk_183 0 18 (dk_at dksX1_checkNumbers_0 8 rfl rfl)
theorem dX1_checkNumbers_11 : decode cX1_checkNumbers 11 = .ok (.athrow, 1) := dk_191 (dk_at dksX1_checkNumbers_0 11 rfl rfl)
theorem dX1_checkNumbers_12 : decode cX1_checkNumbers 12 = .ok (.return_, 1) := dk_177 (dk_at dksX1_checkNumbers_0 12 rfl rfl)
abbrev cX1_soldShare : ByteArray := prog_1_method_39_code
def yX1_soldShare : MethodName := ⟨RX1, "soldShare", "()F"⟩
def dkwX1_soldShare_1 : List UInt8 := [180, 0, 25, 180, 0, 166, 5, 184, 1, 31, 134, 27, 134, 110, 174]
abbrev dktX1_soldShare_1 : List UInt8 := dkwX1_soldShare_1 ++ []
def dkwX1_soldShare_0 : List UInt8 := [42, 180, 0, 25, 180, 0, 166, 182, 1, 30, 60, 27, 158, 0, 7, 4, 167, 0, 4, 3, 184, 1, 44, 42]
abbrev dktX1_soldShare_0 : List UInt8 := dkwX1_soldShare_0 ++ dktX1_soldShare_1
theorem dksX1_soldShare_0 : cX1_soldShare.data.toList.drop 0 = dktX1_soldShare_0 := by decide +kernel
theorem dksX1_soldShare_1 : cX1_soldShare.data.toList.drop 24 = dktX1_soldShare_1 := dk_seg dksX1_soldShare_0 24 rfl rfl
theorem dX1_soldShare_0 : decode cX1_soldShare 0 = .ok (.aload_n 0, 1) := dk_42 (dk_at dksX1_soldShare_0 0 rfl rfl)
theorem dX1_soldShare_1 : decode cX1_soldShare 1 = .ok (.getfield 25, 3) := dk_180 0 25 (dk_at dksX1_soldShare_0 1 rfl rfl)
theorem dX1_soldShare_4 : decode cX1_soldShare 4 = .ok (.getfield 166, 3) := dk_180 0 166 (dk_at dksX1_soldShare_0 4 rfl rfl)
theorem dX1_soldShare_7 : decode cX1_soldShare 7 = .ok (.invokevirtual 286, 3) := dk_182 1 30 (dk_at dksX1_soldShare_0 7 rfl rfl)
theorem dX1_soldShare_10 : decode cX1_soldShare 10 = .ok (.istore_n 1, 1) := dk_60 (dk_at dksX1_soldShare_0 10 rfl rfl)
theorem dX1_soldShare_11 : decode cX1_soldShare 11 = .ok (.iload_n 1, 1) := dk_27 (dk_at dksX1_soldShare_0 11 rfl rfl)
theorem dX1_soldShare_12 : decode cX1_soldShare 12 = .ok (.ifCond .le 7, 3) := dk_158 0 7 (dk_at dksX1_soldShare_0 12 rfl rfl)
theorem dX1_soldShare_15 : decode cX1_soldShare 15 = .ok (.iconst 1, 1) := dk_4 (dk_at dksX1_soldShare_0 15 rfl rfl)
theorem dX1_soldShare_16 : decode cX1_soldShare 16 = .ok (.goto 4, 3) := dk_167 0 4 (dk_at dksX1_soldShare_0 16 rfl rfl)
theorem dX1_soldShare_19 : decode cX1_soldShare 19 = .ok (.iconst 0, 1) := dk_3 (dk_at dksX1_soldShare_0 19 rfl rfl)
theorem dX1_soldShare_20 : decode cX1_soldShare 20 = .ok (.invokestatic 300, 3) := dk_184 1 44 (dk_at dksX1_soldShare_0 20 rfl rfl)
theorem dX1_soldShare_23 : decode cX1_soldShare 23 = .ok (.aload_n 0, 1) := dk_42 (dk_at dksX1_soldShare_0 23 rfl rfl)
theorem dX1_soldShare_24 : decode cX1_soldShare 24 = .ok (.getfield 25, 3) := dk_180 0 25 (dk_at dksX1_soldShare_1 0 rfl rfl)
theorem dX1_soldShare_27 : decode cX1_soldShare 27 = .ok (.getfield 166, 3) := dk_180 0 166 (dk_at dksX1_soldShare_1 3 rfl rfl)
theorem dX1_soldShare_30 : decode cX1_soldShare 30 = .ok (.iconst 2, 1) := dk_5 (dk_at dksX1_soldShare_1 6 rfl rfl)
theorem dX1_soldShare_31 : decode cX1_soldShare 31 = .ok (.invokestatic 287, 3) := dk_184 1 31 (dk_at dksX1_soldShare_1 7 rfl rfl)
theorem dX1_soldShare_34 : decode cX1_soldShare 34 = .ok (.i2f, 1) := dk_134 (dk_at dksX1_soldShare_1 10 rfl rfl)
theorem dX1_soldShare_35 : decode cX1_soldShare 35 = .ok (.iload_n 1, 1) := dk_27 (dk_at dksX1_soldShare_1 11 rfl rfl)
theorem dX1_soldShare_36 : decode cX1_soldShare 36 = .ok (.i2f, 1) := dk_134 (dk_at dksX1_soldShare_1 12 rfl rfl)
theorem dX1_soldShare_37 : decode cX1_soldShare 37 = .ok (.fdiv, 1) := dk_110 (dk_at dksX1_soldShare_1 13 rfl rfl)
theorem dX1_soldShare_38 : decode cX1_soldShare 38 = .ok (.freturn, 1) := dk_174 (dk_at dksX1_soldShare_1 14 rfl rfl)
abbrev cX1_append : ByteArray := prog_1_method_40_code
def yX1_append : MethodName := ⟨RX1, "append", "(I)I"⟩
def dkwX1_append_5 : List UInt8 := [182, 1, 54, 87, 132, 3, 248, 167, 255, 224, 42, 180, 0, 41, 182, 1, 43, 172]
abbrev dktX1_append_5 : List UInt8 := dkwX1_append_5 ++ []
def dkwX1_append_4 : List UInt8 := [155, 0, 34, 27, 29, 124, 17, 0, 255, 126, 54, 4, 21, 4, 153, 0, 14, 42, 180, 0, 41, 21, 4, 146]
abbrev dktX1_append_4 : List UInt8 := dkwX1_append_4 ++ dktX1_append_5
def dkwX1_append_3 : List UInt8 := [182, 1, 43, 28, 96, 16, 60, 163, 0, 7, 4, 167, 0, 4, 3, 184, 0, 197, 16, 24, 62, 29]
abbrev dktX1_append_3 : List UInt8 := dkwX1_append_3 ++ dktX1_append_4
def dkwX1_append_2 : List UInt8 := [21, 4, 154, 0, 7, 3, 167, 0, 4, 4, 96, 61, 132, 3, 248, 167, 255, 199, 42, 180, 0, 41]
abbrev dktX1_append_2 : List UInt8 := dkwX1_append_2 ++ dktX1_append_3
def dkwX1_append_1 : List UInt8 := [21, 4, 133, 20, 1, 50, 20, 1, 52, 184, 0, 185, 153, 0, 7, 4, 167, 0, 4, 3, 184, 0, 189, 28]
abbrev dktX1_append_1 : List UInt8 := dkwX1_append_1 ++ dktX1_append_2
def dkwX1_append_0 : List UInt8 := [3, 61, 16, 24, 62, 29, 155, 0, 59, 27, 29, 124, 17, 0, 255, 126, 54, 4, 21, 4, 153, 0, 18]
abbrev dktX1_append_0 : List UInt8 := dkwX1_append_0 ++ dktX1_append_1
theorem dksX1_append_0 : cX1_append.data.toList.drop 0 = dktX1_append_0 := by decide +kernel
theorem dksX1_append_1 : cX1_append.data.toList.drop 23 = dktX1_append_1 := dk_seg dksX1_append_0 23 rfl rfl
theorem dksX1_append_2 : cX1_append.data.toList.drop 47 = dktX1_append_2 := dk_seg dksX1_append_1 24 rfl rfl
theorem dksX1_append_3 : cX1_append.data.toList.drop 69 = dktX1_append_3 := dk_seg dksX1_append_2 22 rfl rfl
theorem dksX1_append_4 : cX1_append.data.toList.drop 91 = dktX1_append_4 := dk_seg dksX1_append_3 22 rfl rfl
theorem dksX1_append_5 : cX1_append.data.toList.drop 115 = dktX1_append_5 := dk_seg dksX1_append_4 24 rfl rfl
theorem dX1_append_0 : decode cX1_append 0 = .ok (.iconst 0, 1) := dk_3 (dk_at dksX1_append_0 0 rfl rfl)
theorem dX1_append_1 : decode cX1_append 1 = .ok (.istore_n 2, 1) := dk_61 (dk_at dksX1_append_0 1 rfl rfl)
theorem dX1_append_2 : decode cX1_append 2 = .ok (.bipush 24, 2) := dk_16 24 (dk_at dksX1_append_0 2 rfl rfl)
theorem dX1_append_4 : decode cX1_append 4 = .ok (.istore_n 3, 1) := dk_62 (dk_at dksX1_append_0 4 rfl rfl)
theorem dX1_append_5 : decode cX1_append 5 = .ok (.iload_n 3, 1) := dk_29 (dk_at dksX1_append_0 5 rfl rfl)
theorem dX1_append_6 : decode cX1_append 6 = .ok (.ifCond .lt 59, 3) := dk_155 0 59 (dk_at dksX1_append_0 6 rfl rfl)
theorem dX1_append_9 : decode cX1_append 9 = .ok (.iload_n 1, 1) := dk_27 (dk_at dksX1_append_0 9 rfl rfl)
theorem dX1_append_10 : decode cX1_append 10 = .ok (.iload_n 3, 1) := dk_29 (dk_at dksX1_append_0 10 rfl rfl)
theorem dX1_append_11 : decode cX1_append 11 = .ok (.iushr, 1) := dk_124 (dk_at dksX1_append_0 11 rfl rfl)
theorem dX1_append_12 : decode cX1_append 12 = .ok (.sipush 255, 3) := dk_17 0 255 (dk_at dksX1_append_0 12 rfl rfl)
theorem dX1_append_15 : decode cX1_append 15 = .ok (.iand, 1) := dk_126 (dk_at dksX1_append_0 15 rfl rfl)
theorem dX1_append_16 : decode cX1_append 16 = .ok (.istore 4, 2) := dk_54 4 (dk_at dksX1_append_0 16 rfl rfl)
theorem dX1_append_18 : decode cX1_append 18 = .ok (.iload 4, 2) := dk_21 4 (dk_at dksX1_append_0 18 rfl rfl)
theorem dX1_append_20 : decode cX1_append 20 = .ok (.ifCond .eq 18, 3) := dk_153 0 18 (dk_at dksX1_append_0 20 rfl rfl)
theorem dX1_append_23 : decode cX1_append 23 = .ok (.iload 4, 2) := dk_21 4 (dk_at dksX1_append_1 0 rfl rfl)
theorem dX1_append_25 : decode cX1_append 25 = .ok (.i2l, 1) := dk_133 (dk_at dksX1_append_1 2 rfl rfl)
theorem dX1_append_26 : decode cX1_append 26 = .ok (.ldc2_w 306, 3) := dk_20 1 50 (dk_at dksX1_append_1 3 rfl rfl)
theorem dX1_append_29 : decode cX1_append 29 = .ok (.ldc2_w 308, 3) := dk_20 1 52 (dk_at dksX1_append_1 6 rfl rfl)
theorem dX1_append_32 : decode cX1_append 32 = .ok (.invokestatic 185, 3) := dk_184 0 185 (dk_at dksX1_append_1 9 rfl rfl)
theorem dX1_append_35 : decode cX1_append 35 = .ok (.ifCond .eq 7, 3) := dk_153 0 7 (dk_at dksX1_append_1 12 rfl rfl)
theorem dX1_append_38 : decode cX1_append 38 = .ok (.iconst 1, 1) := dk_4 (dk_at dksX1_append_1 15 rfl rfl)
theorem dX1_append_39 : decode cX1_append 39 = .ok (.goto 4, 3) := dk_167 0 4 (dk_at dksX1_append_1 16 rfl rfl)
theorem dX1_append_42 : decode cX1_append 42 = .ok (.iconst 0, 1) := dk_3 (dk_at dksX1_append_1 19 rfl rfl)
theorem dX1_append_43 : decode cX1_append 43 = .ok (.invokestatic 189, 3) := dk_184 0 189 (dk_at dksX1_append_1 20 rfl rfl)
theorem dX1_append_46 : decode cX1_append 46 = .ok (.iload_n 2, 1) := dk_28 (dk_at dksX1_append_1 23 rfl rfl)
theorem dX1_append_47 : decode cX1_append 47 = .ok (.iload 4, 2) := dk_21 4 (dk_at dksX1_append_2 0 rfl rfl)
theorem dX1_append_49 : decode cX1_append 49 = .ok (.ifCond .ne 7, 3) := dk_154 0 7 (dk_at dksX1_append_2 2 rfl rfl)
theorem dX1_append_52 : decode cX1_append 52 = .ok (.iconst 0, 1) := dk_3 (dk_at dksX1_append_2 5 rfl rfl)
theorem dX1_append_53 : decode cX1_append 53 = .ok (.goto 4, 3) := dk_167 0 4 (dk_at dksX1_append_2 6 rfl rfl)
theorem dX1_append_56 : decode cX1_append 56 = .ok (.iconst 1, 1) := dk_4 (dk_at dksX1_append_2 9 rfl rfl)
theorem dX1_append_57 : decode cX1_append 57 = .ok (.iadd, 1) := dk_96 (dk_at dksX1_append_2 10 rfl rfl)
theorem dX1_append_58 : decode cX1_append 58 = .ok (.istore_n 2, 1) := dk_61 (dk_at dksX1_append_2 11 rfl rfl)
theorem dX1_append_59 : decode cX1_append 59 = .ok (.iinc 3 (-8), 3) := dk_132 3 248 (dk_at dksX1_append_2 12 rfl rfl)
theorem dX1_append_62 : decode cX1_append 62 = .ok (.goto (-57), 3) := dk_167 255 199 (dk_at dksX1_append_2 15 rfl rfl)
theorem dX1_append_65 : decode cX1_append 65 = .ok (.aload_n 0, 1) := dk_42 (dk_at dksX1_append_2 18 rfl rfl)
theorem dX1_append_66 : decode cX1_append 66 = .ok (.getfield 41, 3) := dk_180 0 41 (dk_at dksX1_append_2 19 rfl rfl)
theorem dX1_append_69 : decode cX1_append 69 = .ok (.invokevirtual 299, 3) := dk_182 1 43 (dk_at dksX1_append_3 0 rfl rfl)
theorem dX1_append_72 : decode cX1_append 72 = .ok (.iload_n 2, 1) := dk_28 (dk_at dksX1_append_3 3 rfl rfl)
theorem dX1_append_73 : decode cX1_append 73 = .ok (.iadd, 1) := dk_96 (dk_at dksX1_append_3 4 rfl rfl)
theorem dX1_append_74 : decode cX1_append 74 = .ok (.bipush 60, 2) := dk_16 60 (dk_at dksX1_append_3 5 rfl rfl)
theorem dX1_append_76 : decode cX1_append 76 = .ok (.if_icmp .gt 7, 3) := dk_163 0 7 (dk_at dksX1_append_3 7 rfl rfl)
theorem dX1_append_79 : decode cX1_append 79 = .ok (.iconst 1, 1) := dk_4 (dk_at dksX1_append_3 10 rfl rfl)
theorem dX1_append_80 : decode cX1_append 80 = .ok (.goto 4, 3) := dk_167 0 4 (dk_at dksX1_append_3 11 rfl rfl)
theorem dX1_append_83 : decode cX1_append 83 = .ok (.iconst 0, 1) := dk_3 (dk_at dksX1_append_3 14 rfl rfl)
theorem dX1_append_84 : decode cX1_append 84 = .ok (.invokestatic 197, 3) := dk_184 0 197 (dk_at dksX1_append_3 15 rfl rfl)
theorem dX1_append_87 : decode cX1_append 87 = .ok (.bipush 24, 2) := dk_16 24 (dk_at dksX1_append_3 18 rfl rfl)
theorem dX1_append_89 : decode cX1_append 89 = .ok (.istore_n 3, 1) := dk_62 (dk_at dksX1_append_3 20 rfl rfl)
theorem dX1_append_90 : decode cX1_append 90 = .ok (.iload_n 3, 1) := dk_29 (dk_at dksX1_append_3 21 rfl rfl)
theorem dX1_append_91 : decode cX1_append 91 = .ok (.ifCond .lt 34, 3) := dk_155 0 34 (dk_at dksX1_append_4 0 rfl rfl)
theorem dX1_append_94 : decode cX1_append 94 = .ok (.iload_n 1, 1) := dk_27 (dk_at dksX1_append_4 3 rfl rfl)
theorem dX1_append_95 : decode cX1_append 95 = .ok (.iload_n 3, 1) := dk_29 (dk_at dksX1_append_4 4 rfl rfl)
theorem dX1_append_96 : decode cX1_append 96 = .ok (.iushr, 1) := dk_124 (dk_at dksX1_append_4 5 rfl rfl)
theorem dX1_append_97 : decode cX1_append 97 = .ok (.sipush 255, 3) := dk_17 0 255 (dk_at dksX1_append_4 6 rfl rfl)
theorem dX1_append_100 : decode cX1_append 100 = .ok (.iand, 1) := dk_126 (dk_at dksX1_append_4 9 rfl rfl)
theorem dX1_append_101 : decode cX1_append 101 = .ok (.istore 4, 2) := dk_54 4 (dk_at dksX1_append_4 10 rfl rfl)
theorem dX1_append_103 : decode cX1_append 103 = .ok (.iload 4, 2) := dk_21 4 (dk_at dksX1_append_4 12 rfl rfl)
theorem dX1_append_105 : decode cX1_append 105 = .ok (.ifCond .eq 14, 3) := dk_153 0 14 (dk_at dksX1_append_4 14 rfl rfl)
theorem dX1_append_108 : decode cX1_append 108 = .ok (.aload_n 0, 1) := dk_42 (dk_at dksX1_append_4 17 rfl rfl)
theorem dX1_append_109 : decode cX1_append 109 = .ok (.getfield 41, 3) := dk_180 0 41 (dk_at dksX1_append_4 18 rfl rfl)
theorem dX1_append_112 : decode cX1_append 112 = .ok (.iload 4, 2) := dk_21 4 (dk_at dksX1_append_4 21 rfl rfl)
theorem dX1_append_114 : decode cX1_append 114 = .ok (.i2c, 1) := dk_146 (dk_at dksX1_append_4 23 rfl rfl)
theorem dX1_append_115 : decode cX1_append 115 = .ok (.invokevirtual 310, 3) := dk_182 1 54 (dk_at dksX1_append_5 0 rfl rfl)
theorem dX1_append_118 : decode cX1_append 118 = .ok (.pop, 1) := dk_87 (dk_at dksX1_append_5 3 rfl rfl)
theorem dX1_append_119 : decode cX1_append 119 = .ok (.iinc 3 (-8), 3) := dk_132 3 248 (dk_at dksX1_append_5 4 rfl rfl)
theorem dX1_append_122 : decode cX1_append 122 = .ok (.goto (-32), 3) := dk_167 255 224 (dk_at dksX1_append_5 7 rfl rfl)
theorem dX1_append_125 : decode cX1_append 125 = .ok (.aload_n 0, 1) := dk_42 (dk_at dksX1_append_5 10 rfl rfl)
theorem dX1_append_126 : decode cX1_append 126 = .ok (.getfield 41, 3) := dk_180 0 41 (dk_at dksX1_append_5 11 rfl rfl)
theorem dX1_append_129 : decode cX1_append 129 = .ok (.invokevirtual 299, 3) := dk_182 1 43 (dk_at dksX1_append_5 14 rfl rfl)
theorem dX1_append_132 : decode cX1_append 132 = .ok (.ireturn, 1) := dk_172 (dk_at dksX1_append_5 17 rfl rfl)
abbrev cX1_read : ByteArray := prog_1_method_42_code
def yX1_read : MethodName := ⟨RX1, "read", "()I"⟩
def dkwX1_read_4 : List UInt8 := [183, 0, 88, 191, 42, 44, 182, 0, 89, 29, 172]
abbrev dktX1_read_4 : List UInt8 := dkwX1_read_4 ++ []
def dkwX1_read_3 : List UInt8 := [181, 0, 82, 187, 0, 86, 89, 183, 0, 88, 191, 58, 4, 42, 29, 181, 0, 51, 187, 0, 86, 89]
abbrev dktX1_read_3 : List UInt8 := dkwX1_read_3 ++ dktX1_read_4
def dkwX1_read_2 : List UInt8 := [182, 0, 76, 54, 6, 132, 3, 1, 167, 255, 223, 167, 0, 39, 58, 4, 42, 29, 181, 0, 51, 42, 25, 4]
abbrev dktX1_read_2 : List UInt8 := dkwX1_read_2 ++ dktX1_read_3
def dkwX1_read_1 : List UInt8 := [185, 1, 82, 1, 0, 153, 0, 29, 25, 4, 185, 1, 88, 1, 0, 192, 0, 71, 58, 5, 25, 5, 44]
abbrev dktX1_read_1 : List UInt8 := dkwX1_read_1 ++ dktX1_read_2
def dkwX1_read_0 : List UInt8 := [42, 182, 1, 73, 76, 42, 180, 0, 25, 182, 0, 67, 77, 3, 62, 43, 182, 1, 76, 58, 4, 25, 4]
abbrev dktX1_read_0 : List UInt8 := dkwX1_read_0 ++ dktX1_read_1
theorem dksX1_read_0 : cX1_read.data.toList.drop 0 = dktX1_read_0 := by decide +kernel
theorem dksX1_read_1 : cX1_read.data.toList.drop 23 = dktX1_read_1 := dk_seg dksX1_read_0 23 rfl rfl
theorem dksX1_read_2 : cX1_read.data.toList.drop 46 = dktX1_read_2 := dk_seg dksX1_read_1 23 rfl rfl
theorem dksX1_read_3 : cX1_read.data.toList.drop 70 = dktX1_read_3 := dk_seg dksX1_read_2 24 rfl rfl
theorem dksX1_read_4 : cX1_read.data.toList.drop 92 = dktX1_read_4 := dk_seg dksX1_read_3 22 rfl rfl
theorem dX1_read_0 : decode cX1_read 0 = .ok (.aload_n 0, 1) := dk_42 (dk_at dksX1_read_0 0 rfl rfl)
theorem dX1_read_1 : decode cX1_read 1 = .ok (.invokevirtual 329, 3) := dk_182 1 73 (dk_at dksX1_read_0 1 rfl rfl)
theorem dX1_read_4 : decode cX1_read 4 = .ok (.astore_n 1, 1) := dk_76 (dk_at dksX1_read_0 4 rfl rfl)
theorem dX1_read_5 : decode cX1_read 5 = .ok (.aload_n 0, 1) := dk_42 (dk_at dksX1_read_0 5 rfl rfl)
theorem dX1_read_6 : decode cX1_read 6 = .ok (.getfield 25, 3) := dk_180 0 25 (dk_at dksX1_read_0 6 rfl rfl)
theorem dX1_read_9 : decode cX1_read 9 = .ok (.invokevirtual 67, 3) := dk_182 0 67 (dk_at dksX1_read_0 9 rfl rfl)
theorem dX1_read_12 : decode cX1_read 12 = .ok (.astore_n 2, 1) := dk_77 (dk_at dksX1_read_0 12 rfl rfl)
theorem dX1_read_13 : decode cX1_read 13 = .ok (.iconst 0, 1) := dk_3 (dk_at dksX1_read_0 13 rfl rfl)
theorem dX1_read_14 : decode cX1_read 14 = .ok (.istore_n 3, 1) := dk_62 (dk_at dksX1_read_0 14 rfl rfl)
theorem dX1_read_15 : decode cX1_read 15 = .ok (.aload_n 1, 1) := dk_43 (dk_at dksX1_read_0 15 rfl rfl)
theorem dX1_read_16 : decode cX1_read 16 = .ok (.invokevirtual 332, 3) := dk_182 1 76 (dk_at dksX1_read_0 16 rfl rfl)
theorem dX1_read_19 : decode cX1_read 19 = .ok (.astore 4, 2) := dk_58 4 (dk_at dksX1_read_0 19 rfl rfl)
theorem dX1_read_21 : decode cX1_read 21 = .ok (.aload 4, 2) := dk_25 4 (dk_at dksX1_read_0 21 rfl rfl)
theorem dX1_read_23 : decode cX1_read 23 = .ok (.invokeinterface 338 1, 5) := by decide +kernel
theorem dX1_read_28 : decode cX1_read 28 = .ok (.ifCond .eq 29, 3) := dk_153 0 29 (dk_at dksX1_read_1 5 rfl rfl)
theorem dX1_read_31 : decode cX1_read 31 = .ok (.aload 4, 2) := dk_25 4 (dk_at dksX1_read_1 8 rfl rfl)
theorem dX1_read_33 : decode cX1_read 33 = .ok (.invokeinterface 344 1, 5) := by decide +kernel
theorem dX1_read_38 : decode cX1_read 38 = .ok (.checkcast 71, 3) := dk_192 0 71 (dk_at dksX1_read_1 15 rfl rfl)
theorem dX1_read_41 : decode cX1_read 41 = .ok (.astore 5, 2) := dk_58 5 (dk_at dksX1_read_1 18 rfl rfl)
theorem dX1_read_43 : decode cX1_read 43 = .ok (.aload 5, 2) := dk_25 5 (dk_at dksX1_read_1 20 rfl rfl)
theorem dX1_read_45 : decode cX1_read 45 = .ok (.aload_n 2, 1) := dk_44 (dk_at dksX1_read_1 22 rfl rfl)
theorem dX1_read_46 : decode cX1_read 46 = .ok (.invokevirtual 76, 3) := dk_182 0 76 (dk_at dksX1_read_2 0 rfl rfl)
theorem dX1_read_49 : decode cX1_read 49 = .ok (.istore 6, 2) := dk_54 6 (dk_at dksX1_read_2 3 rfl rfl)
theorem dX1_read_51 : decode cX1_read 51 = .ok (.iinc 3 1, 3) := dk_132 3 1 (dk_at dksX1_read_2 5 rfl rfl)
theorem dX1_read_54 : decode cX1_read 54 = .ok (.goto (-33), 3) := dk_167 255 223 (dk_at dksX1_read_2 8 rfl rfl)
theorem dX1_read_57 : decode cX1_read 57 = .ok (.goto 39, 3) := dk_167 0 39 (dk_at dksX1_read_2 11 rfl rfl)
theorem dX1_read_60 : decode cX1_read 60 = .ok (.astore 4, 2) := dk_58 4 (dk_at dksX1_read_2 14 rfl rfl)
theorem dX1_read_62 : decode cX1_read 62 = .ok (.aload_n 0, 1) := dk_42 (dk_at dksX1_read_2 16 rfl rfl)
theorem dX1_read_63 : decode cX1_read 63 = .ok (.iload_n 3, 1) := dk_29 (dk_at dksX1_read_2 17 rfl rfl)
theorem dX1_read_64 : decode cX1_read 64 = .ok (.putfield 51, 3) := dk_181 0 51 (dk_at dksX1_read_2 18 rfl rfl)
theorem dX1_read_67 : decode cX1_read 67 = .ok (.aload_n 0, 1) := dk_42 (dk_at dksX1_read_2 21 rfl rfl)
theorem dX1_read_68 : decode cX1_read 68 = .ok (.aload 4, 2) := dk_25 4 (dk_at dksX1_read_2 22 rfl rfl)
theorem dX1_read_70 : decode cX1_read 70 = .ok (.putfield 82, 3) := dk_181 0 82 (dk_at dksX1_read_3 0 rfl rfl)
theorem dX1_read_73 : decode cX1_read 73 = .ok (.new 86, 3) := dk_187 0 86 (dk_at dksX1_read_3 3 rfl rfl)
theorem dX1_read_76 : decode cX1_read 76 = .ok (.dup, 1) := dk_89 (dk_at dksX1_read_3 6 rfl rfl)
theorem dX1_read_77 : decode cX1_read 77 = .ok (.invokespecial 88, 3) := dk_183 0 88 (dk_at dksX1_read_3 7 rfl rfl)
theorem dX1_read_80 : decode cX1_read 80 = .ok (.athrow, 1) := dk_191 (dk_at dksX1_read_3 10 rfl rfl)
theorem dX1_read_81 : decode cX1_read 81 = .ok (.astore 4, 2) := dk_58 4 (dk_at dksX1_read_3 11 rfl rfl)
theorem dX1_read_83 : decode cX1_read 83 = .ok (.aload_n 0, 1) := dk_42 (dk_at dksX1_read_3 13 rfl rfl)
theorem dX1_read_84 : decode cX1_read 84 = .ok (.iload_n 3, 1) := dk_29 (dk_at dksX1_read_3 14 rfl rfl)
theorem dX1_read_85 : decode cX1_read 85 = .ok (.putfield 51, 3) := dk_181 0 51 (dk_at dksX1_read_3 15 rfl rfl)
theorem dX1_read_88 : decode cX1_read 88 = .ok (.new 86, 3) := dk_187 0 86 (dk_at dksX1_read_3 18 rfl rfl)
theorem dX1_read_91 : decode cX1_read 91 = .ok (.dup, 1) := dk_89 (dk_at dksX1_read_3 21 rfl rfl)
theorem dX1_read_92 : decode cX1_read 92 = .ok (.invokespecial 88, 3) := dk_183 0 88 (dk_at dksX1_read_4 0 rfl rfl)
theorem dX1_read_95 : decode cX1_read 95 = .ok (.athrow, 1) := dk_191 (dk_at dksX1_read_4 3 rfl rfl)
theorem dX1_read_96 : decode cX1_read 96 = .ok (.aload_n 0, 1) := dk_42 (dk_at dksX1_read_4 4 rfl rfl)
theorem dX1_read_97 : decode cX1_read 97 = .ok (.aload_n 2, 1) := dk_44 (dk_at dksX1_read_4 5 rfl rfl)
theorem dX1_read_98 : decode cX1_read 98 = .ok (.invokevirtual 89, 3) := dk_182 0 89 (dk_at dksX1_read_4 6 rfl rfl)
theorem dX1_read_101 : decode cX1_read 101 = .ok (.iload_n 3, 1) := dk_29 (dk_at dksX1_read_4 9 rfl rfl)
theorem dX1_read_102 : decode cX1_read 102 = .ok (.ireturn, 1) := dk_172 (dk_at dksX1_read_4 10 rfl rfl)
abbrev cX1_takeOrders : ByteArray := prog_1_method_41_code
def yX1_takeOrders : MethodName := ⟨RX1, "takeOrders", "()Ljava/util/ArrayList;"⟩
def dkwX1_takeOrders_1 : List UInt8 := [182, 1, 63, 176, 77, 42, 44, 181, 1, 69, 187, 0, 1, 89, 183, 0, 3, 191]
abbrev dktX1_takeOrders_1 : List UInt8 := dkwX1_takeOrders_1 ++ []
def dkwX1_takeOrders_0 : List UInt8 := [187, 1, 58, 89, 42, 180, 0, 41, 183, 1, 60, 76, 42, 187, 0, 38, 89, 183, 0, 40, 181, 0, 41, 43]
abbrev dktX1_takeOrders_0 : List UInt8 := dkwX1_takeOrders_0 ++ dktX1_takeOrders_1
theorem dksX1_takeOrders_0 : cX1_takeOrders.data.toList.drop 0 = dktX1_takeOrders_0 := by decide +kernel
theorem dksX1_takeOrders_1 : cX1_takeOrders.data.toList.drop 24 = dktX1_takeOrders_1 := dk_seg dksX1_takeOrders_0 24 rfl rfl
theorem dX1_takeOrders_0 : decode cX1_takeOrders 0 = .ok (.new 314, 3) := dk_187 1 58 (dk_at dksX1_takeOrders_0 0 rfl rfl)
theorem dX1_takeOrders_3 : decode cX1_takeOrders 3 = .ok (.dup, 1) := dk_89 (dk_at dksX1_takeOrders_0 3 rfl rfl)
theorem dX1_takeOrders_4 : decode cX1_takeOrders 4 = .ok (.aload_n 0, 1) := dk_42 (dk_at dksX1_takeOrders_0 4 rfl rfl)
theorem dX1_takeOrders_5 : decode cX1_takeOrders 5 = .ok (.getfield 41, 3) := dk_180 0 41 (dk_at dksX1_takeOrders_0 5 rfl rfl)
theorem dX1_takeOrders_8 : decode cX1_takeOrders 8 = .ok (.invokespecial 316, 3) := dk_183 1 60 (dk_at dksX1_takeOrders_0 8 rfl rfl)
theorem dX1_takeOrders_11 : decode cX1_takeOrders 11 = .ok (.astore_n 1, 1) := dk_76 (dk_at dksX1_takeOrders_0 11 rfl rfl)
theorem dX1_takeOrders_12 : decode cX1_takeOrders 12 = .ok (.aload_n 0, 1) := dk_42 (dk_at dksX1_takeOrders_0 12 rfl rfl)
theorem dX1_takeOrders_13 : decode cX1_takeOrders 13 = .ok (.new 38, 3) := dk_187 0 38 (dk_at dksX1_takeOrders_0 13 rfl rfl)
theorem dX1_takeOrders_16 : decode cX1_takeOrders 16 = .ok (.dup, 1) := dk_89 (dk_at dksX1_takeOrders_0 16 rfl rfl)
theorem dX1_takeOrders_17 : decode cX1_takeOrders 17 = .ok (.invokespecial 40, 3) := dk_183 0 40 (dk_at dksX1_takeOrders_0 17 rfl rfl)
theorem dX1_takeOrders_20 : decode cX1_takeOrders 20 = .ok (.putfield 41, 3) := dk_181 0 41 (dk_at dksX1_takeOrders_0 20 rfl rfl)
theorem dX1_takeOrders_23 : decode cX1_takeOrders 23 = .ok (.aload_n 1, 1) := dk_43 (dk_at dksX1_takeOrders_0 23 rfl rfl)
theorem dX1_takeOrders_24 : decode cX1_takeOrders 24 = .ok (.invokevirtual 319, 3) := dk_182 1 63 (dk_at dksX1_takeOrders_1 0 rfl rfl)
theorem dX1_takeOrders_27 : decode cX1_takeOrders 27 = .ok (.areturn, 1) := dk_176 (dk_at dksX1_takeOrders_1 3 rfl rfl)
theorem dX1_takeOrders_28 : decode cX1_takeOrders 28 = .ok (.astore_n 2, 1) := dk_77 (dk_at dksX1_takeOrders_1 4 rfl rfl)
theorem dX1_takeOrders_29 : decode cX1_takeOrders 29 = .ok (.aload_n 0, 1) := dk_42 (dk_at dksX1_takeOrders_1 5 rfl rfl)
theorem dX1_takeOrders_30 : decode cX1_takeOrders 30 = .ok (.aload_n 2, 1) := dk_44 (dk_at dksX1_takeOrders_1 6 rfl rfl)
theorem dX1_takeOrders_31 : decode cX1_takeOrders 31 = .ok (.putfield 325, 3) := dk_181 1 69 (dk_at dksX1_takeOrders_1 7 rfl rfl)
theorem dX1_takeOrders_34 : decode cX1_takeOrders 34 = .ok (.new 1, 3) := dk_187 0 1 (dk_at dksX1_takeOrders_1 10 rfl rfl)
theorem dX1_takeOrders_37 : decode cX1_takeOrders 37 = .ok (.dup, 1) := dk_89 (dk_at dksX1_takeOrders_1 13 rfl rfl)
theorem dX1_takeOrders_38 : decode cX1_takeOrders 38 = .ok (.invokespecial 3, 3) := dk_183 0 3 (dk_at dksX1_takeOrders_1 14 rfl rfl)
theorem dX1_takeOrders_41 : decode cX1_takeOrders 41 = .ok (.athrow, 1) := dk_191 (dk_at dksX1_takeOrders_1 17 rfl rfl)
abbrev cX1_errorPosition : ByteArray := prog_1_method_43_code
def yX1_errorPosition : MethodName := ⟨RX1, "errorPosition", "()I"⟩
def dkwX1_errorPosition_0 : List UInt8 := [42, 180, 1, 69, 198, 0, 7, 4, 167, 0, 4, 3, 184, 0, 206, 42, 180, 1, 69, 180, 1, 91, 172]
abbrev dktX1_errorPosition_0 : List UInt8 := dkwX1_errorPosition_0 ++ []
theorem dksX1_errorPosition_0 : cX1_errorPosition.data.toList.drop 0 = dktX1_errorPosition_0 := by decide +kernel
theorem dX1_errorPosition_0 : decode cX1_errorPosition 0 = .ok (.aload_n 0, 1) := dk_42 (dk_at dksX1_errorPosition_0 0 rfl rfl)
theorem dX1_errorPosition_1 : decode cX1_errorPosition 1 = .ok (.getfield 325, 3) := dk_180 1 69 (dk_at dksX1_errorPosition_0 1 rfl rfl)
theorem dX1_errorPosition_4 : decode cX1_errorPosition 4 = .ok (.ifnull 7, 3) := dk_198 0 7 (dk_at dksX1_errorPosition_0 4 rfl rfl)
theorem dX1_errorPosition_7 : decode cX1_errorPosition 7 = .ok (.iconst 1, 1) := dk_4 (dk_at dksX1_errorPosition_0 7 rfl rfl)
theorem dX1_errorPosition_8 : decode cX1_errorPosition 8 = .ok (.goto 4, 3) := dk_167 0 4 (dk_at dksX1_errorPosition_0 8 rfl rfl)
theorem dX1_errorPosition_11 : decode cX1_errorPosition 11 = .ok (.iconst 0, 1) := dk_3 (dk_at dksX1_errorPosition_0 11 rfl rfl)
theorem dX1_errorPosition_12 : decode cX1_errorPosition 12 = .ok (.invokestatic 206, 3) := dk_184 0 206 (dk_at dksX1_errorPosition_0 12 rfl rfl)
theorem dX1_errorPosition_15 : decode cX1_errorPosition 15 = .ok (.aload_n 0, 1) := dk_42 (dk_at dksX1_errorPosition_0 15 rfl rfl)
theorem dX1_errorPosition_16 : decode cX1_errorPosition 16 = .ok (.getfield 325, 3) := dk_180 1 69 (dk_at dksX1_errorPosition_0 16 rfl rfl)
theorem dX1_errorPosition_19 : decode cX1_errorPosition 19 = .ok (.getfield 347, 3) := dk_180 1 91 (dk_at dksX1_errorPosition_0 19 rfl rfl)
theorem dX1_errorPosition_22 : decode cX1_errorPosition 22 = .ok (.ireturn, 1) := dk_172 (dk_at dksX1_errorPosition_0 22 rfl rfl)
abbrev cX1_refusedItem : ByteArray := prog_1_method_44_code
def yX1_refusedItem : MethodName := ⟨RX1, "refusedItem", "()I"⟩
def dkwX1_refusedItem_0 : List UInt8 := [42, 180, 0, 51, 2, 159, 0, 7, 4, 167, 0, 4, 3, 184, 0, 206, 42, 180, 0, 51, 172]
abbrev dktX1_refusedItem_0 : List UInt8 := dkwX1_refusedItem_0 ++ []
theorem dksX1_refusedItem_0 : cX1_refusedItem.data.toList.drop 0 = dktX1_refusedItem_0 := by decide +kernel
theorem dX1_refusedItem_0 : decode cX1_refusedItem 0 = .ok (.aload_n 0, 1) := dk_42 (dk_at dksX1_refusedItem_0 0 rfl rfl)
theorem dX1_refusedItem_1 : decode cX1_refusedItem 1 = .ok (.getfield 51, 3) := dk_180 0 51 (dk_at dksX1_refusedItem_0 1 rfl rfl)
theorem dX1_refusedItem_4 : decode cX1_refusedItem 4 = .ok (.iconst (-1), 1) := dk_2 (dk_at dksX1_refusedItem_0 4 rfl rfl)
theorem dX1_refusedItem_5 : decode cX1_refusedItem 5 = .ok (.if_icmp .eq 7, 3) := dk_159 0 7 (dk_at dksX1_refusedItem_0 5 rfl rfl)
theorem dX1_refusedItem_8 : decode cX1_refusedItem 8 = .ok (.iconst 1, 1) := dk_4 (dk_at dksX1_refusedItem_0 8 rfl rfl)
theorem dX1_refusedItem_9 : decode cX1_refusedItem 9 = .ok (.goto 4, 3) := dk_167 0 4 (dk_at dksX1_refusedItem_0 9 rfl rfl)
theorem dX1_refusedItem_12 : decode cX1_refusedItem 12 = .ok (.iconst 0, 1) := dk_3 (dk_at dksX1_refusedItem_0 12 rfl rfl)
theorem dX1_refusedItem_13 : decode cX1_refusedItem 13 = .ok (.invokestatic 206, 3) := dk_184 0 206 (dk_at dksX1_refusedItem_0 13 rfl rfl)
theorem dX1_refusedItem_16 : decode cX1_refusedItem 16 = .ok (.aload_n 0, 1) := dk_42 (dk_at dksX1_refusedItem_0 16 rfl rfl)
theorem dX1_refusedItem_17 : decode cX1_refusedItem 17 = .ok (.getfield 51, 3) := dk_180 0 51 (dk_at dksX1_refusedItem_0 17 rfl rfl)
theorem dX1_refusedItem_20 : decode cX1_refusedItem 20 = .ok (.ireturn, 1) := dk_172 (dk_at dksX1_refusedItem_0 20 rfl rfl)
abbrev cX1_undo : ByteArray := prog_1_method_45_code
def yX1_undo : MethodName := ⟨RX1, "undo", "()I"⟩
def dkwX1_undo_1 : List UInt8 := [182, 1, 97, 192, 0, 22, 181, 0, 25, 42, 180, 0, 34, 182, 0, 55, 172]
abbrev dktX1_undo_1 : List UInt8 := dkwX1_undo_1 ++ []
def dkwX1_undo_0 : List UInt8 := [42, 180, 0, 34, 182, 1, 94, 154, 0, 7, 4, 167, 0, 4, 3, 184, 0, 197, 42, 42, 180, 0, 34]
abbrev dktX1_undo_0 : List UInt8 := dkwX1_undo_0 ++ dktX1_undo_1
theorem dksX1_undo_0 : cX1_undo.data.toList.drop 0 = dktX1_undo_0 := by decide +kernel
theorem dksX1_undo_1 : cX1_undo.data.toList.drop 23 = dktX1_undo_1 := dk_seg dksX1_undo_0 23 rfl rfl
theorem dX1_undo_0 : decode cX1_undo 0 = .ok (.aload_n 0, 1) := dk_42 (dk_at dksX1_undo_0 0 rfl rfl)
theorem dX1_undo_1 : decode cX1_undo 1 = .ok (.getfield 34, 3) := dk_180 0 34 (dk_at dksX1_undo_0 1 rfl rfl)
theorem dX1_undo_4 : decode cX1_undo 4 = .ok (.invokevirtual 350, 3) := dk_182 1 94 (dk_at dksX1_undo_0 4 rfl rfl)
theorem dX1_undo_7 : decode cX1_undo 7 = .ok (.ifCond .ne 7, 3) := dk_154 0 7 (dk_at dksX1_undo_0 7 rfl rfl)
theorem dX1_undo_10 : decode cX1_undo 10 = .ok (.iconst 1, 1) := dk_4 (dk_at dksX1_undo_0 10 rfl rfl)
theorem dX1_undo_11 : decode cX1_undo 11 = .ok (.goto 4, 3) := dk_167 0 4 (dk_at dksX1_undo_0 11 rfl rfl)
theorem dX1_undo_14 : decode cX1_undo 14 = .ok (.iconst 0, 1) := dk_3 (dk_at dksX1_undo_0 14 rfl rfl)
theorem dX1_undo_15 : decode cX1_undo 15 = .ok (.invokestatic 197, 3) := dk_184 0 197 (dk_at dksX1_undo_0 15 rfl rfl)
theorem dX1_undo_18 : decode cX1_undo 18 = .ok (.aload_n 0, 1) := dk_42 (dk_at dksX1_undo_0 18 rfl rfl)
theorem dX1_undo_19 : decode cX1_undo 19 = .ok (.aload_n 0, 1) := dk_42 (dk_at dksX1_undo_0 19 rfl rfl)
theorem dX1_undo_20 : decode cX1_undo 20 = .ok (.getfield 34, 3) := dk_180 0 34 (dk_at dksX1_undo_0 20 rfl rfl)
theorem dX1_undo_23 : decode cX1_undo 23 = .ok (.invokevirtual 353, 3) := dk_182 1 97 (dk_at dksX1_undo_1 0 rfl rfl)
theorem dX1_undo_26 : decode cX1_undo 26 = .ok (.checkcast 22, 3) := dk_192 0 22 (dk_at dksX1_undo_1 3 rfl rfl)
theorem dX1_undo_29 : decode cX1_undo 29 = .ok (.putfield 25, 3) := dk_181 0 25 (dk_at dksX1_undo_1 6 rfl rfl)
theorem dX1_undo_32 : decode cX1_undo 32 = .ok (.aload_n 0, 1) := dk_42 (dk_at dksX1_undo_1 9 rfl rfl)
theorem dX1_undo_33 : decode cX1_undo 33 = .ok (.getfield 34, 3) := dk_180 0 34 (dk_at dksX1_undo_1 10 rfl rfl)
theorem dX1_undo_36 : decode cX1_undo 36 = .ok (.invokevirtual 55, 3) := dk_182 0 55 (dk_at dksX1_undo_1 13 rfl rfl)
theorem dX1_undo_39 : decode cX1_undo 39 = .ok (.ireturn, 1) := dk_172 (dk_at dksX1_undo_1 16 rfl rfl)
abbrev cX1_restore : ByteArray := prog_1_method_47_code
def yX1_restore : MethodName := ⟨RX1, "restore", "()I"⟩
def dkwX1_restore_1 : List UInt8 := [180, 0, 34, 182, 0, 96, 42, 180, 0, 25, 180, 0, 93, 172]
abbrev dktX1_restore_1 : List UInt8 := dkwX1_restore_1 ++ []
def dkwX1_restore_0 : List UInt8 := [42, 180, 1, 100, 198, 0, 7, 4, 167, 0, 4, 3, 184, 0, 197, 42, 42, 180, 1, 100, 181, 0, 25, 42]
abbrev dktX1_restore_0 : List UInt8 := dkwX1_restore_0 ++ dktX1_restore_1
theorem dksX1_restore_0 : cX1_restore.data.toList.drop 0 = dktX1_restore_0 := by decide +kernel
theorem dksX1_restore_1 : cX1_restore.data.toList.drop 24 = dktX1_restore_1 := dk_seg dksX1_restore_0 24 rfl rfl
theorem dX1_restore_0 : decode cX1_restore 0 = .ok (.aload_n 0, 1) := dk_42 (dk_at dksX1_restore_0 0 rfl rfl)
theorem dX1_restore_1 : decode cX1_restore 1 = .ok (.getfield 356, 3) := dk_180 1 100 (dk_at dksX1_restore_0 1 rfl rfl)
theorem dX1_restore_4 : decode cX1_restore 4 = .ok (.ifnull 7, 3) := dk_198 0 7 (dk_at dksX1_restore_0 4 rfl rfl)
theorem dX1_restore_7 : decode cX1_restore 7 = .ok (.iconst 1, 1) := dk_4 (dk_at dksX1_restore_0 7 rfl rfl)
theorem dX1_restore_8 : decode cX1_restore 8 = .ok (.goto 4, 3) := dk_167 0 4 (dk_at dksX1_restore_0 8 rfl rfl)
theorem dX1_restore_11 : decode cX1_restore 11 = .ok (.iconst 0, 1) := dk_3 (dk_at dksX1_restore_0 11 rfl rfl)
theorem dX1_restore_12 : decode cX1_restore 12 = .ok (.invokestatic 197, 3) := dk_184 0 197 (dk_at dksX1_restore_0 12 rfl rfl)
theorem dX1_restore_15 : decode cX1_restore 15 = .ok (.aload_n 0, 1) := dk_42 (dk_at dksX1_restore_0 15 rfl rfl)
theorem dX1_restore_16 : decode cX1_restore 16 = .ok (.aload_n 0, 1) := dk_42 (dk_at dksX1_restore_0 16 rfl rfl)
theorem dX1_restore_17 : decode cX1_restore 17 = .ok (.getfield 356, 3) := dk_180 1 100 (dk_at dksX1_restore_0 17 rfl rfl)
theorem dX1_restore_20 : decode cX1_restore 20 = .ok (.putfield 25, 3) := dk_181 0 25 (dk_at dksX1_restore_0 20 rfl rfl)
theorem dX1_restore_23 : decode cX1_restore 23 = .ok (.aload_n 0, 1) := dk_42 (dk_at dksX1_restore_0 23 rfl rfl)
theorem dX1_restore_24 : decode cX1_restore 24 = .ok (.getfield 34, 3) := dk_180 0 34 (dk_at dksX1_restore_1 0 rfl rfl)
theorem dX1_restore_27 : decode cX1_restore 27 = .ok (.invokevirtual 96, 3) := dk_182 0 96 (dk_at dksX1_restore_1 3 rfl rfl)
theorem dX1_restore_30 : decode cX1_restore 30 = .ok (.aload_n 0, 1) := dk_42 (dk_at dksX1_restore_1 6 rfl rfl)
theorem dX1_restore_31 : decode cX1_restore 31 = .ok (.getfield 25, 3) := dk_180 0 25 (dk_at dksX1_restore_1 7 rfl rfl)
theorem dX1_restore_34 : decode cX1_restore 34 = .ok (.getfield 93, 3) := dk_180 0 93 (dk_at dksX1_restore_1 10 rfl rfl)
theorem dX1_restore_37 : decode cX1_restore 37 = .ok (.ireturn, 1) := dk_172 (dk_at dksX1_restore_1 13 rfl rfl)
theorem q64 : (Jvm.Cond.initialized "MustardMill") ∈ lw_all := lw_g (lw_at lw_m1 1 rfl) rfl
theorem q112 : (Jvm.Cond.instantiable "MustardMill" (8 : Nat)) ∈ lw_all := lw_g (lw_at lw_m1 49 rfl) rfl
theorem q114 : (Jvm.Cond.instanceMethod ({ cls := "MustardMill", name := "<init>", desc := "()V" } : Jvm.MethodName)) ∈ lw_all := lw_g (lw_at lw_m1 51 rfl) rfl
theorem q115 : (Jvm.Cond.code ({ cls := "MustardMill", name := "<init>", desc := "()V" } : Jvm.MethodName) prog_1_method_7_code (1 : Nat) (Option.none : Option Jvm.ClassFile.FieldType)) ∈ lw_all := lw_g (lw_at lw_m1 52 rfl) rfl
theorem q116 : (Jvm.Cond.methodLink "MustardMill" (19 : Nat) ({ cls := "java/lang/Object", name := "<init>", desc := "()V" } : Jvm.MethodName)) ∈ lw_all := lw_g (lw_at lw_m1 53 rfl) rfl
theorem q119 : (Jvm.Cond.classLink "MustardMill" (22 : Nat) "MustardMill$Mill") ∈ lw_all := lw_g (lw_at lw_m1 56 rfl) rfl
theorem q121 : (Jvm.Cond.methodLinkNest "MustardMill" (24 : Nat) ({ cls := "MustardMill$Mill", name := "<init>", desc := "()V" } : Jvm.MethodName) "MustardMill") ∈ lw_tbl := lw_at lw_m1 58 rfl
theorem q144 : (Jvm.Cond.fieldLinkNest "MustardMill" (109 : Nat) "MustardMill$Quern" "dress" "I" "MustardMill") ∈ lw_tbl := lw_at lw_m1 81 rfl
theorem q147 : (Jvm.Cond.fieldLinkNest "MustardMill" (114 : Nat) "MustardMill$Quern" "heat" "I" "MustardMill") ∈ lw_tbl := lw_at lw_m1 84 rfl
theorem q149 : (Jvm.Cond.fieldLinkNest "MustardMill" (117 : Nat) "MustardMill$Quern" "grams" "I" "MustardMill") ∈ lw_tbl := lw_at lw_m1 86 rfl
theorem q203 : (Jvm.Cond.fieldLinkNest "MustardMill" (279 : Nat) "MustardMill$Mill" "stocks" "[I" "MustardMill") ∈ lw_tbl := lw_at lw_m1 140 rfl
theorem q206 : (Jvm.Cond.fieldLinkNest "MustardMill" (129 : Nat) "MustardMill$Mill" "batches" "LMustardMill$Shelf;" "MustardMill") ∈ lw_tbl := lw_at lw_m1 143 rfl
theorem q208 : (Jvm.Cond.fieldLinkNest "MustardMill" (166 : Nat) "MustardMill$Mill" "jars" "LMustardMill$Shelf;" "MustardMill") ∈ lw_tbl := lw_at lw_m1 145 rfl
theorem q210 : (Jvm.Cond.fieldLinkNest "MustardMill" (226 : Nat) "MustardMill$Mill" "wishes" "LMustardMill$Shelf;" "MustardMill") ∈ lw_tbl := lw_at lw_m1 147 rfl
theorem q212 : (Jvm.Cond.fieldLinkNest "MustardMill" (256 : Nat) "MustardMill$Mill" "tray" "[LMustardMill$Thing;" "MustardMill") ∈ lw_tbl := lw_at lw_m1 149 rfl
theorem q214 : (Jvm.Cond.fieldLinkNest "MustardMill" (283 : Nat) "MustardMill$Mill" "coins" "I" "MustardMill") ∈ lw_tbl := lw_at lw_m1 151 rfl
theorem q216 : (Jvm.Cond.fieldLinkNest "MustardMill" (296 : Nat) "MustardMill$Mill" "got" "I" "MustardMill") ∈ lw_tbl := lw_at lw_m1 153 rfl
theorem q218 : (Jvm.Cond.fieldLinkNest "MustardMill" (93 : Nat) "MustardMill$Mill" "day" "I" "MustardMill") ∈ lw_tbl := lw_at lw_m1 155 rfl
theorem q238 : (Jvm.Cond.classLink "MustardMill" (31 : Nat) "java/util/ArrayDeque") ∈ lw_all := lw_g (lw_at lw_m1 175 rfl) rfl
theorem q240 : (Jvm.Cond.methodLink "MustardMill" (33 : Nat) ({ cls := "java/util/ArrayDeque", name := "<init>", desc := "()V" } : Jvm.MethodName)) ∈ lw_all := lw_g (lw_at lw_m1 177 rfl) rfl
theorem q258 : (Jvm.Cond.classLink "MustardMill" (38 : Nat) "java/lang/StringBuilder") ∈ lw_all := lw_g (lw_at lw_m1 195 rfl) rfl
theorem q260 : (Jvm.Cond.methodLink "MustardMill" (40 : Nat) ({ cls := "java/lang/StringBuilder", name := "<init>", desc := "()V" } : Jvm.MethodName)) ∈ lw_all := lw_g (lw_at lw_m1 197 rfl) rfl
theorem q290 : (Jvm.Cond.stringRef "MustardMill" (45 : Nat) "") ∈ lw_tbl := lw_at lw_m1 227 rfl
theorem q291 : (Jvm.Cond.fieldLink "MustardMill" (25 : Nat) "MustardMill" "mill" "LMustardMill$Mill;") ∈ lw_all := lw_g (lw_at lw_m1 228 rfl) rfl
theorem q292 : (Jvm.Cond.fieldLink "MustardMill" (34 : Nat) "MustardMill" "undoSteps" "Ljava/util/ArrayDeque;") ∈ lw_all := lw_g (lw_at lw_m1 229 rfl) rfl
theorem q293 : (Jvm.Cond.fieldLink "MustardMill" (356 : Nat) "MustardMill" "saved" "LMustardMill$Mill;") ∈ lw_all := lw_g (lw_at lw_m1 230 rfl) rfl
theorem q294 : (Jvm.Cond.fieldLink "MustardMill" (41 : Nat) "MustardMill" "input" "Ljava/lang/StringBuilder;") ∈ lw_all := lw_g (lw_at lw_m1 231 rfl) rfl
theorem q295 : (Jvm.Cond.fieldLink "MustardMill" (47 : Nat) "MustardMill" "line" "Ljava/lang/String;") ∈ lw_all := lw_g (lw_at lw_m1 232 rfl) rfl
theorem q296 : (Jvm.Cond.fieldLink "MustardMill" (325 : Nat) "MustardMill" "lastError" "LMustardMill$SyntaxException;") ∈ lw_all := lw_g (lw_at lw_m1 233 rfl) rfl
theorem q297 : (Jvm.Cond.fieldLink "MustardMill" (51 : Nat) "MustardMill" "lastItem" "I") ∈ lw_all := lw_g (lw_at lw_m1 234 rfl) rfl
theorem q298 : (Jvm.Cond.fieldLink "MustardMill" (82 : Nat) "MustardMill" "lastRefusal" "LMustardMill$Refused;") ∈ lw_all := lw_g (lw_at lw_m1 235 rfl) rfl
theorem q299 : (Jvm.Cond.lays "MustardMill" "MustardMill" "mill" "LMustardMill$Mill;") ∈ lw_all := lw_g (lw_at lw_m1 236 rfl) rfl
theorem q300 : (Jvm.Cond.soleField "MustardMill" "mill") ∈ lw_all := lw_g (lw_at lw_m1 237 rfl) rfl
theorem q301 : (Jvm.Cond.laysFinal "MustardMill" "MustardMill" "undoSteps" "Ljava/util/ArrayDeque;") ∈ lw_all := lw_g (lw_at lw_m1 238 rfl) rfl
theorem q302 : (Jvm.Cond.soleField "MustardMill" "undoSteps") ∈ lw_all := lw_g (lw_at lw_m1 239 rfl) rfl
theorem q303 : (Jvm.Cond.lays "MustardMill" "MustardMill" "saved" "LMustardMill$Mill;") ∈ lw_all := lw_g (lw_at lw_m2 0 rfl) rfl
theorem q304 : (Jvm.Cond.soleField "MustardMill" "saved") ∈ lw_all := lw_g (lw_at lw_m2 1 rfl) rfl
theorem q305 : (Jvm.Cond.lays "MustardMill" "MustardMill" "input" "Ljava/lang/StringBuilder;") ∈ lw_all := lw_g (lw_at lw_m2 2 rfl) rfl
theorem q306 : (Jvm.Cond.soleField "MustardMill" "input") ∈ lw_all := lw_g (lw_at lw_m2 3 rfl) rfl
theorem q307 : (Jvm.Cond.lays "MustardMill" "MustardMill" "line" "Ljava/lang/String;") ∈ lw_all := lw_g (lw_at lw_m2 4 rfl) rfl
theorem q308 : (Jvm.Cond.soleField "MustardMill" "line") ∈ lw_all := lw_g (lw_at lw_m2 5 rfl) rfl
theorem q309 : (Jvm.Cond.lays "MustardMill" "MustardMill" "lastError" "LMustardMill$SyntaxException;") ∈ lw_all := lw_g (lw_at lw_m2 6 rfl) rfl
theorem q310 : (Jvm.Cond.soleField "MustardMill" "lastError") ∈ lw_all := lw_g (lw_at lw_m2 7 rfl) rfl
theorem q311 : (Jvm.Cond.lays "MustardMill" "MustardMill" "lastItem" "I") ∈ lw_all := lw_g (lw_at lw_m2 8 rfl) rfl
theorem q312 : (Jvm.Cond.soleField "MustardMill" "lastItem") ∈ lw_all := lw_g (lw_at lw_m2 9 rfl) rfl
theorem q313 : (Jvm.Cond.lays "MustardMill" "MustardMill" "lastRefusal" "LMustardMill$Refused;") ∈ lw_all := lw_g (lw_at lw_m2 10 rfl) rfl
theorem q314 : (Jvm.Cond.soleField "MustardMill" "lastRefusal") ∈ lw_all := lw_g (lw_at lw_m2 11 rfl) rfl
theorem q315 : (Jvm.Cond.superclass "MustardMill" "java/lang/Object") ∈ lw_all := lw_g (lw_at lw_m2 12 rfl) rfl
theorem q317 : (Jvm.Cond.instanceMethod ({ cls := "MustardMill", name := "clear", desc := "()I" } : Jvm.MethodName)) ∈ lw_all := lw_g (lw_at lw_m2 14 rfl) rfl
theorem q318 : (Jvm.Cond.selects "MustardMill" ({ cls := "MustardMill", name := "clear", desc := "()I" } : Jvm.MethodName) ({ cls := "MustardMill", name := "clear", desc := "()I" } : Jvm.MethodName)) ∈ lw_all := lw_g (lw_at lw_m2 15 rfl) rfl
theorem q319 : (Jvm.Cond.code ({ cls := "MustardMill", name := "clear", desc := "()I" } : Jvm.MethodName) prog_1_method_10_code (2 : Nat) (Option.some Jvm.ClassFile.FieldType.int)) ∈ lw_all := lw_g (lw_at lw_m2 16 rfl) rfl
theorem q320 : (Jvm.Cond.methodLink "MustardMill" (96 : Nat) ({ cls := "java/util/ArrayDeque", name := "clear", desc := "()V" } : Jvm.MethodName)) ∈ lw_all := lw_g (lw_at lw_m2 17 rfl) rfl
theorem q328 : (Jvm.Cond.instanceMethod ({ cls := "MustardMill", name := "stockLine", desc := "()I" } : Jvm.MethodName)) ∈ lw_all := lw_g (lw_at lw_m2 25 rfl) rfl
theorem q329 : (Jvm.Cond.selects "MustardMill" ({ cls := "MustardMill", name := "stockLine", desc := "()I" } : Jvm.MethodName) ({ cls := "MustardMill", name := "stockLine", desc := "()I" } : Jvm.MethodName)) ∈ lw_all := lw_g (lw_at lw_m2 26 rfl) rfl
theorem q330 : (Jvm.Cond.code ({ cls := "MustardMill", name := "stockLine", desc := "()I" } : Jvm.MethodName) prog_1_method_34_code (1 : Nat) (Option.some Jvm.ClassFile.FieldType.int)) ∈ lw_all := lw_g (lw_at lw_m2 27 rfl) rfl
theorem q331 : (Jvm.Cond.methodLink "MustardMill" (268 : Nat) ({ cls := "MustardMill$Mill", name := "told", desc := "()Ljava/lang/String;" } : Jvm.MethodName)) ∈ lw_all := lw_g (lw_at lw_m2 28 rfl) rfl
theorem q658 : (Jvm.Cond.methodLink "MustardMill" (263 : Nat) ({ cls := "java/lang/String", name := "length", desc := "()I" } : Jvm.MethodName)) ∈ lw_all := lw_g (lw_at lw_m3 115 rfl) rfl
theorem q660 : (Jvm.Cond.instanceMethod ({ cls := "MustardMill", name := "snapshot", desc := "()I" } : Jvm.MethodName)) ∈ lw_all := lw_g (lw_at lw_m3 117 rfl) rfl
theorem q661 : (Jvm.Cond.selects "MustardMill" ({ cls := "MustardMill", name := "snapshot", desc := "()I" } : Jvm.MethodName) ({ cls := "MustardMill", name := "snapshot", desc := "()I" } : Jvm.MethodName)) ∈ lw_all := lw_g (lw_at lw_m3 118 rfl) rfl
theorem q662 : (Jvm.Cond.code ({ cls := "MustardMill", name := "snapshot", desc := "()I" } : Jvm.MethodName) prog_1_method_46_code (1 : Nat) (Option.some Jvm.ClassFile.FieldType.int)) ∈ lw_all := lw_g (lw_at lw_m3 119 rfl) rfl
theorem q669 : (Jvm.Cond.instanceMethod ({ cls := "MustardMill", name := "buy", desc := "(II)I" } : Jvm.MethodName)) ∈ lw_all := lw_g (lw_at lw_m3 126 rfl) rfl
theorem q670 : (Jvm.Cond.selects "MustardMill" ({ cls := "MustardMill", name := "buy", desc := "(II)I" } : Jvm.MethodName) ({ cls := "MustardMill", name := "buy", desc := "(II)I" } : Jvm.MethodName)) ∈ lw_all := lw_g (lw_at lw_m3 127 rfl) rfl
theorem q671 : (Jvm.Cond.code ({ cls := "MustardMill", name := "buy", desc := "(II)I" } : Jvm.MethodName) prog_1_method_11_code (3 : Nat) (Option.some Jvm.ClassFile.FieldType.int)) ∈ lw_all := lw_g (lw_at lw_m3 128 rfl) rfl
theorem q672 : (Jvm.Cond.stringRef "MustardMill" (99 : Nat) "buy") ∈ lw_tbl := lw_at lw_m3 129 rfl
theorem q673 : (Jvm.Cond.methodLink "MustardMill" (101 : Nat) ({ cls := "MustardMill", name := "change", desc := "(Ljava/lang/String;[I)I" } : Jvm.MethodName)) ∈ lw_all := lw_g (lw_at lw_m3 130 rfl) rfl
theorem q674 : (Jvm.Cond.privateMethod ({ cls := "MustardMill", name := "change", desc := "(Ljava/lang/String;[I)I" } : Jvm.MethodName)) ∈ lw_tbl := lw_at lw_m3 131 rfl
theorem q675 : (Jvm.Cond.instanceMethod ({ cls := "MustardMill", name := "change", desc := "(Ljava/lang/String;[I)I" } : Jvm.MethodName)) ∈ lw_all := lw_g (lw_at lw_m3 132 rfl) rfl
theorem q676 : (Jvm.Cond.codeWith ({ cls := "MustardMill", name := "change", desc := "(Ljava/lang/String;[I)I" } : Jvm.MethodName) prog_1_method_9_code (6 : Nat) (Option.some Jvm.ClassFile.FieldType.int) [((8 : Nat), (23 : Nat), (26 : Nat), (80 : Nat))]) ∈ lw_all := lw_g (lw_at lw_m3 133 rfl) rfl
theorem q677 : (Jvm.Cond.classLink "MustardMill" (80 : Nat) "MustardMill$Refused") ∈ lw_all := lw_g (lw_at lw_m3 134 rfl) rfl
theorem q678 : (Jvm.Cond.methodLink "MustardMill" (67 : Nat) ({ cls := "MustardMill$Mill", name := "copy", desc := "()LMustardMill$Mill;" } : Jvm.MethodName)) ∈ lw_all := lw_g (lw_at lw_m3 135 rfl) rfl
theorem q839 : (Jvm.Cond.selects "MustardMill" ({ cls := "java/lang/Object", name := "getClass", desc := "()Ljava/lang/Class;" } : Jvm.MethodName) ({ cls := "java/lang/Object", name := "getClass", desc := "()Ljava/lang/Class;" } : Jvm.MethodName)) ∈ lw_all := lw_g (lw_at lw_m4 56 rfl) rfl
theorem q901 : (Jvm.Cond.classLink "MustardMill" (71 : Nat) "MustardMill$Change") ∈ lw_all := lw_g (lw_at lw_m4 118 rfl) rfl
theorem q903 : (Jvm.Cond.methodLink "MustardMill" (73 : Nat) ({ cls := "MustardMill$Change", name := "<init>", desc := "(Ljava/lang/String;[I)V" } : Jvm.MethodName)) ∈ lw_all := lw_g (lw_at lw_m4 120 rfl) rfl
theorem q914 : (Jvm.Cond.methodLink "MustardMill" (76 : Nat) ({ cls := "MustardMill$Change", name := "make", desc := "(LMustardMill$Mill;)I" } : Jvm.MethodName)) ∈ lw_all := lw_g (lw_at lw_m4 131 rfl) rfl
theorem q1004 : (Jvm.Cond.static ({ cls := "MustardMill", name := "inRange", desc := "(JJJ)Z" } : Jvm.MethodName)) ∈ lw_all := lw_g (lw_at lw_m4 221 rfl) rfl
theorem q1005 : (Jvm.Cond.code ({ cls := "MustardMill", name := "inRange", desc := "(JJJ)Z" } : Jvm.MethodName) prog_1_method_1_code (6 : Nat) (Option.some Jvm.ClassFile.FieldType.boolean)) ∈ lw_all := lw_g (lw_at lw_m4 222 rfl) rfl
theorem q1007 : (Jvm.Cond.static ({ cls := "MustardMill", name := "checkIndex", desc := "(Z)V" } : Jvm.MethodName)) ∈ lw_all := lw_g (lw_at lw_m4 224 rfl) rfl
theorem q1008 : (Jvm.Cond.code ({ cls := "MustardMill", name := "checkIndex", desc := "(Z)V" } : Jvm.MethodName) prog_1_method_3_code (1 : Nat) (Option.none : Option Jvm.ClassFile.FieldType)) ∈ lw_all := lw_g (lw_at lw_m4 225 rfl) rfl
theorem q1009 : (Jvm.Cond.classLink "MustardMill" (7 : Nat) "java/lang/IndexOutOfBoundsException") ∈ lw_all := lw_g (lw_at lw_m4 226 rfl) rfl
theorem q1018 : (Jvm.Cond.methodLink "MustardMill" (9 : Nat) ({ cls := "java/lang/IndexOutOfBoundsException", name := "<init>", desc := "()V" } : Jvm.MethodName)) ∈ lw_all := lw_g (lw_at lw_m4 235 rfl) rfl
theorem q1029 : (Jvm.Cond.static ({ cls := "MustardMill", name := "checkArgument", desc := "(Z)V" } : Jvm.MethodName)) ∈ lw_all := lw_g (lw_at lw_m5 6 rfl) rfl
theorem q1030 : (Jvm.Cond.code ({ cls := "MustardMill", name := "checkArgument", desc := "(Z)V" } : Jvm.MethodName) prog_1_method_2_code (1 : Nat) (Option.none : Option Jvm.ClassFile.FieldType)) ∈ lw_all := lw_g (lw_at lw_m5 7 rfl) rfl
theorem q1031 : (Jvm.Cond.classLink "MustardMill" (1 : Nat) "java/lang/IllegalArgumentException") ∈ lw_all := lw_g (lw_at lw_m5 8 rfl) rfl
theorem q1032 : (Jvm.Cond.methodLink "MustardMill" (3 : Nat) ({ cls := "java/lang/IllegalArgumentException", name := "<init>", desc := "()V" } : Jvm.MethodName)) ∈ lw_all := lw_g (lw_at lw_m5 9 rfl) rfl
theorem q1063 : (Jvm.Cond.fieldLinkNest "MustardMill" (276 : Nat) "MustardMill$Refused" "reason" "I" "MustardMill") ∈ lw_tbl := lw_at lw_m5 40 rfl
theorem q1065 : (Jvm.Cond.fieldLinkNest "MustardMill" (273 : Nat) "MustardMill$Refused" "detail" "I" "MustardMill") ∈ lw_tbl := lw_at lw_m5 42 rfl
theorem q1094 : (Jvm.Cond.fieldLinkNest "MustardMill" (159 : Nat) "MustardMill$Batch" "grams" "I" "MustardMill") ∈ lw_tbl := lw_at lw_m5 71 rfl
theorem q1096 : (Jvm.Cond.fieldLinkNest "MustardMill" (147 : Nat) "MustardMill$Batch" "grain" "I" "MustardMill") ∈ lw_tbl := lw_at lw_m5 73 rfl
theorem q1098 : (Jvm.Cond.fieldLinkNest "MustardMill" (150 : Nat) "MustardMill$Batch" "bite" "I" "MustardMill") ∈ lw_tbl := lw_at lw_m5 75 rfl
theorem q1101 : (Jvm.Cond.fieldLinkNest "MustardMill" (144 : Nat) "MustardMill$Batch" "left" "I" "MustardMill") ∈ lw_tbl := lw_at lw_m5 78 rfl
theorem q1104 : (Jvm.Cond.fieldLinkNest "MustardMill" (153 : Nat) "MustardMill$Batch" "spoons" "I" "MustardMill") ∈ lw_tbl := lw_at lw_m5 81 rfl
theorem q1106 : (Jvm.Cond.fieldLinkNest "MustardMill" (156 : Nat) "MustardMill$Batch" "jars" "I" "MustardMill") ∈ lw_tbl := lw_at lw_m5 83 rfl
theorem q1214 : (Jvm.Cond.fieldLinkNest "MustardMill" (171 : Nat) "MustardMill$Jar" "batch" "I" "MustardMill") ∈ lw_tbl := lw_at lw_m5 191 rfl
theorem q1221 : (Jvm.Cond.fieldLinkNest "MustardMill" (174 : Nat) "MustardMill$Jar" "rested" "I" "MustardMill") ∈ lw_tbl := lw_at lw_m5 198 rfl
theorem q1432 : (Jvm.Cond.fieldLinkNest "MustardMill" (231 : Nat) "MustardMill$Wish" "least" "I" "MustardMill") ∈ lw_tbl := lw_at lw_m6 169 rfl
theorem q1434 : (Jvm.Cond.fieldLinkNest "MustardMill" (234 : Nat) "MustardMill$Wish" "most" "I" "MustardMill") ∈ lw_tbl := lw_at lw_m6 171 rfl
theorem q1437 : (Jvm.Cond.fieldLinkNest "MustardMill" (238 : Nat) "MustardMill$Wish" "jar" "I" "MustardMill") ∈ lw_tbl := lw_at lw_m6 174 rfl
theorem q1486 : (Jvm.Cond.classLink "MustardMill" (86 : Nat) "java/lang/UnsupportedOperationException") ∈ lw_all := lw_g (lw_at lw_m6 223 rfl) rfl
theorem q1495 : (Jvm.Cond.methodLink "MustardMill" (88 : Nat) ({ cls := "java/lang/UnsupportedOperationException", name := "<init>", desc := "()V" } : Jvm.MethodName)) ∈ lw_all := lw_g (lw_at lw_m6 232 rfl) rfl
theorem q1501 : (Jvm.Cond.methodLink "MustardMill" (89 : Nat) ({ cls := "MustardMill", name := "become", desc := "(LMustardMill$Mill;)V" } : Jvm.MethodName)) ∈ lw_all := lw_g (lw_at lw_m6 238 rfl) rfl
theorem q1502 : (Jvm.Cond.privateMethod ({ cls := "MustardMill", name := "become", desc := "(LMustardMill$Mill;)V" } : Jvm.MethodName)) ∈ lw_tbl := lw_at lw_m6 239 rfl
theorem q1503 : (Jvm.Cond.instanceMethod ({ cls := "MustardMill", name := "become", desc := "(LMustardMill$Mill;)V" } : Jvm.MethodName)) ∈ lw_all := lw_g (lw_at lw_m7 0 rfl) rfl
theorem q1504 : (Jvm.Cond.code ({ cls := "MustardMill", name := "become", desc := "(LMustardMill$Mill;)V" } : Jvm.MethodName) prog_1_method_8_code (3 : Nat) (Option.none : Option Jvm.ClassFile.FieldType)) ∈ lw_all := lw_g (lw_at lw_m7 1 rfl) rfl
theorem q1505 : (Jvm.Cond.methodLink "MustardMill" (55 : Nat) ({ cls := "java/util/ArrayDeque", name := "size", desc := "()I" } : Jvm.MethodName)) ∈ lw_all := lw_g (lw_at lw_m7 2 rfl) rfl
theorem q1506 : (Jvm.Cond.methodLink "MustardMill" (59 : Nat) ({ cls := "java/util/ArrayDeque", name := "removeFirst", desc := "()Ljava/lang/Object;" } : Jvm.MethodName)) ∈ lw_all := lw_g (lw_at lw_m7 3 rfl) rfl
theorem q1520 : (Jvm.Cond.methodLink "MustardMill" (63 : Nat) ({ cls := "java/util/ArrayDeque", name := "addLast", desc := "(Ljava/lang/Object;)V" } : Jvm.MethodName)) ∈ lw_all := lw_g (lw_at lw_m7 17 rfl) rfl
theorem q1565 : (Jvm.Cond.instanceMethod ({ cls := "MustardMill", name := "quernOf", desc := "(II)I" } : Jvm.MethodName)) ∈ lw_all := lw_g (lw_at lw_m7 62 rfl) rfl
theorem q1566 : (Jvm.Cond.selects "MustardMill" ({ cls := "MustardMill", name := "quernOf", desc := "(II)I" } : Jvm.MethodName) ({ cls := "MustardMill", name := "quernOf", desc := "(II)I" } : Jvm.MethodName)) ∈ lw_all := lw_g (lw_at lw_m7 63 rfl) rfl
theorem q1567 : (Jvm.Cond.code ({ cls := "MustardMill", name := "quernOf", desc := "(II)I" } : Jvm.MethodName) prog_1_method_12_code (4 : Nat) (Option.some Jvm.ClassFile.FieldType.int)) ∈ lw_all := lw_g (lw_at lw_m7 64 rfl) rfl
theorem q1568 : (Jvm.Cond.methodLink "MustardMill" (105 : Nat) ({ cls := "MustardMill$Mill", name := "quern", desc := "(I)LMustardMill$Quern;" } : Jvm.MethodName)) ∈ lw_all := lw_g (lw_at lw_m7 65 rfl) rfl
theorem q1573 : (Jvm.Cond.instanceMethod ({ cls := "MustardMill", name := "dress", desc := "(I)I" } : Jvm.MethodName)) ∈ lw_all := lw_g (lw_at lw_m7 70 rfl) rfl
theorem q1574 : (Jvm.Cond.selects "MustardMill" ({ cls := "MustardMill", name := "dress", desc := "(I)I" } : Jvm.MethodName) ({ cls := "MustardMill", name := "dress", desc := "(I)I" } : Jvm.MethodName)) ∈ lw_all := lw_g (lw_at lw_m7 71 rfl) rfl
theorem q1575 : (Jvm.Cond.code ({ cls := "MustardMill", name := "dress", desc := "(I)I" } : Jvm.MethodName) prog_1_method_13_code (2 : Nat) (Option.some Jvm.ClassFile.FieldType.int)) ∈ lw_all := lw_g (lw_at lw_m7 72 rfl) rfl
theorem q1576 : (Jvm.Cond.stringRef "MustardMill" (120 : Nat) "dress") ∈ lw_tbl := lw_at lw_m7 73 rfl
theorem q1581 : (Jvm.Cond.instanceMethod ({ cls := "MustardMill", name := "grind", desc := "(IIII)I" } : Jvm.MethodName)) ∈ lw_all := lw_g (lw_at lw_m7 78 rfl) rfl
theorem q1582 : (Jvm.Cond.selects "MustardMill" ({ cls := "MustardMill", name := "grind", desc := "(IIII)I" } : Jvm.MethodName) ({ cls := "MustardMill", name := "grind", desc := "(IIII)I" } : Jvm.MethodName)) ∈ lw_all := lw_g (lw_at lw_m7 79 rfl) rfl
theorem q1583 : (Jvm.Cond.code ({ cls := "MustardMill", name := "grind", desc := "(IIII)I" } : Jvm.MethodName) prog_1_method_14_code (5 : Nat) (Option.some Jvm.ClassFile.FieldType.int)) ∈ lw_all := lw_g (lw_at lw_m7 80 rfl) rfl
theorem q1584 : (Jvm.Cond.stringRef "MustardMill" (121 : Nat) "grind") ∈ lw_tbl := lw_at lw_m7 81 rfl
theorem q1589 : (Jvm.Cond.instanceMethod ({ cls := "MustardMill", name := "biteOf", desc := "(IIII)I" } : Jvm.MethodName)) ∈ lw_all := lw_g (lw_at lw_m7 86 rfl) rfl
theorem q1590 : (Jvm.Cond.selects "MustardMill" ({ cls := "MustardMill", name := "biteOf", desc := "(IIII)I" } : Jvm.MethodName) ({ cls := "MustardMill", name := "biteOf", desc := "(IIII)I" } : Jvm.MethodName)) ∈ lw_all := lw_g (lw_at lw_m7 87 rfl) rfl
theorem q1591 : (Jvm.Cond.code ({ cls := "MustardMill", name := "biteOf", desc := "(IIII)I" } : Jvm.MethodName) prog_1_method_15_code (5 : Nat) (Option.some Jvm.ClassFile.FieldType.int)) ∈ lw_all := lw_g (lw_at lw_m7 88 rfl) rfl
theorem q1592 : (Jvm.Cond.methodLink "MustardMill" (123 : Nat) ({ cls := "MustardMill$Mill", name := "biteOf", desc := "(I[I)I" } : Jvm.MethodName)) ∈ lw_all := lw_g (lw_at lw_m7 89 rfl) rfl
theorem q1600 : (Jvm.Cond.instanceMethod ({ cls := "MustardMill", name := "mix", desc := "(II)I" } : Jvm.MethodName)) ∈ lw_all := lw_g (lw_at lw_m7 97 rfl) rfl
theorem q1601 : (Jvm.Cond.selects "MustardMill" ({ cls := "MustardMill", name := "mix", desc := "(II)I" } : Jvm.MethodName) ({ cls := "MustardMill", name := "mix", desc := "(II)I" } : Jvm.MethodName)) ∈ lw_all := lw_g (lw_at lw_m7 98 rfl) rfl
theorem q1602 : (Jvm.Cond.code ({ cls := "MustardMill", name := "mix", desc := "(II)I" } : Jvm.MethodName) prog_1_method_16_code (3 : Nat) (Option.some Jvm.ClassFile.FieldType.int)) ∈ lw_all := lw_g (lw_at lw_m7 99 rfl) rfl
theorem q1603 : (Jvm.Cond.stringRef "MustardMill" (127 : Nat) "mix") ∈ lw_tbl := lw_at lw_m7 100 rfl
theorem q1608 : (Jvm.Cond.instanceMethod ({ cls := "MustardMill", name := "batchOf", desc := "(II)I" } : Jvm.MethodName)) ∈ lw_all := lw_g (lw_at lw_m7 105 rfl) rfl
theorem q1609 : (Jvm.Cond.selects "MustardMill" ({ cls := "MustardMill", name := "batchOf", desc := "(II)I" } : Jvm.MethodName) ({ cls := "MustardMill", name := "batchOf", desc := "(II)I" } : Jvm.MethodName)) ∈ lw_all := lw_g (lw_at lw_m7 106 rfl) rfl
theorem q1610 : (Jvm.Cond.code ({ cls := "MustardMill", name := "batchOf", desc := "(II)I" } : Jvm.MethodName) prog_1_method_17_code (4 : Nat) (Option.some Jvm.ClassFile.FieldType.int)) ∈ lw_all := lw_g (lw_at lw_m7 107 rfl) rfl
theorem q1611 : (Jvm.Cond.methodLink "MustardMill" (133 : Nat) ({ cls := "MustardMill$Shelf", name := "get", desc := "(I)LMustardMill$Thing;" } : Jvm.MethodName)) ∈ lw_all := lw_g (lw_at lw_m7 108 rfl) rfl
theorem q1612 : (Jvm.Cond.classLink "MustardMill" (139 : Nat) "MustardMill$Batch") ∈ lw_all := lw_g (lw_at lw_m7 109 rfl) rfl
theorem q1613 : (Jvm.Cond.methodLink "MustardMill" (141 : Nat) ({ cls := "MustardMill$Batch", name := "state", desc := "()I" } : Jvm.MethodName)) ∈ lw_all := lw_g (lw_at lw_m7 110 rfl) rfl
theorem q1618 : (Jvm.Cond.instanceMethod ({ cls := "MustardMill", name := "jar", desc := "(II)I" } : Jvm.MethodName)) ∈ lw_all := lw_g (lw_at lw_m7 115 rfl) rfl
theorem q1619 : (Jvm.Cond.selects "MustardMill" ({ cls := "MustardMill", name := "jar", desc := "(II)I" } : Jvm.MethodName) ({ cls := "MustardMill", name := "jar", desc := "(II)I" } : Jvm.MethodName)) ∈ lw_all := lw_g (lw_at lw_m7 116 rfl) rfl
theorem q1620 : (Jvm.Cond.code ({ cls := "MustardMill", name := "jar", desc := "(II)I" } : Jvm.MethodName) prog_1_method_18_code (3 : Nat) (Option.some Jvm.ClassFile.FieldType.int)) ∈ lw_all := lw_g (lw_at lw_m7 117 rfl) rfl
theorem q1621 : (Jvm.Cond.stringRef "MustardMill" (160 : Nat) "jar") ∈ lw_tbl := lw_at lw_m7 118 rfl
theorem q1626 : (Jvm.Cond.instanceMethod ({ cls := "MustardMill", name := "open", desc := "(I)I" } : Jvm.MethodName)) ∈ lw_all := lw_g (lw_at lw_m7 123 rfl) rfl
theorem q1627 : (Jvm.Cond.selects "MustardMill" ({ cls := "MustardMill", name := "open", desc := "(I)I" } : Jvm.MethodName) ({ cls := "MustardMill", name := "open", desc := "(I)I" } : Jvm.MethodName)) ∈ lw_all := lw_g (lw_at lw_m7 124 rfl) rfl
theorem q1628 : (Jvm.Cond.code ({ cls := "MustardMill", name := "open", desc := "(I)I" } : Jvm.MethodName) prog_1_method_19_code (2 : Nat) (Option.some Jvm.ClassFile.FieldType.int)) ∈ lw_all := lw_g (lw_at lw_m7 125 rfl) rfl
theorem q1629 : (Jvm.Cond.stringRef "MustardMill" (162 : Nat) "open") ∈ lw_tbl := lw_at lw_m7 126 rfl
theorem q1634 : (Jvm.Cond.instanceMethod ({ cls := "MustardMill", name := "sell", desc := "(I)I" } : Jvm.MethodName)) ∈ lw_all := lw_g (lw_at lw_m7 131 rfl) rfl
theorem q1635 : (Jvm.Cond.selects "MustardMill" ({ cls := "MustardMill", name := "sell", desc := "(I)I" } : Jvm.MethodName) ({ cls := "MustardMill", name := "sell", desc := "(I)I" } : Jvm.MethodName)) ∈ lw_all := lw_g (lw_at lw_m7 132 rfl) rfl
theorem q1636 : (Jvm.Cond.code ({ cls := "MustardMill", name := "sell", desc := "(I)I" } : Jvm.MethodName) prog_1_method_20_code (2 : Nat) (Option.some Jvm.ClassFile.FieldType.int)) ∈ lw_all := lw_g (lw_at lw_m7 133 rfl) rfl
theorem q1637 : (Jvm.Cond.stringRef "MustardMill" (164 : Nat) "sell") ∈ lw_tbl := lw_at lw_m7 134 rfl
theorem q1642 : (Jvm.Cond.instanceMethod ({ cls := "MustardMill", name := "jarOf", desc := "(II)I" } : Jvm.MethodName)) ∈ lw_all := lw_g (lw_at lw_m7 139 rfl) rfl
theorem q1643 : (Jvm.Cond.selects "MustardMill" ({ cls := "MustardMill", name := "jarOf", desc := "(II)I" } : Jvm.MethodName) ({ cls := "MustardMill", name := "jarOf", desc := "(II)I" } : Jvm.MethodName)) ∈ lw_all := lw_g (lw_at lw_m7 140 rfl) rfl
theorem q1644 : (Jvm.Cond.code ({ cls := "MustardMill", name := "jarOf", desc := "(II)I" } : Jvm.MethodName) prog_1_method_21_code (4 : Nat) (Option.some Jvm.ClassFile.FieldType.int)) ∈ lw_all := lw_g (lw_at lw_m7 141 rfl) rfl
theorem q1645 : (Jvm.Cond.classLink "MustardMill" (168 : Nat) "MustardMill$Jar") ∈ lw_all := lw_g (lw_at lw_m7 142 rfl) rfl
theorem q1646 : (Jvm.Cond.methodLink "MustardMill" (170 : Nat) ({ cls := "MustardMill$Jar", name := "state", desc := "()I" } : Jvm.MethodName)) ∈ lw_all := lw_g (lw_at lw_m7 143 rfl) rfl
theorem q1647 : (Jvm.Cond.methodLink "MustardMill" (177 : Nat) ({ cls := "MustardMill$Jar", name := "missing", desc := "()I" } : Jvm.MethodName)) ∈ lw_all := lw_g (lw_at lw_m7 144 rfl) rfl
theorem q1648 : (Jvm.Cond.methodLink "MustardMill" (180 : Nat) ({ cls := "MustardMill$Jar", name := "tear", desc := "()I" } : Jvm.MethodName)) ∈ lw_all := lw_g (lw_at lw_m7 145 rfl) rfl
theorem q1654 : (Jvm.Cond.instanceMethod ({ cls := "MustardMill", name := "tearBehind", desc := "(IIZ)I" } : Jvm.MethodName)) ∈ lw_all := lw_g (lw_at lw_m7 151 rfl) rfl
theorem q1655 : (Jvm.Cond.selects "MustardMill" ({ cls := "MustardMill", name := "tearBehind", desc := "(IIZ)I" } : Jvm.MethodName) ({ cls := "MustardMill", name := "tearBehind", desc := "(IIZ)I" } : Jvm.MethodName)) ∈ lw_all := lw_g (lw_at lw_m7 152 rfl) rfl
theorem q1656 : (Jvm.Cond.code ({ cls := "MustardMill", name := "tearBehind", desc := "(IIZ)I" } : Jvm.MethodName) prog_1_method_22_code (5 : Nat) (Option.some Jvm.ClassFile.FieldType.int)) ∈ lw_all := lw_g (lw_at lw_m7 153 rfl) rfl
theorem q1657 : (Jvm.Cond.constantLong "MustardMill" (183 : Nat) (99 : Int64)) ∈ lw_all := lw_g (lw_at lw_m7 154 rfl) rfl
theorem q1658 : (Jvm.Cond.methodLink "MustardMill" (185 : Nat) ({ cls := "MustardMill", name := "inRange", desc := "(JJJ)Z" } : Jvm.MethodName)) ∈ lw_all := lw_g (lw_at lw_m7 155 rfl) rfl
theorem q1659 : (Jvm.Cond.methodLink "MustardMill" (189 : Nat) ({ cls := "MustardMill", name := "checkArgument", desc := "(Z)V" } : Jvm.MethodName)) ∈ lw_all := lw_g (lw_at lw_m7 156 rfl) rfl
theorem q1660 : (Jvm.Cond.methodLink "MustardMill" (197 : Nat) ({ cls := "MustardMill", name := "checkState", desc := "(Z)V" } : Jvm.MethodName)) ∈ lw_all := lw_g (lw_at lw_m7 157 rfl) rfl
theorem q1661 : (Jvm.Cond.static ({ cls := "MustardMill", name := "checkState", desc := "(Z)V" } : Jvm.MethodName)) ∈ lw_all := lw_g (lw_at lw_m7 158 rfl) rfl
theorem q1662 : (Jvm.Cond.code ({ cls := "MustardMill", name := "checkState", desc := "(Z)V" } : Jvm.MethodName) prog_1_method_4_code (1 : Nat) (Option.none : Option Jvm.ClassFile.FieldType)) ∈ lw_all := lw_g (lw_at lw_m7 159 rfl) rfl
theorem q1663 : (Jvm.Cond.classLink "MustardMill" (10 : Nat) "java/lang/IllegalStateException") ∈ lw_all := lw_g (lw_at lw_m7 160 rfl) rfl
theorem q1664 : (Jvm.Cond.methodLink "MustardMill" (12 : Nat) ({ cls := "java/lang/IllegalStateException", name := "<init>", desc := "()V" } : Jvm.MethodName)) ∈ lw_all := lw_g (lw_at lw_m7 161 rfl) rfl
theorem q1675 : (Jvm.Cond.instanceMethod ({ cls := "MustardMill", name := "strongest", desc := "(I)I" } : Jvm.MethodName)) ∈ lw_all := lw_g (lw_at lw_m7 172 rfl) rfl
theorem q1676 : (Jvm.Cond.selects "MustardMill" ({ cls := "MustardMill", name := "strongest", desc := "(I)I" } : Jvm.MethodName) ({ cls := "MustardMill", name := "strongest", desc := "(I)I" } : Jvm.MethodName)) ∈ lw_all := lw_g (lw_at lw_m7 173 rfl) rfl
theorem q1677 : (Jvm.Cond.code ({ cls := "MustardMill", name := "strongest", desc := "(I)I" } : Jvm.MethodName) prog_1_method_24_code (2 : Nat) (Option.some Jvm.ClassFile.FieldType.int)) ∈ lw_all := lw_g (lw_at lw_m7 174 rfl) rfl
theorem q1678 : (Jvm.Cond.methodLink "MustardMill" (214 : Nat) ({ cls := "MustardMill$Mill", name := "strongest", desc := "(I)LMustardMill$Jar;" } : Jvm.MethodName)) ∈ lw_all := lw_g (lw_at lw_m7 175 rfl) rfl
theorem q1710 : (Jvm.Cond.methodLink "MustardMill" (218 : Nat) ({ cls := "MustardMill", name := "numberOf", desc := "(LMustardMill$Thing;)I" } : Jvm.MethodName)) ∈ lw_all := lw_g (lw_at lw_m7 207 rfl) rfl
theorem q1711 : (Jvm.Cond.static ({ cls := "MustardMill", name := "numberOf", desc := "(LMustardMill$Thing;)I" } : Jvm.MethodName)) ∈ lw_all := lw_g (lw_at lw_m7 208 rfl) rfl
theorem q1712 : (Jvm.Cond.code ({ cls := "MustardMill", name := "numberOf", desc := "(LMustardMill$Thing;)I" } : Jvm.MethodName) prog_1_method_23_code (1 : Nat) (Option.some Jvm.ClassFile.FieldType.int)) ∈ lw_all := lw_g (lw_at lw_m7 209 rfl) rfl
theorem q1713 : (Jvm.Cond.methodLink "MustardMill" (206 : Nat) ({ cls := "MustardMill", name := "checkElement", desc := "(Z)V" } : Jvm.MethodName)) ∈ lw_all := lw_g (lw_at lw_m7 210 rfl) rfl
theorem q1714 : (Jvm.Cond.static ({ cls := "MustardMill", name := "checkElement", desc := "(Z)V" } : Jvm.MethodName)) ∈ lw_all := lw_g (lw_at lw_m7 211 rfl) rfl
theorem q1715 : (Jvm.Cond.code ({ cls := "MustardMill", name := "checkElement", desc := "(Z)V" } : Jvm.MethodName) prog_1_method_5_code (1 : Nat) (Option.none : Option Jvm.ClassFile.FieldType)) ∈ lw_all := lw_g (lw_at lw_m7 212 rfl) rfl
theorem q1716 : (Jvm.Cond.classLink "MustardMill" (13 : Nat) "java/util/NoSuchElementException") ∈ lw_all := lw_g (lw_at lw_m7 213 rfl) rfl
theorem q1717 : (Jvm.Cond.methodLink "MustardMill" (15 : Nat) ({ cls := "java/util/NoSuchElementException", name := "<init>", desc := "()V" } : Jvm.MethodName)) ∈ lw_all := lw_g (lw_at lw_m7 214 rfl) rfl
theorem q1718 : (Jvm.Cond.methodLink "MustardMill" (209 : Nat) ({ cls := "MustardMill$Thing", name := "number", desc := "()I" } : Jvm.MethodName)) ∈ lw_all := lw_g (lw_at lw_m7 215 rfl) rfl
theorem q1723 : (Jvm.Cond.instanceMethod ({ cls := "MustardMill", name := "order", desc := "(II)I" } : Jvm.MethodName)) ∈ lw_all := lw_g (lw_at lw_m7 220 rfl) rfl
theorem q1724 : (Jvm.Cond.selects "MustardMill" ({ cls := "MustardMill", name := "order", desc := "(II)I" } : Jvm.MethodName) ({ cls := "MustardMill", name := "order", desc := "(II)I" } : Jvm.MethodName)) ∈ lw_all := lw_g (lw_at lw_m7 221 rfl) rfl
theorem q1725 : (Jvm.Cond.code ({ cls := "MustardMill", name := "order", desc := "(II)I" } : Jvm.MethodName) prog_1_method_25_code (3 : Nat) (Option.some Jvm.ClassFile.FieldType.int)) ∈ lw_all := lw_g (lw_at lw_m7 222 rfl) rfl
theorem q1726 : (Jvm.Cond.stringRef "MustardMill" (222 : Nat) "order") ∈ lw_tbl := lw_at lw_m7 223 rfl
theorem q1731 : (Jvm.Cond.instanceMethod ({ cls := "MustardMill", name := "serve", desc := "(I)I" } : Jvm.MethodName)) ∈ lw_all := lw_g (lw_at lw_m7 228 rfl) rfl
theorem q1732 : (Jvm.Cond.selects "MustardMill" ({ cls := "MustardMill", name := "serve", desc := "(I)I" } : Jvm.MethodName) ({ cls := "MustardMill", name := "serve", desc := "(I)I" } : Jvm.MethodName)) ∈ lw_all := lw_g (lw_at lw_m7 229 rfl) rfl
theorem q1733 : (Jvm.Cond.code ({ cls := "MustardMill", name := "serve", desc := "(I)I" } : Jvm.MethodName) prog_1_method_26_code (2 : Nat) (Option.some Jvm.ClassFile.FieldType.int)) ∈ lw_all := lw_g (lw_at lw_m7 230 rfl) rfl
theorem q1734 : (Jvm.Cond.stringRef "MustardMill" (224 : Nat) "serve") ∈ lw_tbl := lw_at lw_m7 231 rfl
theorem q1739 : (Jvm.Cond.instanceMethod ({ cls := "MustardMill", name := "orderOf", desc := "(II)I" } : Jvm.MethodName)) ∈ lw_all := lw_g (lw_at lw_m7 236 rfl) rfl
theorem q1740 : (Jvm.Cond.selects "MustardMill" ({ cls := "MustardMill", name := "orderOf", desc := "(II)I" } : Jvm.MethodName) ({ cls := "MustardMill", name := "orderOf", desc := "(II)I" } : Jvm.MethodName)) ∈ lw_all := lw_g (lw_at lw_m7 237 rfl) rfl
theorem q1741 : (Jvm.Cond.code ({ cls := "MustardMill", name := "orderOf", desc := "(II)I" } : Jvm.MethodName) prog_1_method_27_code (4 : Nat) (Option.some Jvm.ClassFile.FieldType.int)) ∈ lw_all := lw_g (lw_at lw_m7 238 rfl) rfl
theorem q1742 : (Jvm.Cond.classLink "MustardMill" (229 : Nat) "MustardMill$Wish") ∈ lw_all := lw_g (lw_at lw_m7 239 rfl) rfl
theorem q1743 : (Jvm.Cond.methodLink "MustardMill" (237 : Nat) ({ cls := "MustardMill$Wish", name := "state", desc := "()I" } : Jvm.MethodName)) ∈ lw_all := lw_g (lw_at lw_m8 0 rfl) rfl
theorem q1750 : (Jvm.Cond.instanceMethod ({ cls := "MustardMill", name := "servedIn", desc := "(I)I" } : Jvm.MethodName)) ∈ lw_all := lw_g (lw_at lw_m8 7 rfl) rfl
theorem q1751 : (Jvm.Cond.selects "MustardMill" ({ cls := "MustardMill", name := "servedIn", desc := "(I)I" } : Jvm.MethodName) ({ cls := "MustardMill", name := "servedIn", desc := "(I)I" } : Jvm.MethodName)) ∈ lw_all := lw_g (lw_at lw_m8 8 rfl) rfl
theorem q1752 : (Jvm.Cond.code ({ cls := "MustardMill", name := "servedIn", desc := "(I)I" } : Jvm.MethodName) prog_1_method_28_code (4 : Nat) (Option.some Jvm.ClassFile.FieldType.int)) ∈ lw_all := lw_g (lw_at lw_m8 9 rfl) rfl
theorem q1753 : (Jvm.Cond.methodLink "MustardMill" (241 : Nat) ({ cls := "MustardMill$Mill", name := "servedIn", desc := "(LMustardMill$Wish;)I" } : Jvm.MethodName)) ∈ lw_all := lw_g (lw_at lw_m8 10 rfl) rfl
theorem q1762 : (Jvm.Cond.instanceMethod ({ cls := "MustardMill", name := "rest", desc := "(I)I" } : Jvm.MethodName)) ∈ lw_all := lw_g (lw_at lw_m8 19 rfl) rfl
theorem q1763 : (Jvm.Cond.selects "MustardMill" ({ cls := "MustardMill", name := "rest", desc := "(I)I" } : Jvm.MethodName) ({ cls := "MustardMill", name := "rest", desc := "(I)I" } : Jvm.MethodName)) ∈ lw_all := lw_g (lw_at lw_m8 20 rfl) rfl
theorem q1764 : (Jvm.Cond.code ({ cls := "MustardMill", name := "rest", desc := "(I)I" } : Jvm.MethodName) prog_1_method_29_code (2 : Nat) (Option.some Jvm.ClassFile.FieldType.int)) ∈ lw_all := lw_g (lw_at lw_m8 21 rfl) rfl
theorem q1765 : (Jvm.Cond.stringRef "MustardMill" (245 : Nat) "rest") ∈ lw_tbl := lw_at lw_m8 22 rfl
theorem q1770 : (Jvm.Cond.instanceMethod ({ cls := "MustardMill", name := "tray", desc := "(I)I" } : Jvm.MethodName)) ∈ lw_all := lw_g (lw_at lw_m8 27 rfl) rfl
theorem q1771 : (Jvm.Cond.selects "MustardMill" ({ cls := "MustardMill", name := "tray", desc := "(I)I" } : Jvm.MethodName) ({ cls := "MustardMill", name := "tray", desc := "(I)I" } : Jvm.MethodName)) ∈ lw_all := lw_g (lw_at lw_m8 28 rfl) rfl
theorem q1772 : (Jvm.Cond.code ({ cls := "MustardMill", name := "tray", desc := "(I)I" } : Jvm.MethodName) prog_1_method_30_code (2 : Nat) (Option.some Jvm.ClassFile.FieldType.int)) ∈ lw_all := lw_g (lw_at lw_m8 29 rfl) rfl
theorem q1773 : (Jvm.Cond.stringRef "MustardMill" (247 : Nat) "tray") ∈ lw_tbl := lw_at lw_m8 30 rfl
theorem q1778 : (Jvm.Cond.instanceMethod ({ cls := "MustardMill", name := "lay", desc := "(III)I" } : Jvm.MethodName)) ∈ lw_all := lw_g (lw_at lw_m8 35 rfl) rfl
theorem q1779 : (Jvm.Cond.selects "MustardMill" ({ cls := "MustardMill", name := "lay", desc := "(III)I" } : Jvm.MethodName) ({ cls := "MustardMill", name := "lay", desc := "(III)I" } : Jvm.MethodName)) ∈ lw_all := lw_g (lw_at lw_m8 36 rfl) rfl
theorem q1780 : (Jvm.Cond.code ({ cls := "MustardMill", name := "lay", desc := "(III)I" } : Jvm.MethodName) prog_1_method_31_code (4 : Nat) (Option.some Jvm.ClassFile.FieldType.int)) ∈ lw_all := lw_g (lw_at lw_m8 37 rfl) rfl
theorem q1781 : (Jvm.Cond.stringRef "MustardMill" (249 : Nat) "lay") ∈ lw_tbl := lw_at lw_m8 38 rfl
theorem q1786 : (Jvm.Cond.instanceMethod ({ cls := "MustardMill", name := "onTray", desc := "(I)I" } : Jvm.MethodName)) ∈ lw_all := lw_g (lw_at lw_m8 43 rfl) rfl
theorem q1787 : (Jvm.Cond.selects "MustardMill" ({ cls := "MustardMill", name := "onTray", desc := "(I)I" } : Jvm.MethodName) ({ cls := "MustardMill", name := "onTray", desc := "(I)I" } : Jvm.MethodName)) ∈ lw_all := lw_g (lw_at lw_m8 44 rfl) rfl
theorem q1788 : (Jvm.Cond.code ({ cls := "MustardMill", name := "onTray", desc := "(I)I" } : Jvm.MethodName) prog_1_method_32_code (2 : Nat) (Option.some Jvm.ClassFile.FieldType.int)) ∈ lw_all := lw_g (lw_at lw_m8 45 rfl) rfl
theorem q1789 : (Jvm.Cond.constantLong "MustardMill" (251 : Nat) (3 : Int64)) ∈ lw_all := lw_g (lw_at lw_m8 46 rfl) rfl
theorem q1790 : (Jvm.Cond.methodLink "MustardMill" (253 : Nat) ({ cls := "MustardMill", name := "checkIndex", desc := "(Z)V" } : Jvm.MethodName)) ∈ lw_all := lw_g (lw_at lw_m8 47 rfl) rfl
theorem q1795 : (Jvm.Cond.instanceMethod ({ cls := "MustardMill", name := "line", desc := "(I)I" } : Jvm.MethodName)) ∈ lw_all := lw_g (lw_at lw_m8 52 rfl) rfl
theorem q1796 : (Jvm.Cond.selects "MustardMill" ({ cls := "MustardMill", name := "line", desc := "(I)I" } : Jvm.MethodName) ({ cls := "MustardMill", name := "line", desc := "(I)I" } : Jvm.MethodName)) ∈ lw_all := lw_g (lw_at lw_m8 53 rfl) rfl
theorem q1797 : (Jvm.Cond.code ({ cls := "MustardMill", name := "line", desc := "(I)I" } : Jvm.MethodName) prog_1_method_33_code (2 : Nat) (Option.some Jvm.ClassFile.FieldType.int)) ∈ lw_all := lw_g (lw_at lw_m8 54 rfl) rfl
theorem q1798 : (Jvm.Cond.methodLink "MustardMill" (259 : Nat) ({ cls := "MustardMill$Jar", name := "told", desc := "()Ljava/lang/String;" } : Jvm.MethodName)) ∈ lw_all := lw_g (lw_at lw_m8 55 rfl) rfl
theorem q1820 : (Jvm.Cond.instanceMethod ({ cls := "MustardMill", name := "character", desc := "(I)C" } : Jvm.MethodName)) ∈ lw_all := lw_g (lw_at lw_m8 77 rfl) rfl
theorem q1821 : (Jvm.Cond.selects "MustardMill" ({ cls := "MustardMill", name := "character", desc := "(I)C" } : Jvm.MethodName) ({ cls := "MustardMill", name := "character", desc := "(I)C" } : Jvm.MethodName)) ∈ lw_all := lw_g (lw_at lw_m8 78 rfl) rfl
theorem q1822 : (Jvm.Cond.code ({ cls := "MustardMill", name := "character", desc := "(I)C" } : Jvm.MethodName) prog_1_method_35_code (2 : Nat) (Option.some Jvm.ClassFile.FieldType.char)) ∈ lw_all := lw_g (lw_at lw_m8 79 rfl) rfl
theorem q1823 : (Jvm.Cond.methodLink "MustardMill" (269 : Nat) ({ cls := "java/lang/String", name := "charAt", desc := "(I)C" } : Jvm.MethodName)) ∈ lw_all := lw_g (lw_at lw_m8 80 rfl) rfl
theorem q1828 : (Jvm.Cond.instanceMethod ({ cls := "MustardMill", name := "refusal", desc := "(Z)I" } : Jvm.MethodName)) ∈ lw_all := lw_g (lw_at lw_m8 85 rfl) rfl
theorem q1829 : (Jvm.Cond.selects "MustardMill" ({ cls := "MustardMill", name := "refusal", desc := "(Z)I" } : Jvm.MethodName) ({ cls := "MustardMill", name := "refusal", desc := "(Z)I" } : Jvm.MethodName)) ∈ lw_all := lw_g (lw_at lw_m8 86 rfl) rfl
theorem q1830 : (Jvm.Cond.code ({ cls := "MustardMill", name := "refusal", desc := "(Z)I" } : Jvm.MethodName) prog_1_method_36_code (2 : Nat) (Option.some Jvm.ClassFile.FieldType.int)) ∈ lw_all := lw_g (lw_at lw_m8 87 rfl) rfl
theorem q1835 : (Jvm.Cond.instanceMethod ({ cls := "MustardMill", name := "account", desc := "(I)I" } : Jvm.MethodName)) ∈ lw_all := lw_g (lw_at lw_m8 92 rfl) rfl
theorem q1836 : (Jvm.Cond.selects "MustardMill" ({ cls := "MustardMill", name := "account", desc := "(I)I" } : Jvm.MethodName) ({ cls := "MustardMill", name := "account", desc := "(I)I" } : Jvm.MethodName)) ∈ lw_all := lw_g (lw_at lw_m8 93 rfl) rfl
theorem q1837 : (Jvm.Cond.code ({ cls := "MustardMill", name := "account", desc := "(I)I" } : Jvm.MethodName) prog_1_method_37_code (2 : Nat) (Option.some Jvm.ClassFile.FieldType.int)) ∈ lw_all := lw_g (lw_at lw_m8 94 rfl) rfl
theorem q1838 : (Jvm.Cond.methodLink "MustardMill" (286 : Nat) ({ cls := "MustardMill$Shelf", name := "size", desc := "()I" } : Jvm.MethodName)) ∈ lw_all := lw_g (lw_at lw_m8 95 rfl) rfl
theorem q1839 : (Jvm.Cond.methodLink "MustardMill" (287 : Nat) ({ cls := "MustardMill$Numbered", name := "count", desc := "(Ljava/lang/Iterable;I)I" } : Jvm.MethodName)) ∈ lw_all := lw_g (lw_at lw_m8 96 rfl) rfl
theorem q1840 : (Jvm.Cond.methodLink "MustardMill" (293 : Nat) ({ cls := "MustardMill$Mill", name := "ripe", desc := "()I" } : Jvm.MethodName)) ∈ lw_all := lw_g (lw_at lw_m8 97 rfl) rfl
theorem q1844 : (Jvm.Cond.methodLink "MustardMill" (299 : Nat) ({ cls := "java/lang/StringBuilder", name := "length", desc := "()I" } : Jvm.MethodName)) ∈ lw_all := lw_g (lw_at lw_m8 101 rfl) rfl
theorem q1863 : (Jvm.Cond.instanceMethod ({ cls := "MustardMill", name := "meanTear", desc := "()D" } : Jvm.MethodName)) ∈ lw_all := lw_g (lw_at lw_m8 120 rfl) rfl
theorem q1864 : (Jvm.Cond.selects "MustardMill" ({ cls := "MustardMill", name := "meanTear", desc := "()D" } : Jvm.MethodName) ({ cls := "MustardMill", name := "meanTear", desc := "()D" } : Jvm.MethodName)) ∈ lw_all := lw_g (lw_at lw_m8 121 rfl) rfl
theorem q1865 : (Jvm.Cond.code ({ cls := "MustardMill", name := "meanTear", desc := "()D" } : Jvm.MethodName) prog_1_method_38_code (2 : Nat) (Option.some Jvm.ClassFile.FieldType.double)) ∈ lw_all := lw_g (lw_at lw_m8 122 rfl) rfl
theorem q1866 : (Jvm.Cond.methodLink "MustardMill" (300 : Nat) ({ cls := "MustardMill", name := "checkNumbers", desc := "(Z)V" } : Jvm.MethodName)) ∈ lw_all := lw_g (lw_at lw_m8 123 rfl) rfl
theorem q1867 : (Jvm.Cond.static ({ cls := "MustardMill", name := "checkNumbers", desc := "(Z)V" } : Jvm.MethodName)) ∈ lw_all := lw_g (lw_at lw_m8 124 rfl) rfl
theorem q1868 : (Jvm.Cond.code ({ cls := "MustardMill", name := "checkNumbers", desc := "(Z)V" } : Jvm.MethodName) prog_1_method_6_code (1 : Nat) (Option.none : Option Jvm.ClassFile.FieldType)) ∈ lw_all := lw_g (lw_at lw_m8 125 rfl) rfl
theorem q1869 : (Jvm.Cond.classLink "MustardMill" (16 : Nat) "java/lang/ArithmeticException") ∈ lw_all := lw_g (lw_at lw_m8 126 rfl) rfl
theorem q1870 : (Jvm.Cond.methodLink "MustardMill" (18 : Nat) ({ cls := "java/lang/ArithmeticException", name := "<init>", desc := "()V" } : Jvm.MethodName)) ∈ lw_all := lw_g (lw_at lw_m8 127 rfl) rfl
theorem q1874 : (Jvm.Cond.methodLink "MustardMill" (303 : Nat) ({ cls := "MustardMill$Mill", name := "tearsSold", desc := "()I" } : Jvm.MethodName)) ∈ lw_all := lw_g (lw_at lw_m8 131 rfl) rfl
theorem q1882 : (Jvm.Cond.instanceMethod ({ cls := "MustardMill", name := "soldShare", desc := "()F" } : Jvm.MethodName)) ∈ lw_all := lw_g (lw_at lw_m8 139 rfl) rfl
theorem q1883 : (Jvm.Cond.selects "MustardMill" ({ cls := "MustardMill", name := "soldShare", desc := "()F" } : Jvm.MethodName) ({ cls := "MustardMill", name := "soldShare", desc := "()F" } : Jvm.MethodName)) ∈ lw_all := lw_g (lw_at lw_m8 140 rfl) rfl
theorem q1884 : (Jvm.Cond.code ({ cls := "MustardMill", name := "soldShare", desc := "()F" } : Jvm.MethodName) prog_1_method_39_code (2 : Nat) (Option.some Jvm.ClassFile.FieldType.float)) ∈ lw_all := lw_g (lw_at lw_m8 141 rfl) rfl
theorem q1889 : (Jvm.Cond.instanceMethod ({ cls := "MustardMill", name := "append", desc := "(I)I" } : Jvm.MethodName)) ∈ lw_all := lw_g (lw_at lw_m8 146 rfl) rfl
theorem q1890 : (Jvm.Cond.selects "MustardMill" ({ cls := "MustardMill", name := "append", desc := "(I)I" } : Jvm.MethodName) ({ cls := "MustardMill", name := "append", desc := "(I)I" } : Jvm.MethodName)) ∈ lw_all := lw_g (lw_at lw_m8 147 rfl) rfl
theorem q1891 : (Jvm.Cond.code ({ cls := "MustardMill", name := "append", desc := "(I)I" } : Jvm.MethodName) prog_1_method_40_code (5 : Nat) (Option.some Jvm.ClassFile.FieldType.int)) ∈ lw_all := lw_g (lw_at lw_m8 148 rfl) rfl
theorem q1892 : (Jvm.Cond.constantLong "MustardMill" (306 : Nat) (32 : Int64)) ∈ lw_all := lw_g (lw_at lw_m8 149 rfl) rfl
theorem q1893 : (Jvm.Cond.constantLong "MustardMill" (308 : Nat) (126 : Int64)) ∈ lw_all := lw_g (lw_at lw_m8 150 rfl) rfl
theorem q1894 : (Jvm.Cond.methodLink "MustardMill" (310 : Nat) ({ cls := "java/lang/StringBuilder", name := "append", desc := "(C)Ljava/lang/StringBuilder;" } : Jvm.MethodName)) ∈ lw_all := lw_g (lw_at lw_m8 151 rfl) rfl
theorem q1899 : (Jvm.Cond.instanceMethod ({ cls := "MustardMill", name := "read", desc := "()I" } : Jvm.MethodName)) ∈ lw_all := lw_g (lw_at lw_m8 156 rfl) rfl
theorem q1900 : (Jvm.Cond.selects "MustardMill" ({ cls := "MustardMill", name := "read", desc := "()I" } : Jvm.MethodName) ({ cls := "MustardMill", name := "read", desc := "()I" } : Jvm.MethodName)) ∈ lw_all := lw_g (lw_at lw_m8 157 rfl) rfl
theorem q1901 : (Jvm.Cond.codeWith ({ cls := "MustardMill", name := "read", desc := "()I" } : Jvm.MethodName) prog_1_method_42_code (7 : Nat) (Option.some Jvm.ClassFile.FieldType.int) [((15 : Nat), (57 : Nat), (60 : Nat), (80 : Nat)), ((15 : Nat), (57 : Nat), (81 : Nat), (7 : Nat)), ((15 : Nat), (57 : Nat), (81 : Nat), (1 : Nat))]) ∈ lw_all := lw_g (lw_at lw_m8 158 rfl) rfl
theorem q1902 : (Jvm.Cond.methodLink "MustardMill" (329 : Nat) ({ cls := "MustardMill", name := "takeOrders", desc := "()Ljava/util/ArrayList;" } : Jvm.MethodName)) ∈ lw_all := lw_g (lw_at lw_m8 159 rfl) rfl
theorem q1903 : (Jvm.Cond.privateMethod ({ cls := "MustardMill", name := "takeOrders", desc := "()Ljava/util/ArrayList;" } : Jvm.MethodName)) ∈ lw_tbl := lw_at lw_m8 160 rfl
theorem q1904 : (Jvm.Cond.instanceMethod ({ cls := "MustardMill", name := "takeOrders", desc := "()Ljava/util/ArrayList;" } : Jvm.MethodName)) ∈ lw_all := lw_g (lw_at lw_m8 161 rfl) rfl
theorem q1905 : (Jvm.Cond.codeWith ({ cls := "MustardMill", name := "takeOrders", desc := "()Ljava/util/ArrayList;" } : Jvm.MethodName) prog_1_method_41_code (3 : Nat) (Option.some (Jvm.ClassFile.FieldType.object "java/util/ArrayList")) [((23 : Nat), (27 : Nat), (28 : Nat), (323 : Nat))]) ∈ lw_all := lw_g (lw_at lw_m8 162 rfl) rfl
theorem q1906 : (Jvm.Cond.classLink "MustardMill" (323 : Nat) "MustardMill$SyntaxException") ∈ lw_all := lw_g (lw_at lw_m8 163 rfl) rfl
theorem q1907 : (Jvm.Cond.classLink "MustardMill" (314 : Nat) "MustardMill$Parser") ∈ lw_all := lw_g (lw_at lw_m8 164 rfl) rfl
theorem q1909 : (Jvm.Cond.methodLink "MustardMill" (316 : Nat) ({ cls := "MustardMill$Parser", name := "<init>", desc := "(Ljava/lang/CharSequence;)V" } : Jvm.MethodName)) ∈ lw_all := lw_g (lw_at lw_m8 166 rfl) rfl
theorem q1933 : (Jvm.Cond.methodLink "MustardMill" (319 : Nat) ({ cls := "MustardMill$Parser", name := "orders", desc := "()Ljava/util/ArrayList;" } : Jvm.MethodName)) ∈ lw_all := lw_g (lw_at lw_m8 190 rfl) rfl
theorem q2002 : (Jvm.Cond.fieldLinkNest "MustardMill" (347 : Nat) "MustardMill$SyntaxException" "position" "I" "MustardMill") ∈ lw_tbl := lw_at lw_m9 19 rfl
theorem q2024 : (Jvm.Cond.methodLink "MustardMill" (332 : Nat) ({ cls := "java/util/ArrayList", name := "iterator", desc := "()Ljava/util/Iterator;" } : Jvm.MethodName)) ∈ lw_all := lw_g (lw_at lw_m9 41 rfl) rfl
theorem q2025 : (Jvm.Cond.interfaceEntry "MustardMill" (338 : Nat)) ∈ lw_tbl := lw_at lw_m9 42 rfl
theorem q2026 : (Jvm.Cond.methodLink "MustardMill" (338 : Nat) ({ cls := "java/util/Iterator", name := "hasNext", desc := "()Z" } : Jvm.MethodName)) ∈ lw_all := lw_g (lw_at lw_m9 43 rfl) rfl
theorem q2027 : (Jvm.Cond.interfaceEntry "MustardMill" (344 : Nat)) ∈ lw_tbl := lw_at lw_m9 44 rfl
theorem q2028 : (Jvm.Cond.methodLink "MustardMill" (344 : Nat) ({ cls := "java/util/Iterator", name := "next", desc := "()Ljava/lang/Object;" } : Jvm.MethodName)) ∈ lw_all := lw_g (lw_at lw_m9 45 rfl) rfl
theorem q2033 : (Jvm.Cond.instanceMethod ({ cls := "MustardMill", name := "errorPosition", desc := "()I" } : Jvm.MethodName)) ∈ lw_all := lw_g (lw_at lw_m9 50 rfl) rfl
theorem q2034 : (Jvm.Cond.selects "MustardMill" ({ cls := "MustardMill", name := "errorPosition", desc := "()I" } : Jvm.MethodName) ({ cls := "MustardMill", name := "errorPosition", desc := "()I" } : Jvm.MethodName)) ∈ lw_all := lw_g (lw_at lw_m9 51 rfl) rfl
theorem q2035 : (Jvm.Cond.code ({ cls := "MustardMill", name := "errorPosition", desc := "()I" } : Jvm.MethodName) prog_1_method_43_code (1 : Nat) (Option.some Jvm.ClassFile.FieldType.int)) ∈ lw_all := lw_g (lw_at lw_m9 52 rfl) rfl
theorem q2040 : (Jvm.Cond.instanceMethod ({ cls := "MustardMill", name := "refusedItem", desc := "()I" } : Jvm.MethodName)) ∈ lw_all := lw_g (lw_at lw_m9 57 rfl) rfl
theorem q2041 : (Jvm.Cond.selects "MustardMill" ({ cls := "MustardMill", name := "refusedItem", desc := "()I" } : Jvm.MethodName) ({ cls := "MustardMill", name := "refusedItem", desc := "()I" } : Jvm.MethodName)) ∈ lw_all := lw_g (lw_at lw_m9 58 rfl) rfl
theorem q2042 : (Jvm.Cond.code ({ cls := "MustardMill", name := "refusedItem", desc := "()I" } : Jvm.MethodName) prog_1_method_44_code (1 : Nat) (Option.some Jvm.ClassFile.FieldType.int)) ∈ lw_all := lw_g (lw_at lw_m9 59 rfl) rfl
theorem q2047 : (Jvm.Cond.instanceMethod ({ cls := "MustardMill", name := "undo", desc := "()I" } : Jvm.MethodName)) ∈ lw_all := lw_g (lw_at lw_m9 64 rfl) rfl
theorem q2048 : (Jvm.Cond.selects "MustardMill" ({ cls := "MustardMill", name := "undo", desc := "()I" } : Jvm.MethodName) ({ cls := "MustardMill", name := "undo", desc := "()I" } : Jvm.MethodName)) ∈ lw_all := lw_g (lw_at lw_m9 65 rfl) rfl
theorem q2049 : (Jvm.Cond.code ({ cls := "MustardMill", name := "undo", desc := "()I" } : Jvm.MethodName) prog_1_method_45_code (1 : Nat) (Option.some Jvm.ClassFile.FieldType.int)) ∈ lw_all := lw_g (lw_at lw_m9 66 rfl) rfl
theorem q2050 : (Jvm.Cond.methodLink "MustardMill" (350 : Nat) ({ cls := "java/util/ArrayDeque", name := "isEmpty", desc := "()Z" } : Jvm.MethodName)) ∈ lw_all := lw_g (lw_at lw_m9 67 rfl) rfl
theorem q2054 : (Jvm.Cond.methodLink "MustardMill" (353 : Nat) ({ cls := "java/util/ArrayDeque", name := "removeLast", desc := "()Ljava/lang/Object;" } : Jvm.MethodName)) ∈ lw_all := lw_g (lw_at lw_m9 71 rfl) rfl
theorem q2069 : (Jvm.Cond.instanceMethod ({ cls := "MustardMill", name := "restore", desc := "()I" } : Jvm.MethodName)) ∈ lw_all := lw_g (lw_at lw_m9 86 rfl) rfl
theorem q2070 : (Jvm.Cond.selects "MustardMill" ({ cls := "MustardMill", name := "restore", desc := "()I" } : Jvm.MethodName) ({ cls := "MustardMill", name := "restore", desc := "()I" } : Jvm.MethodName)) ∈ lw_all := lw_g (lw_at lw_m9 87 rfl) rfl
theorem q2071 : (Jvm.Cond.code ({ cls := "MustardMill", name := "restore", desc := "()I" } : Jvm.MethodName) prog_1_method_47_code (1 : Nat) (Option.some Jvm.ClassFile.FieldType.int)) ∈ lw_all := lw_g (lw_at lw_m9 88 rfl) rfl
theorem q2536 : (Jvm.Cond.castable "MustardMill" "java/lang/Object") ∈ lw_tbl := lw_at lw_m11 73 rfl
theorem in_X1 : ∀ w ∈ wsX10, w ∈ lw_all := lw_in wsX10 [299, 301, 303, 305, 307, 309, 311, 313] (by decide +kernel) (by decide +kernel)
