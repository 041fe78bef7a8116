/-! MustardMill$Taste -/
set_option maxRecDepth 100000
def RX10 : String := "MustardMill$Taste"
abbrev cX10_bite : ByteArray := prog_14_method_5_code
def yX10_bite : MethodName := ⟨RX10, "bite", "(I[I)I"⟩
def dkwX10_bite_2 : List UInt8 := [26, 8, 100, 184, 0, 12, 104, 100, 184, 0, 12, 172]
abbrev dktX10_bite_2 : List UInt8 := dkwX10_bite_2 ++ []
def dkwX10_bite_1 : List UInt8 := [96, 61, 29, 43, 21, 4, 46, 96, 62, 132, 4, 1, 167, 255, 227, 4, 16, 10, 28, 104, 29, 108, 5, 3]
abbrev dktX10_bite_1 : List UInt8 := dkwX10_bite_1 ++ dktX10_bite_2
def dkwX10_bite_0 : List UInt8 := [3, 61, 3, 62, 3, 54, 4, 21, 4, 43, 190, 162, 0, 28, 28, 21, 4, 4, 96, 43, 21, 4, 46, 104]
abbrev dktX10_bite_0 : List UInt8 := dkwX10_bite_0 ++ dktX10_bite_1
theorem dksX10_bite_0 : cX10_bite.data.toList.drop 0 = dktX10_bite_0 := by decide +kernel
theorem dksX10_bite_1 : cX10_bite.data.toList.drop 24 = dktX10_bite_1 := dk_seg dksX10_bite_0 24 rfl rfl
theorem dksX10_bite_2 : cX10_bite.data.toList.drop 48 = dktX10_bite_2 := dk_seg dksX10_bite_1 24 rfl rfl
theorem dX10_bite_0 : decode cX10_bite 0 = .ok (.iconst 0, 1) := dk_3 (dk_at dksX10_bite_0 0 rfl rfl)
theorem dX10_bite_1 : decode cX10_bite 1 = .ok (.istore_n 2, 1) := dk_61 (dk_at dksX10_bite_0 1 rfl rfl)
theorem dX10_bite_2 : decode cX10_bite 2 = .ok (.iconst 0, 1) := dk_3 (dk_at dksX10_bite_0 2 rfl rfl)
theorem dX10_bite_3 : decode cX10_bite 3 = .ok (.istore_n 3, 1) := dk_62 (dk_at dksX10_bite_0 3 rfl rfl)
theorem dX10_bite_4 : decode cX10_bite 4 = .ok (.iconst 0, 1) := dk_3 (dk_at dksX10_bite_0 4 rfl rfl)
theorem dX10_bite_5 : decode cX10_bite 5 = .ok (.istore 4, 2) := dk_54 4 (dk_at dksX10_bite_0 5 rfl rfl)
theorem dX10_bite_7 : decode cX10_bite 7 = .ok (.iload 4, 2) := dk_21 4 (dk_at dksX10_bite_0 7 rfl rfl)
theorem dX10_bite_9 : decode cX10_bite 9 = .ok (.aload_n 1, 1) := dk_43 (dk_at dksX10_bite_0 9 rfl rfl)
theorem dX10_bite_10 : decode cX10_bite 10 = .ok (.arraylength, 1) := dk_190 (dk_at dksX10_bite_0 10 rfl rfl)
theorem dX10_bite_11 : decode cX10_bite 11 = .ok (.if_icmp .ge 28, 3) := dk_162 0 28 (dk_at dksX10_bite_0 11 rfl rfl)
theorem dX10_bite_14 : decode cX10_bite 14 = .ok (.iload_n 2, 1) := dk_28 (dk_at dksX10_bite_0 14 rfl rfl)
theorem dX10_bite_15 : decode cX10_bite 15 = .ok (.iload 4, 2) := dk_21 4 (dk_at dksX10_bite_0 15 rfl rfl)
theorem dX10_bite_17 : decode cX10_bite 17 = .ok (.iconst 1, 1) := dk_4 (dk_at dksX10_bite_0 17 rfl rfl)
theorem dX10_bite_18 : decode cX10_bite 18 = .ok (.iadd, 1) := dk_96 (dk_at dksX10_bite_0 18 rfl rfl)
theorem dX10_bite_19 : decode cX10_bite 19 = .ok (.aload_n 1, 1) := dk_43 (dk_at dksX10_bite_0 19 rfl rfl)
theorem dX10_bite_20 : decode cX10_bite 20 = .ok (.iload 4, 2) := dk_21 4 (dk_at dksX10_bite_0 20 rfl rfl)
theorem dX10_bite_22 : decode cX10_bite 22 = .ok (.iaload, 1) := dk_46 (dk_at dksX10_bite_0 22 rfl rfl)
theorem dX10_bite_23 : decode cX10_bite 23 = .ok (.imul, 1) := dk_104 (dk_at dksX10_bite_0 23 rfl rfl)
theorem dX10_bite_24 : decode cX10_bite 24 = .ok (.iadd, 1) := dk_96 (dk_at dksX10_bite_1 0 rfl rfl)
theorem dX10_bite_25 : decode cX10_bite 25 = .ok (.istore_n 2, 1) := dk_61 (dk_at dksX10_bite_1 1 rfl rfl)
theorem dX10_bite_26 : decode cX10_bite 26 = .ok (.iload_n 3, 1) := dk_29 (dk_at dksX10_bite_1 2 rfl rfl)
theorem dX10_bite_27 : decode cX10_bite 27 = .ok (.aload_n 1, 1) := dk_43 (dk_at dksX10_bite_1 3 rfl rfl)
theorem dX10_bite_28 : decode cX10_bite 28 = .ok (.iload 4, 2) := dk_21 4 (dk_at dksX10_bite_1 4 rfl rfl)
theorem dX10_bite_30 : decode cX10_bite 30 = .ok (.iaload, 1) := dk_46 (dk_at dksX10_bite_1 6 rfl rfl)
theorem dX10_bite_31 : decode cX10_bite 31 = .ok (.iadd, 1) := dk_96 (dk_at dksX10_bite_1 7 rfl rfl)
theorem dX10_bite_32 : decode cX10_bite 32 = .ok (.istore_n 3, 1) := dk_62 (dk_at dksX10_bite_1 8 rfl rfl)
theorem dX10_bite_33 : decode cX10_bite 33 = .ok (.iinc 4 1, 3) := dk_132 4 1 (dk_at dksX10_bite_1 9 rfl rfl)
theorem dX10_bite_36 : decode cX10_bite 36 = .ok (.goto (-29), 3) := dk_167 255 227 (dk_at dksX10_bite_1 12 rfl rfl)
theorem dX10_bite_39 : decode cX10_bite 39 = .ok (.iconst 1, 1) := dk_4 (dk_at dksX10_bite_1 15 rfl rfl)
theorem dX10_bite_40 : decode cX10_bite 40 = .ok (.bipush 10, 2) := dk_16 10 (dk_at dksX10_bite_1 16 rfl rfl)
theorem dX10_bite_42 : decode cX10_bite 42 = .ok (.iload_n 2, 1) := dk_28 (dk_at dksX10_bite_1 18 rfl rfl)
theorem dX10_bite_43 : decode cX10_bite 43 = .ok (.imul, 1) := dk_104 (dk_at dksX10_bite_1 19 rfl rfl)
theorem dX10_bite_44 : decode cX10_bite 44 = .ok (.iload_n 3, 1) := dk_29 (dk_at dksX10_bite_1 20 rfl rfl)
theorem dX10_bite_45 : decode cX10_bite 45 = .ok (.idiv, 1) := dk_108 (dk_at dksX10_bite_1 21 rfl rfl)
theorem dX10_bite_46 : decode cX10_bite 46 = .ok (.iconst 2, 1) := dk_5 (dk_at dksX10_bite_1 22 rfl rfl)
theorem dX10_bite_47 : decode cX10_bite 47 = .ok (.iconst 0, 1) := dk_3 (dk_at dksX10_bite_1 23 rfl rfl)
theorem dX10_bite_48 : decode cX10_bite 48 = .ok (.iload_n 0, 1) := dk_26 (dk_at dksX10_bite_2 0 rfl rfl)
theorem dX10_bite_49 : decode cX10_bite 49 = .ok (.iconst 5, 1) := dk_8 (dk_at dksX10_bite_2 1 rfl rfl)
theorem dX10_bite_50 : decode cX10_bite 50 = .ok (.isub, 1) := dk_100 (dk_at dksX10_bite_2 2 rfl rfl)
theorem dX10_bite_51 : decode cX10_bite 51 = .ok (.invokestatic 12, 3) := dk_184 0 12 (dk_at dksX10_bite_2 3 rfl rfl)
theorem dX10_bite_54 : decode cX10_bite 54 = .ok (.imul, 1) := dk_104 (dk_at dksX10_bite_2 6 rfl rfl)
theorem dX10_bite_55 : decode cX10_bite 55 = .ok (.isub, 1) := dk_100 (dk_at dksX10_bite_2 7 rfl rfl)
theorem dX10_bite_56 : decode cX10_bite 56 = .ok (.invokestatic 12, 3) := dk_184 0 12 (dk_at dksX10_bite_2 8 rfl rfl)
theorem dX10_bite_59 : decode cX10_bite 59 = .ok (.ireturn, 1) := dk_172 (dk_at dksX10_bite_2 11 rfl rfl)
abbrev cX10_tear : ByteArray := prog_14_method_3_code
def yX10_tear : MethodName := ⟨RX10, "tear", "(I)I"⟩
def dkwX10_tear_1 : List UInt8 := [167, 0, 15, 42, 185, 0, 9, 1, 0, 27, 28, 100, 6, 108, 100, 62, 3, 29, 184, 0, 12, 172]
abbrev dktX10_tear_1 : List UInt8 := dkwX10_tear_1 ++ []
def dkwX10_tear_0 : List UInt8 := [42, 185, 0, 3, 1, 0, 61, 27, 28, 163, 0, 16, 42, 185, 0, 9, 1, 0, 27, 104, 28, 108]
abbrev dktX10_tear_0 : List UInt8 := dkwX10_tear_0 ++ dktX10_tear_1
theorem dksX10_tear_0 : cX10_tear.data.toList.drop 0 = dktX10_tear_0 := by decide +kernel
theorem dksX10_tear_1 : cX10_tear.data.toList.drop 22 = dktX10_tear_1 := dk_seg dksX10_tear_0 22 rfl rfl
theorem dX10_tear_0 : decode cX10_tear 0 = .ok (.aload_n 0, 1) := dk_42 (dk_at dksX10_tear_0 0 rfl rfl)
theorem dX10_tear_1 : decode cX10_tear 1 = .ok (.invokeinterface 3 1, 5) := by decide +kernel
theorem dX10_tear_6 : decode cX10_tear 6 = .ok (.istore_n 2, 1) := dk_61 (dk_at dksX10_tear_0 6 rfl rfl)
theorem dX10_tear_7 : decode cX10_tear 7 = .ok (.iload_n 1, 1) := dk_27 (dk_at dksX10_tear_0 7 rfl rfl)
theorem dX10_tear_8 : decode cX10_tear 8 = .ok (.iload_n 2, 1) := dk_28 (dk_at dksX10_tear_0 8 rfl rfl)
theorem dX10_tear_9 : decode cX10_tear 9 = .ok (.if_icmp .gt 16, 3) := dk_163 0 16 (dk_at dksX10_tear_0 9 rfl rfl)
theorem dX10_tear_12 : decode cX10_tear 12 = .ok (.aload_n 0, 1) := dk_42 (dk_at dksX10_tear_0 12 rfl rfl)
theorem dX10_tear_13 : decode cX10_tear 13 = .ok (.invokeinterface 9 1, 5) := by decide +kernel
theorem dX10_tear_18 : decode cX10_tear 18 = .ok (.iload_n 1, 1) := dk_27 (dk_at dksX10_tear_0 18 rfl rfl)
theorem dX10_tear_19 : decode cX10_tear 19 = .ok (.imul, 1) := dk_104 (dk_at dksX10_tear_0 19 rfl rfl)
theorem dX10_tear_20 : decode cX10_tear 20 = .ok (.iload_n 2, 1) := dk_28 (dk_at dksX10_tear_0 20 rfl rfl)
theorem dX10_tear_21 : decode cX10_tear 21 = .ok (.idiv, 1) := dk_108 (dk_at dksX10_tear_0 21 rfl rfl)
theorem dX10_tear_22 : decode cX10_tear 22 = .ok (.goto 15, 3) := dk_167 0 15 (dk_at dksX10_tear_1 0 rfl rfl)
theorem dX10_tear_25 : decode cX10_tear 25 = .ok (.aload_n 0, 1) := dk_42 (dk_at dksX10_tear_1 3 rfl rfl)
theorem dX10_tear_26 : decode cX10_tear 26 = .ok (.invokeinterface 9 1, 5) := by decide +kernel
theorem dX10_tear_31 : decode cX10_tear 31 = .ok (.iload_n 1, 1) := dk_27 (dk_at dksX10_tear_1 9 rfl rfl)
theorem dX10_tear_32 : decode cX10_tear 32 = .ok (.iload_n 2, 1) := dk_28 (dk_at dksX10_tear_1 10 rfl rfl)
theorem dX10_tear_33 : decode cX10_tear 33 = .ok (.isub, 1) := dk_100 (dk_at dksX10_tear_1 11 rfl rfl)
theorem dX10_tear_34 : decode cX10_tear 34 = .ok (.iconst 3, 1) := dk_6 (dk_at dksX10_tear_1 12 rfl rfl)
theorem dX10_tear_35 : decode cX10_tear 35 = .ok (.idiv, 1) := dk_108 (dk_at dksX10_tear_1 13 rfl rfl)
theorem dX10_tear_36 : decode cX10_tear 36 = .ok (.isub, 1) := dk_100 (dk_at dksX10_tear_1 14 rfl rfl)
theorem dX10_tear_37 : decode cX10_tear 37 = .ok (.istore_n 3, 1) := dk_62 (dk_at dksX10_tear_1 15 rfl rfl)
theorem dX10_tear_38 : decode cX10_tear 38 = .ok (.iconst 0, 1) := dk_3 (dk_at dksX10_tear_1 16 rfl rfl)
theorem dX10_tear_39 : decode cX10_tear 39 = .ok (.iload_n 3, 1) := dk_29 (dk_at dksX10_tear_1 17 rfl rfl)
theorem dX10_tear_40 : decode cX10_tear 40 = .ok (.invokestatic 12, 3) := dk_184 0 12 (dk_at dksX10_tear_1 18 rfl rfl)
theorem dX10_tear_43 : decode cX10_tear 43 = .ok (.ireturn, 1) := dk_172 (dk_at dksX10_tear_1 21 rfl rfl)
abbrev cX10_tearAgain : ByteArray := prog_14_method_4_code
def yX10_tearAgain : MethodName := ⟨RX10, "tearAgain", "(I)I"⟩
def dkwX10_tearAgain_4 : List UInt8 := [172]
abbrev dktX10_tearAgain_4 : List UInt8 := dkwX10_tearAgain_4 ++ []
def dkwX10_tearAgain_3 : List UInt8 := [100, 6, 112, 154, 0, 11, 29, 158, 0, 7, 4, 167, 0, 4, 3, 100, 62, 132, 5, 1, 167, 255, 226, 29]
abbrev dktX10_tearAgain_3 : List UInt8 := dkwX10_tearAgain_3 ++ dktX10_tearAgain_4
def dkwX10_tearAgain_2 : List UInt8 := [112, 54, 4, 132, 5, 1, 167, 255, 217, 28, 4, 96, 54, 5, 21, 5, 27, 163, 0, 30, 29, 21, 5, 28]
abbrev dktX10_tearAgain_2 : List UInt8 := dkwX10_tearAgain_2 ++ dktX10_tearAgain_3
def dkwX10_tearAgain_1 : List UInt8 := [163, 0, 33, 21, 4, 42, 185, 0, 9, 1, 0, 96, 54, 4, 29, 21, 4, 28, 108, 96, 62, 21, 4, 28]
abbrev dktX10_tearAgain_1 : List UInt8 := dkwX10_tearAgain_1 ++ dktX10_tearAgain_2
def dkwX10_tearAgain_0 : List UInt8 := [42, 185, 0, 3, 1, 0, 61, 3, 62, 3, 54, 4, 4, 54, 5, 21, 5, 27, 163, 0, 39, 21, 5, 28]
abbrev dktX10_tearAgain_0 : List UInt8 := dkwX10_tearAgain_0 ++ dktX10_tearAgain_1
theorem dksX10_tearAgain_0 : cX10_tearAgain.data.toList.drop 0 = dktX10_tearAgain_0 := by decide +kernel
theorem dksX10_tearAgain_1 : cX10_tearAgain.data.toList.drop 24 = dktX10_tearAgain_1 := dk_seg dksX10_tearAgain_0 24 rfl rfl
theorem dksX10_tearAgain_2 : cX10_tearAgain.data.toList.drop 48 = dktX10_tearAgain_2 := dk_seg dksX10_tearAgain_1 24 rfl rfl
theorem dksX10_tearAgain_3 : cX10_tearAgain.data.toList.drop 72 = dktX10_tearAgain_3 := dk_seg dksX10_tearAgain_2 24 rfl rfl
theorem dksX10_tearAgain_4 : cX10_tearAgain.data.toList.drop 96 = dktX10_tearAgain_4 := dk_seg dksX10_tearAgain_3 24 rfl rfl
theorem dX10_tearAgain_0 : decode cX10_tearAgain 0 = .ok (.aload_n 0, 1) := dk_42 (dk_at dksX10_tearAgain_0 0 rfl rfl)
theorem dX10_tearAgain_1 : decode cX10_tearAgain 1 = .ok (.invokeinterface 3 1, 5) := by decide +kernel
theorem dX10_tearAgain_6 : decode cX10_tearAgain 6 = .ok (.istore_n 2, 1) := dk_61 (dk_at dksX10_tearAgain_0 6 rfl rfl)
theorem dX10_tearAgain_7 : decode cX10_tearAgain 7 = .ok (.iconst 0, 1) := dk_3 (dk_at dksX10_tearAgain_0 7 rfl rfl)
theorem dX10_tearAgain_8 : decode cX10_tearAgain 8 = .ok (.istore_n 3, 1) := dk_62 (dk_at dksX10_tearAgain_0 8 rfl rfl)
theorem dX10_tearAgain_9 : decode cX10_tearAgain 9 = .ok (.iconst 0, 1) := dk_3 (dk_at dksX10_tearAgain_0 9 rfl rfl)
theorem dX10_tearAgain_10 : decode cX10_tearAgain 10 = .ok (.istore 4, 2) := dk_54 4 (dk_at dksX10_tearAgain_0 10 rfl rfl)
theorem dX10_tearAgain_12 : decode cX10_tearAgain 12 = .ok (.iconst 1, 1) := dk_4 (dk_at dksX10_tearAgain_0 12 rfl rfl)
theorem dX10_tearAgain_13 : decode cX10_tearAgain 13 = .ok (.istore 5, 2) := dk_54 5 (dk_at dksX10_tearAgain_0 13 rfl rfl)
theorem dX10_tearAgain_15 : decode cX10_tearAgain 15 = .ok (.iload 5, 2) := dk_21 5 (dk_at dksX10_tearAgain_0 15 rfl rfl)
theorem dX10_tearAgain_17 : decode cX10_tearAgain 17 = .ok (.iload_n 1, 1) := dk_27 (dk_at dksX10_tearAgain_0 17 rfl rfl)
theorem dX10_tearAgain_18 : decode cX10_tearAgain 18 = .ok (.if_icmp .gt 39, 3) := dk_163 0 39 (dk_at dksX10_tearAgain_0 18 rfl rfl)
theorem dX10_tearAgain_21 : decode cX10_tearAgain 21 = .ok (.iload 5, 2) := dk_21 5 (dk_at dksX10_tearAgain_0 21 rfl rfl)
theorem dX10_tearAgain_23 : decode cX10_tearAgain 23 = .ok (.iload_n 2, 1) := dk_28 (dk_at dksX10_tearAgain_0 23 rfl rfl)
theorem dX10_tearAgain_24 : decode cX10_tearAgain 24 = .ok (.if_icmp .gt 33, 3) := dk_163 0 33 (dk_at dksX10_tearAgain_1 0 rfl rfl)
theorem dX10_tearAgain_27 : decode cX10_tearAgain 27 = .ok (.iload 4, 2) := dk_21 4 (dk_at dksX10_tearAgain_1 3 rfl rfl)
theorem dX10_tearAgain_29 : decode cX10_tearAgain 29 = .ok (.aload_n 0, 1) := dk_42 (dk_at dksX10_tearAgain_1 5 rfl rfl)
theorem dX10_tearAgain_30 : decode cX10_tearAgain 30 = .ok (.invokeinterface 9 1, 5) := by decide +kernel
theorem dX10_tearAgain_35 : decode cX10_tearAgain 35 = .ok (.iadd, 1) := dk_96 (dk_at dksX10_tearAgain_1 11 rfl rfl)
theorem dX10_tearAgain_36 : decode cX10_tearAgain 36 = .ok (.istore 4, 2) := dk_54 4 (dk_at dksX10_tearAgain_1 12 rfl rfl)
theorem dX10_tearAgain_38 : decode cX10_tearAgain 38 = .ok (.iload_n 3, 1) := dk_29 (dk_at dksX10_tearAgain_1 14 rfl rfl)
theorem dX10_tearAgain_39 : decode cX10_tearAgain 39 = .ok (.iload 4, 2) := dk_21 4 (dk_at dksX10_tearAgain_1 15 rfl rfl)
theorem dX10_tearAgain_41 : decode cX10_tearAgain 41 = .ok (.iload_n 2, 1) := dk_28 (dk_at dksX10_tearAgain_1 17 rfl rfl)
theorem dX10_tearAgain_42 : decode cX10_tearAgain 42 = .ok (.idiv, 1) := dk_108 (dk_at dksX10_tearAgain_1 18 rfl rfl)
theorem dX10_tearAgain_43 : decode cX10_tearAgain 43 = .ok (.iadd, 1) := dk_96 (dk_at dksX10_tearAgain_1 19 rfl rfl)
theorem dX10_tearAgain_44 : decode cX10_tearAgain 44 = .ok (.istore_n 3, 1) := dk_62 (dk_at dksX10_tearAgain_1 20 rfl rfl)
theorem dX10_tearAgain_45 : decode cX10_tearAgain 45 = .ok (.iload 4, 2) := dk_21 4 (dk_at dksX10_tearAgain_1 21 rfl rfl)
theorem dX10_tearAgain_47 : decode cX10_tearAgain 47 = .ok (.iload_n 2, 1) := dk_28 (dk_at dksX10_tearAgain_1 23 rfl rfl)
theorem dX10_tearAgain_48 : decode cX10_tearAgain 48 = .ok (.irem, 1) := dk_112 (dk_at dksX10_tearAgain_2 0 rfl rfl)
theorem dX10_tearAgain_49 : decode cX10_tearAgain 49 = .ok (.istore 4, 2) := dk_54 4 (dk_at dksX10_tearAgain_2 1 rfl rfl)
theorem dX10_tearAgain_51 : decode cX10_tearAgain 51 = .ok (.iinc 5 1, 3) := dk_132 5 1 (dk_at dksX10_tearAgain_2 3 rfl rfl)
theorem dX10_tearAgain_54 : decode cX10_tearAgain 54 = .ok (.goto (-39), 3) := dk_167 255 217 (dk_at dksX10_tearAgain_2 6 rfl rfl)
theorem dX10_tearAgain_57 : decode cX10_tearAgain 57 = .ok (.iload_n 2, 1) := dk_28 (dk_at dksX10_tearAgain_2 9 rfl rfl)
theorem dX10_tearAgain_58 : decode cX10_tearAgain 58 = .ok (.iconst 1, 1) := dk_4 (dk_at dksX10_tearAgain_2 10 rfl rfl)
theorem dX10_tearAgain_59 : decode cX10_tearAgain 59 = .ok (.iadd, 1) := dk_96 (dk_at dksX10_tearAgain_2 11 rfl rfl)
theorem dX10_tearAgain_60 : decode cX10_tearAgain 60 = .ok (.istore 5, 2) := dk_54 5 (dk_at dksX10_tearAgain_2 12 rfl rfl)
theorem dX10_tearAgain_62 : decode cX10_tearAgain 62 = .ok (.iload 5, 2) := dk_21 5 (dk_at dksX10_tearAgain_2 14 rfl rfl)
theorem dX10_tearAgain_64 : decode cX10_tearAgain 64 = .ok (.iload_n 1, 1) := dk_27 (dk_at dksX10_tearAgain_2 16 rfl rfl)
theorem dX10_tearAgain_65 : decode cX10_tearAgain 65 = .ok (.if_icmp .gt 30, 3) := dk_163 0 30 (dk_at dksX10_tearAgain_2 17 rfl rfl)
theorem dX10_tearAgain_68 : decode cX10_tearAgain 68 = .ok (.iload_n 3, 1) := dk_29 (dk_at dksX10_tearAgain_2 20 rfl rfl)
theorem dX10_tearAgain_69 : decode cX10_tearAgain 69 = .ok (.iload 5, 2) := dk_21 5 (dk_at dksX10_tearAgain_2 21 rfl rfl)
theorem dX10_tearAgain_71 : decode cX10_tearAgain 71 = .ok (.iload_n 2, 1) := dk_28 (dk_at dksX10_tearAgain_2 23 rfl rfl)
theorem dX10_tearAgain_72 : decode cX10_tearAgain 72 = .ok (.isub, 1) := dk_100 (dk_at dksX10_tearAgain_3 0 rfl rfl)
theorem dX10_tearAgain_73 : decode cX10_tearAgain 73 = .ok (.iconst 3, 1) := dk_6 (dk_at dksX10_tearAgain_3 1 rfl rfl)
theorem dX10_tearAgain_74 : decode cX10_tearAgain 74 = .ok (.irem, 1) := dk_112 (dk_at dksX10_tearAgain_3 2 rfl rfl)
theorem dX10_tearAgain_75 : decode cX10_tearAgain 75 = .ok (.ifCond .ne 11, 3) := dk_154 0 11 (dk_at dksX10_tearAgain_3 3 rfl rfl)
theorem dX10_tearAgain_78 : decode cX10_tearAgain 78 = .ok (.iload_n 3, 1) := dk_29 (dk_at dksX10_tearAgain_3 6 rfl rfl)
theorem dX10_tearAgain_79 : decode cX10_tearAgain 79 = .ok (.ifCond .le 7, 3) := dk_158 0 7 (dk_at dksX10_tearAgain_3 7 rfl rfl)
theorem dX10_tearAgain_82 : decode cX10_tearAgain 82 = .ok (.iconst 1, 1) := dk_4 (dk_at dksX10_tearAgain_3 10 rfl rfl)
theorem dX10_tearAgain_83 : decode cX10_tearAgain 83 = .ok (.goto 4, 3) := dk_167 0 4 (dk_at dksX10_tearAgain_3 11 rfl rfl)
theorem dX10_tearAgain_86 : decode cX10_tearAgain 86 = .ok (.iconst 0, 1) := dk_3 (dk_at dksX10_tearAgain_3 14 rfl rfl)
theorem dX10_tearAgain_87 : decode cX10_tearAgain 87 = .ok (.isub, 1) := dk_100 (dk_at dksX10_tearAgain_3 15 rfl rfl)
theorem dX10_tearAgain_88 : decode cX10_tearAgain 88 = .ok (.istore_n 3, 1) := dk_62 (dk_at dksX10_tearAgain_3 16 rfl rfl)
theorem dX10_tearAgain_89 : decode cX10_tearAgain 89 = .ok (.iinc 5 1, 3) := dk_132 5 1 (dk_at dksX10_tearAgain_3 17 rfl rfl)
theorem dX10_tearAgain_92 : decode cX10_tearAgain 92 = .ok (.goto (-30), 3) := dk_167 255 226 (dk_at dksX10_tearAgain_3 20 rfl rfl)
theorem dX10_tearAgain_95 : decode cX10_tearAgain 95 = .ok (.iload_n 3, 1) := dk_29 (dk_at dksX10_tearAgain_3 23 rfl rfl)
theorem dX10_tearAgain_96 : decode cX10_tearAgain 96 = .ok (.ireturn, 1) := dk_172 (dk_at dksX10_tearAgain_4 0 rfl rfl)
theorem q97 : (Jvm.Cond.initialized "MustardMill$Taste") ∈ lw_all := lw_g (lw_at lw_m1 34 rfl) rfl
theorem q1083 : (Jvm.Cond.static ({ cls := "MustardMill$Taste", name := "bite", desc := "(I[I)I" } : Jvm.MethodName)) ∈ lw_all := lw_g (lw_at lw_m5 60 rfl) rfl
theorem q1084 : (Jvm.Cond.code ({ cls := "MustardMill$Taste", name := "bite", desc := "(I[I)I" } : Jvm.MethodName) prog_14_method_5_code (5 : Nat) (Option.some Jvm.ClassFile.FieldType.int)) ∈ lw_all := lw_g (lw_at lw_m5 61 rfl) rfl
theorem q1085 : (Jvm.Cond.methodLink "MustardMill$Taste" (12 : Nat) ({ cls := "java/lang/Math", name := "max", desc := "(II)I" } : Jvm.MethodName)) ∈ lw_all := lw_g (lw_at lw_m5 62 rfl) rfl
theorem q1266 : (Jvm.Cond.interfaceMethod "MustardMill$Taste" "MustardMill$Taste" "tear" "(I)I") ∈ lw_tbl := lw_at lw_m6 3 rfl
theorem q1267 : (Jvm.Cond.declares ({ cls := "MustardMill$Taste", name := "tear", desc := "(I)I" } : Jvm.MethodName)) ∈ lw_tbl := lw_at lw_m6 4 rfl
theorem q1270 : (Jvm.Cond.instanceMethod ({ cls := "MustardMill$Taste", name := "tear", desc := "(I)I" } : Jvm.MethodName)) ∈ lw_all := lw_g (lw_at lw_m6 7 rfl) rfl
theorem q1271 : (Jvm.Cond.publicMethod ({ cls := "MustardMill$Taste", name := "tear", desc := "(I)I" } : Jvm.MethodName)) ∈ lw_tbl := lw_at lw_m6 8 rfl
theorem q1272 : (Jvm.Cond.code ({ cls := "MustardMill$Taste", name := "tear", desc := "(I)I" } : Jvm.MethodName) prog_14_method_3_code (4 : Nat) (Option.some Jvm.ClassFile.FieldType.int)) ∈ lw_all := lw_g (lw_at lw_m6 9 rfl) rfl
theorem q1273 : (Jvm.Cond.interfaceEntry "MustardMill$Taste" (3 : Nat)) ∈ lw_tbl := lw_at lw_m6 10 rfl
theorem q1274 : (Jvm.Cond.methodLink "MustardMill$Taste" (3 : Nat) ({ cls := "MustardMill$Taste", name := "ripeDays", desc := "()I" } : Jvm.MethodName)) ∈ lw_all := lw_g (lw_at lw_m6 11 rfl) rfl
theorem q1275 : (Jvm.Cond.interfaceMethod "MustardMill$Taste" "MustardMill$Taste" "ripeDays" "()I") ∈ lw_tbl := lw_at lw_m6 12 rfl
theorem q1276 : (Jvm.Cond.declares ({ cls := "MustardMill$Taste", name := "ripeDays", desc := "()I" } : Jvm.MethodName)) ∈ lw_tbl := lw_at lw_m6 13 rfl
theorem q1286 : (Jvm.Cond.interfaceEntry "MustardMill$Taste" (9 : Nat)) ∈ lw_tbl := lw_at lw_m6 23 rfl
theorem q1287 : (Jvm.Cond.methodLink "MustardMill$Taste" (9 : Nat) ({ cls := "MustardMill$Taste", name := "bite", desc := "()I" } : Jvm.MethodName)) ∈ lw_all := lw_g (lw_at lw_m6 24 rfl) rfl
theorem q1288 : (Jvm.Cond.interfaceMethod "MustardMill$Taste" "MustardMill$Taste" "bite" "()I") ∈ lw_tbl := lw_at lw_m6 25 rfl
theorem q1289 : (Jvm.Cond.declares ({ cls := "MustardMill$Taste", name := "bite", desc := "()I" } : Jvm.MethodName)) ∈ lw_tbl := lw_at lw_m6 26 rfl
theorem q1665 : (Jvm.Cond.declares ({ cls := "MustardMill$Taste", name := "tearAgain", desc := "(I)I" } : Jvm.MethodName)) ∈ lw_tbl := lw_at lw_m7 162 rfl
theorem q1667 : (Jvm.Cond.instanceMethod ({ cls := "MustardMill$Taste", name := "tearAgain", desc := "(I)I" } : Jvm.MethodName)) ∈ lw_all := lw_g (lw_at lw_m7 164 rfl) rfl
theorem q1668 : (Jvm.Cond.publicMethod ({ cls := "MustardMill$Taste", name := "tearAgain", desc := "(I)I" } : Jvm.MethodName)) ∈ lw_tbl := lw_at lw_m7 165 rfl
theorem q1669 : (Jvm.Cond.code ({ cls := "MustardMill$Taste", name := "tearAgain", desc := "(I)I" } : Jvm.MethodName) prog_14_method_4_code (6 : Nat) (Option.some Jvm.ClassFile.FieldType.int)) ∈ lw_all := lw_g (lw_at lw_m7 166 rfl) rfl
/-! MustardMill$Jar -/
set_option maxRecDepth 100000
def RX11 : String := "MustardMill$Jar"
def TX11 : u_T := fun k => match k with
  | 0 => ("MustardMill$Thing", "number", "I", true)
  | 1 => ("MustardMill$Thing", "state", "I", false)
  | 2 => ("MustardMill$Jar", "batch", "I", true)
  | 3 => ("MustardMill$Jar", "bite", "I", true)
  | 4 => ("MustardMill$Jar", "ripeDays", "I", true)
  | 5 => ("MustardMill$Jar", "rested", "I", false)
  | _ => ("MustardMill$Jar", "lost", "I", false)
def tyX11 : Nat → FieldType := fun k => match k with
  | 0 => .int
  | 1 => .int
  | 2 => .int
  | 3 => .int
  | 4 => .int
  | 5 => .int
  | _ => .int
abbrev wsX110 : List Cond := u_ws RX11 TX11 7
theorem nmX11 : ∀ a, a < 7 → ∀ b, b < 7 → a ≠ b → (TX11 a).2.1 ≠ (TX11 b).2.1 := by decide +kernel
theorem tyX11_ok : ∀ k, k < 7 → parseFieldDescriptor (TX11 k).2.2.1 = some (tyX11 k) := by decide +kernel
abbrev cX11_clone : ByteArray := prog_4_method_2_code
def yX11_clone : MethodName := ⟨RX11, "clone", "()LMustardMill$Jar;"⟩
def dkwX11_clone_0 : List UInt8 := [42, 183, 0, 29, 192, 0, 14, 176]
abbrev dktX11_clone_0 : List UInt8 := dkwX11_clone_0 ++ []
theorem dksX11_clone_0 : cX11_clone.data.toList.drop 0 = dktX11_clone_0 := by decide +kernel
theorem dX11_clone_0 : decode cX11_clone 0 = .ok (.aload_n 0, 1) := dk_42 (dk_at dksX11_clone_0 0 rfl rfl)
theorem dX11_clone_1 : decode cX11_clone 1 = .ok (.invokespecial 29, 3) := dk_183 0 29 (dk_at dksX11_clone_0 1 rfl rfl)
theorem dX11_clone_4 : decode cX11_clone 4 = .ok (.checkcast 14, 3) := dk_192 0 14 (dk_at dksX11_clone_0 4 rfl rfl)
theorem dX11_clone_7 : decode cX11_clone 7 = .ok (.areturn, 1) := dk_176 (dk_at dksX11_clone_0 7 rfl rfl)
abbrev cX11_init : ByteArray := prog_4_method_1_code
def yX11_init : MethodName := ⟨RX11, "<init>", "(ILMustardMill$Batch;)V"⟩
def dkwX11_init_1 : List UInt8 := [182, 0, 24, 181, 0, 27, 177]
abbrev dktX11_init_1 : List UInt8 := dkwX11_init_1 ++ []
def dkwX11_init_0 : List UInt8 := [42, 27, 183, 0, 1, 42, 44, 182, 0, 7, 181, 0, 13, 42, 44, 182, 0, 19, 181, 0, 22, 42, 44]
abbrev dktX11_init_0 : List UInt8 := dkwX11_init_0 ++ dktX11_init_1
theorem dksX11_init_0 : cX11_init.data.toList.drop 0 = dktX11_init_0 := by decide +kernel
theorem dksX11_init_1 : cX11_init.data.toList.drop 23 = dktX11_init_1 := dk_seg dksX11_init_0 23 rfl rfl
theorem dX11_init_0 : decode cX11_init 0 = .ok (.aload_n 0, 1) := dk_42 (dk_at dksX11_init_0 0 rfl rfl)
theorem dX11_init_1 : decode cX11_init 1 = .ok (.iload_n 1, 1) := dk_27 (dk_at dksX11_init_0 1 rfl rfl)
theorem dX11_init_2 : decode cX11_init 2 = .ok (.invokespecial 1, 3) := dk_183 0 1 (dk_at dksX11_init_0 2 rfl rfl)
theorem dX11_init_5 : decode cX11_init 5 = .ok (.aload_n 0, 1) := dk_42 (dk_at dksX11_init_0 5 rfl rfl)
theorem dX11_init_6 : decode cX11_init 6 = .ok (.aload_n 2, 1) := dk_44 (dk_at dksX11_init_0 6 rfl rfl)
theorem dX11_init_7 : decode cX11_init 7 = .ok (.invokevirtual 7, 3) := dk_182 0 7 (dk_at dksX11_init_0 7 rfl rfl)
theorem dX11_init_10 : decode cX11_init 10 = .ok (.putfield 13, 3) := dk_181 0 13 (dk_at dksX11_init_0 10 rfl rfl)
theorem dX11_init_13 : decode cX11_init 13 = .ok (.aload_n 0, 1) := dk_42 (dk_at dksX11_init_0 13 rfl rfl)
theorem dX11_init_14 : decode cX11_init 14 = .ok (.aload_n 2, 1) := dk_44 (dk_at dksX11_init_0 14 rfl rfl)
theorem dX11_init_15 : decode cX11_init 15 = .ok (.invokevirtual 19, 3) := dk_182 0 19 (dk_at dksX11_init_0 15 rfl rfl)
theorem dX11_init_18 : decode cX11_init 18 = .ok (.putfield 22, 3) := dk_181 0 22 (dk_at dksX11_init_0 18 rfl rfl)
theorem dX11_init_21 : decode cX11_init 21 = .ok (.aload_n 0, 1) := dk_42 (dk_at dksX11_init_0 21 rfl rfl)
theorem dX11_init_22 : decode cX11_init 22 = .ok (.aload_n 2, 1) := dk_44 (dk_at dksX11_init_0 22 rfl rfl)
theorem dX11_init_23 : decode cX11_init 23 = .ok (.invokevirtual 24, 3) := dk_182 0 24 (dk_at dksX11_init_1 0 rfl rfl)
theorem dX11_init_26 : decode cX11_init 26 = .ok (.putfield 27, 3) := dk_181 0 27 (dk_at dksX11_init_1 3 rfl rfl)
theorem dX11_init_29 : decode cX11_init 29 = .ok (.return_, 1) := dk_177 (dk_at dksX11_init_1 6 rfl rfl)
abbrev cX11_tear : ByteArray := prog_4_method_5_code
def yX11_tear : MethodName := ⟨RX11, "tear", "()I"⟩
def dkwX11_tear_1 : List UInt8 := [100, 184, 0, 40, 172]
abbrev dktX11_tear_1 : List UInt8 := dkwX11_tear_1 ++ []
def dkwX11_tear_0 : List UInt8 := [187, 0, 46, 89, 42, 183, 0, 48, 76, 3, 43, 42, 180, 0, 37, 185, 0, 51, 2, 0, 42, 180, 0, 57]
abbrev dktX11_tear_0 : List UInt8 := dkwX11_tear_0 ++ dktX11_tear_1
theorem dksX11_tear_0 : cX11_tear.data.toList.drop 0 = dktX11_tear_0 := by decide +kernel
theorem dksX11_tear_1 : cX11_tear.data.toList.drop 24 = dktX11_tear_1 := dk_seg dksX11_tear_0 24 rfl rfl
theorem dX11_tear_0 : decode cX11_tear 0 = .ok (.new 46, 3) := dk_187 0 46 (dk_at dksX11_tear_0 0 rfl rfl)
theorem dX11_tear_3 : decode cX11_tear 3 = .ok (.dup, 1) := dk_89 (dk_at dksX11_tear_0 3 rfl rfl)
theorem dX11_tear_4 : decode cX11_tear 4 = .ok (.aload_n 0, 1) := dk_42 (dk_at dksX11_tear_0 4 rfl rfl)
theorem dX11_tear_5 : decode cX11_tear 5 = .ok (.invokespecial 48, 3) := dk_183 0 48 (dk_at dksX11_tear_0 5 rfl rfl)
theorem dX11_tear_8 : decode cX11_tear 8 = .ok (.astore_n 1, 1) := dk_76 (dk_at dksX11_tear_0 8 rfl rfl)
theorem dX11_tear_9 : decode cX11_tear 9 = .ok (.iconst 0, 1) := dk_3 (dk_at dksX11_tear_0 9 rfl rfl)
theorem dX11_tear_10 : decode cX11_tear 10 = .ok (.aload_n 1, 1) := dk_43 (dk_at dksX11_tear_0 10 rfl rfl)
theorem dX11_tear_11 : decode cX11_tear 11 = .ok (.aload_n 0, 1) := dk_42 (dk_at dksX11_tear_0 11 rfl rfl)
theorem dX11_tear_12 : decode cX11_tear 12 = .ok (.getfield 37, 3) := dk_180 0 37 (dk_at dksX11_tear_0 12 rfl rfl)
theorem dX11_tear_15 : decode cX11_tear 15 = .ok (.invokeinterface 51 2, 5) := by decide +kernel
theorem dX11_tear_20 : decode cX11_tear 20 = .ok (.aload_n 0, 1) := dk_42 (dk_at dksX11_tear_0 20 rfl rfl)
theorem dX11_tear_21 : decode cX11_tear 21 = .ok (.getfield 57, 3) := dk_180 0 57 (dk_at dksX11_tear_0 21 rfl rfl)
theorem dX11_tear_24 : decode cX11_tear 24 = .ok (.isub, 1) := dk_100 (dk_at dksX11_tear_1 0 rfl rfl)
theorem dX11_tear_25 : decode cX11_tear 25 = .ok (.invokestatic 40, 3) := dk_184 0 40 (dk_at dksX11_tear_1 1 rfl rfl)
theorem dX11_tear_28 : decode cX11_tear 28 = .ok (.ireturn, 1) := dk_172 (dk_at dksX11_tear_1 4 rfl rfl)
abbrev cX11_isRipe : ByteArray := prog_4_method_4_code
def yX11_isRipe : MethodName := ⟨RX11, "isRipe", "()Z"⟩
def dkwX11_isRipe_1 : List UInt8 := [172]
abbrev dktX11_isRipe_1 : List UInt8 := dkwX11_isRipe_1 ++ []
def dkwX11_isRipe_0 : List UInt8 := [42, 3, 182, 0, 33, 153, 0, 18, 42, 180, 0, 37, 42, 180, 0, 27, 161, 0, 7, 4, 167, 0, 4, 3]
abbrev dktX11_isRipe_0 : List UInt8 := dkwX11_isRipe_0 ++ dktX11_isRipe_1
theorem dksX11_isRipe_0 : cX11_isRipe.data.toList.drop 0 = dktX11_isRipe_0 := by decide +kernel
theorem dksX11_isRipe_1 : cX11_isRipe.data.toList.drop 24 = dktX11_isRipe_1 := dk_seg dksX11_isRipe_0 24 rfl rfl
theorem dX11_isRipe_0 : decode cX11_isRipe 0 = .ok (.aload_n 0, 1) := dk_42 (dk_at dksX11_isRipe_0 0 rfl rfl)
theorem dX11_isRipe_1 : decode cX11_isRipe 1 = .ok (.iconst 0, 1) := dk_3 (dk_at dksX11_isRipe_0 1 rfl rfl)
theorem dX11_isRipe_2 : decode cX11_isRipe 2 = .ok (.invokevirtual 33, 3) := dk_182 0 33 (dk_at dksX11_isRipe_0 2 rfl rfl)
theorem dX11_isRipe_5 : decode cX11_isRipe 5 = .ok (.ifCond .eq 18, 3) := dk_153 0 18 (dk_at dksX11_isRipe_0 5 rfl rfl)
theorem dX11_isRipe_8 : decode cX11_isRipe 8 = .ok (.aload_n 0, 1) := dk_42 (dk_at dksX11_isRipe_0 8 rfl rfl)
theorem dX11_isRipe_9 : decode cX11_isRipe 9 = .ok (.getfield 37, 3) := dk_180 0 37 (dk_at dksX11_isRipe_0 9 rfl rfl)
theorem dX11_isRipe_12 : decode cX11_isRipe 12 = .ok (.aload_n 0, 1) := dk_42 (dk_at dksX11_isRipe_0 12 rfl rfl)
theorem dX11_isRipe_13 : decode cX11_isRipe 13 = .ok (.getfield 27, 3) := dk_180 0 27 (dk_at dksX11_isRipe_0 13 rfl rfl)
theorem dX11_isRipe_16 : decode cX11_isRipe 16 = .ok (.if_icmp .lt 7, 3) := dk_161 0 7 (dk_at dksX11_isRipe_0 16 rfl rfl)
theorem dX11_isRipe_19 : decode cX11_isRipe 19 = .ok (.iconst 1, 1) := dk_4 (dk_at dksX11_isRipe_0 19 rfl rfl)
theorem dX11_isRipe_20 : decode cX11_isRipe 20 = .ok (.goto 4, 3) := dk_167 0 4 (dk_at dksX11_isRipe_0 20 rfl rfl)
theorem dX11_isRipe_23 : decode cX11_isRipe 23 = .ok (.iconst 0, 1) := dk_3 (dk_at dksX11_isRipe_0 23 rfl rfl)
theorem dX11_isRipe_24 : decode cX11_isRipe 24 = .ok (.ireturn, 1) := dk_172 (dk_at dksX11_isRipe_1 0 rfl rfl)
abbrev cX11_missing : ByteArray := prog_4_method_3_code
def yX11_missing : MethodName := ⟨RX11, "missing", "()I"⟩
def dkwX11_missing_1 : List UInt8 := [3, 172]
abbrev dktX11_missing_1 : List UInt8 := dkwX11_missing_1 ++ []
def dkwX11_missing_0 : List UInt8 := [42, 3, 182, 0, 33, 153, 0, 19, 3, 42, 180, 0, 27, 42, 180, 0, 37, 100, 184, 0, 40, 167, 0, 4]
abbrev dktX11_missing_0 : List UInt8 := dkwX11_missing_0 ++ dktX11_missing_1
theorem dksX11_missing_0 : cX11_missing.data.toList.drop 0 = dktX11_missing_0 := by decide +kernel
theorem dksX11_missing_1 : cX11_missing.data.toList.drop 24 = dktX11_missing_1 := dk_seg dksX11_missing_0 24 rfl rfl
theorem dX11_missing_0 : decode cX11_missing 0 = .ok (.aload_n 0, 1) := dk_42 (dk_at dksX11_missing_0 0 rfl rfl)
theorem dX11_missing_1 : decode cX11_missing 1 = .ok (.iconst 0, 1) := dk_3 (dk_at dksX11_missing_0 1 rfl rfl)
theorem dX11_missing_2 : decode cX11_missing 2 = .ok (.invokevirtual 33, 3) := dk_182 0 33 (dk_at dksX11_missing_0 2 rfl rfl)
theorem dX11_missing_5 : decode cX11_missing 5 = .ok (.ifCond .eq 19, 3) := dk_153 0 19 (dk_at dksX11_missing_0 5 rfl rfl)
theorem dX11_missing_8 : decode cX11_missing 8 = .ok (.iconst 0, 1) := dk_3 (dk_at dksX11_missing_0 8 rfl rfl)
theorem dX11_missing_9 : decode cX11_missing 9 = .ok (.aload_n 0, 1) := dk_42 (dk_at dksX11_missing_0 9 rfl rfl)
theorem dX11_missing_10 : decode cX11_missing 10 = .ok (.getfield 27, 3) := dk_180 0 27 (dk_at dksX11_missing_0 10 rfl rfl)
theorem dX11_missing_13 : decode cX11_missing 13 = .ok (.aload_n 0, 1) := dk_42 (dk_at dksX11_missing_0 13 rfl rfl)
theorem dX11_missing_14 : decode cX11_missing 14 = .ok (.getfield 37, 3) := dk_180 0 37 (dk_at dksX11_missing_0 14 rfl rfl)
theorem dX11_missing_17 : decode cX11_missing 17 = .ok (.isub, 1) := dk_100 (dk_at dksX11_missing_0 17 rfl rfl)
theorem dX11_missing_18 : decode cX11_missing 18 = .ok (.invokestatic 40, 3) := dk_184 0 40 (dk_at dksX11_missing_0 18 rfl rfl)
theorem dX11_missing_21 : decode cX11_missing 21 = .ok (.goto 4, 3) := dk_167 0 4 (dk_at dksX11_missing_0 21 rfl rfl)
theorem dX11_missing_24 : decode cX11_missing 24 = .ok (.iconst 0, 1) := dk_3 (dk_at dksX11_missing_1 0 rfl rfl)
theorem dX11_missing_25 : decode cX11_missing 25 = .ok (.ireturn, 1) := dk_172 (dk_at dksX11_missing_1 1 rfl rfl)
abbrev cX11_rests : ByteArray := prog_4_method_7_code
def yX11_rests : MethodName := ⟨RX11, "rests", "()Z"⟩
def dkwX11_rests_3 : List UInt8 := [167, 0, 4, 3, 172, 42, 89, 180, 0, 57, 4, 96, 181, 0, 57, 3, 172, 3, 172]
abbrev dktX11_rests_3 : List UInt8 := dkwX11_rests_3 ++ []
def dkwX11_rests_2 : List UInt8 := [42, 89, 180, 0, 37, 4, 96, 181, 0, 37, 42, 180, 0, 37, 42, 180, 0, 27, 160, 0, 7, 4]
abbrev dktX11_rests_2 : List UInt8 := dkwX11_rests_2 ++ dktX11_rests_3
def dkwX11_rests_1 : List UInt8 := [171, 0, 0, 0, 0, 0, 0, 67, 0, 0, 0, 2, 0, 0, 0, 0, 0, 0, 0, 28, 0, 0, 0, 1, 0, 0, 0, 55]
abbrev dktX11_rests_1 : List UInt8 := dkwX11_rests_1 ++ dktX11_rests_2
def dkwX11_rests_0 : List UInt8 := [42, 182, 0, 63]
abbrev dktX11_rests_0 : List UInt8 := dkwX11_rests_0 ++ dktX11_rests_1
theorem dksX11_rests_0 : cX11_rests.data.toList.drop 0 = dktX11_rests_0 := by decide +kernel
theorem dksX11_rests_1 : cX11_rests.data.toList.drop 4 = dktX11_rests_1 := dk_seg dksX11_rests_0 4 rfl rfl
theorem dksX11_rests_2 : cX11_rests.data.toList.drop 32 = dktX11_rests_2 := dk_seg dksX11_rests_1 28 rfl rfl
theorem dksX11_rests_3 : cX11_rests.data.toList.drop 54 = dktX11_rests_3 := dk_seg dksX11_rests_2 22 rfl rfl
theorem dX11_rests_0 : decode cX11_rests 0 = .ok (.aload_n 0, 1) := dk_42 (dk_at dksX11_rests_0 0 rfl rfl)
theorem dX11_rests_1 : decode cX11_rests 1 = .ok (.invokevirtual 63, 3) := dk_182 0 63 (dk_at dksX11_rests_0 1 rfl rfl)
theorem dX11_rests_4 : decode cX11_rests 4 = .ok (.lookupswitch 67 #[(0, 28), (1, 55)], 28) := by decide +kernel
theorem dX11_rests_32 : decode cX11_rests 32 = .ok (.aload_n 0, 1) := dk_42 (dk_at dksX11_rests_2 0 rfl rfl)
theorem dX11_rests_33 : decode cX11_rests 33 = .ok (.dup, 1) := dk_89 (dk_at dksX11_rests_2 1 rfl rfl)
theorem dX11_rests_34 : decode cX11_rests 34 = .ok (.getfield 37, 3) := dk_180 0 37 (dk_at dksX11_rests_2 2 rfl rfl)
theorem dX11_rests_37 : decode cX11_rests 37 = .ok (.iconst 1, 1) := dk_4 (dk_at dksX11_rests_2 5 rfl rfl)
theorem dX11_rests_38 : decode cX11_rests 38 = .ok (.iadd, 1) := dk_96 (dk_at dksX11_rests_2 6 rfl rfl)
theorem dX11_rests_39 : decode cX11_rests 39 = .ok (.putfield 37, 3) := dk_181 0 37 (dk_at dksX11_rests_2 7 rfl rfl)
theorem dX11_rests_42 : decode cX11_rests 42 = .ok (.aload_n 0, 1) := dk_42 (dk_at dksX11_rests_2 10 rfl rfl)
theorem dX11_rests_43 : decode cX11_rests 43 = .ok (.getfield 37, 3) := dk_180 0 37 (dk_at dksX11_rests_2 11 rfl rfl)
theorem dX11_rests_46 : decode cX11_rests 46 = .ok (.aload_n 0, 1) := dk_42 (dk_at dksX11_rests_2 14 rfl rfl)
theorem dX11_rests_47 : decode cX11_rests 47 = .ok (.getfield 27, 3) := dk_180 0 27 (dk_at dksX11_rests_2 15 rfl rfl)
theorem dX11_rests_50 : decode cX11_rests 50 = .ok (.if_icmp .ne 7, 3) := dk_160 0 7 (dk_at dksX11_rests_2 18 rfl rfl)
theorem dX11_rests_53 : decode cX11_rests 53 = .ok (.iconst 1, 1) := dk_4 (dk_at dksX11_rests_2 21 rfl rfl)
theorem dX11_rests_54 : decode cX11_rests 54 = .ok (.goto 4, 3) := dk_167 0 4 (dk_at dksX11_rests_3 0 rfl rfl)
theorem dX11_rests_57 : decode cX11_rests 57 = .ok (.iconst 0, 1) := dk_3 (dk_at dksX11_rests_3 3 rfl rfl)
theorem dX11_rests_58 : decode cX11_rests 58 = .ok (.ireturn, 1) := dk_172 (dk_at dksX11_rests_3 4 rfl rfl)
theorem dX11_rests_59 : decode cX11_rests 59 = .ok (.aload_n 0, 1) := dk_42 (dk_at dksX11_rests_3 5 rfl rfl)
theorem dX11_rests_60 : decode cX11_rests 60 = .ok (.dup, 1) := dk_89 (dk_at dksX11_rests_3 6 rfl rfl)
theorem dX11_rests_61 : decode cX11_rests 61 = .ok (.getfield 57, 3) := dk_180 0 57 (dk_at dksX11_rests_3 7 rfl rfl)
theorem dX11_rests_64 : decode cX11_rests 64 = .ok (.iconst 1, 1) := dk_4 (dk_at dksX11_rests_3 10 rfl rfl)
theorem dX11_rests_65 : decode cX11_rests 65 = .ok (.iadd, 1) := dk_96 (dk_at dksX11_rests_3 11 rfl rfl)
theorem dX11_rests_66 : decode cX11_rests 66 = .ok (.putfield 57, 3) := dk_181 0 57 (dk_at dksX11_rests_3 12 rfl rfl)
theorem dX11_rests_69 : decode cX11_rests 69 = .ok (.iconst 0, 1) := dk_3 (dk_at dksX11_rests_3 15 rfl rfl)
theorem dX11_rests_70 : decode cX11_rests 70 = .ok (.ireturn, 1) := dk_172 (dk_at dksX11_rests_3 16 rfl rfl)
theorem dX11_rests_71 : decode cX11_rests 71 = .ok (.iconst 0, 1) := dk_3 (dk_at dksX11_rests_3 17 rfl rfl)
theorem dX11_rests_72 : decode cX11_rests 72 = .ok (.ireturn, 1) := dk_172 (dk_at dksX11_rests_3 18 rfl rfl)
abbrev cX11_isAheadOf : ByteArray := prog_4_method_11_code
def yX11_isAheadOf : MethodName := ⟨RX11, "isAheadOf", "(Ljava/lang/Object;)Z"⟩
def dkwX11_isAheadOf_0 : List UInt8 := [42, 43, 192, 0, 14, 182, 0, 105, 172]
abbrev dktX11_isAheadOf_0 : List UInt8 := dkwX11_isAheadOf_0 ++ []
theorem dksX11_isAheadOf_0 : cX11_isAheadOf.data.toList.drop 0 = dktX11_isAheadOf_0 := by decide +kernel
theorem dX11_isAheadOf_0 : decode cX11_isAheadOf 0 = .ok (.aload_n 0, 1) := dk_42 (dk_at dksX11_isAheadOf_0 0 rfl rfl)
theorem dX11_isAheadOf_1 : decode cX11_isAheadOf 1 = .ok (.aload_n 1, 1) := dk_43 (dk_at dksX11_isAheadOf_0 1 rfl rfl)
theorem dX11_isAheadOf_2 : decode cX11_isAheadOf 2 = .ok (.checkcast 14, 3) := dk_192 0 14 (dk_at dksX11_isAheadOf_0 2 rfl rfl)
theorem dX11_isAheadOf_5 : decode cX11_isAheadOf 5 = .ok (.invokevirtual 105, 3) := dk_182 0 105 (dk_at dksX11_isAheadOf_0 5 rfl rfl)
theorem dX11_isAheadOf_8 : decode cX11_isAheadOf 8 = .ok (.ireturn, 1) := dk_172 (dk_at dksX11_isAheadOf_0 8 rfl rfl)
abbrev cX11_isAheadOf_2 : ByteArray := prog_4_method_6_code
def yX11_isAheadOf_2 : MethodName := ⟨RX11, "isAheadOf", "(LMustardMill$Jar;)Z"⟩
def dkwX11_isAheadOf_2_2 : List UInt8 := [167, 0, 23, 3, 167, 0, 19, 42, 182, 0, 62, 43, 182, 0, 62, 162, 0, 7, 4, 167, 0, 4, 3, 172]
abbrev dktX11_isAheadOf_2_2 : List UInt8 := dkwX11_isAheadOf_2_2 ++ []
def dkwX11_isAheadOf_2_1 : List UInt8 := [42, 180, 0, 37, 43, 180, 0, 37, 159, 0, 22, 42, 180, 0, 37, 43, 180, 0, 37, 164, 0, 7, 4]
abbrev dktX11_isAheadOf_2_1 : List UInt8 := dkwX11_isAheadOf_2_1 ++ dktX11_isAheadOf_2_2
def dkwX11_isAheadOf_2_0 : List UInt8 := [42, 182, 0, 60, 43, 182, 0, 60, 100, 61, 28, 153, 0, 13, 28, 158, 0, 7, 4, 167, 0, 4, 3, 172]
abbrev dktX11_isAheadOf_2_0 : List UInt8 := dkwX11_isAheadOf_2_0 ++ dktX11_isAheadOf_2_1
theorem dksX11_isAheadOf_2_0 : cX11_isAheadOf_2.data.toList.drop 0 = dktX11_isAheadOf_2_0 := by decide +kernel
theorem dksX11_isAheadOf_2_1 : cX11_isAheadOf_2.data.toList.drop 24 = dktX11_isAheadOf_2_1 := dk_seg dksX11_isAheadOf_2_0 24 rfl rfl
theorem dksX11_isAheadOf_2_2 : cX11_isAheadOf_2.data.toList.drop 47 = dktX11_isAheadOf_2_2 := dk_seg dksX11_isAheadOf_2_1 23 rfl rfl
theorem dX11_isAheadOf_2_0 : decode cX11_isAheadOf_2 0 = .ok (.aload_n 0, 1) := dk_42 (dk_at dksX11_isAheadOf_2_0 0 rfl rfl)
theorem dX11_isAheadOf_2_1 : decode cX11_isAheadOf_2 1 = .ok (.invokevirtual 60, 3) := dk_182 0 60 (dk_at dksX11_isAheadOf_2_0 1 rfl rfl)
theorem dX11_isAheadOf_2_4 : decode cX11_isAheadOf_2 4 = .ok (.aload_n 1, 1) := dk_43 (dk_at dksX11_isAheadOf_2_0 4 rfl rfl)
theorem dX11_isAheadOf_2_5 : decode cX11_isAheadOf_2 5 = .ok (.invokevirtual 60, 3) := dk_182 0 60 (dk_at dksX11_isAheadOf_2_0 5 rfl rfl)
theorem dX11_isAheadOf_2_8 : decode cX11_isAheadOf_2 8 = .ok (.isub, 1) := dk_100 (dk_at dksX11_isAheadOf_2_0 8 rfl rfl)
theorem dX11_isAheadOf_2_9 : decode cX11_isAheadOf_2 9 = .ok (.istore_n 2, 1) := dk_61 (dk_at dksX11_isAheadOf_2_0 9 rfl rfl)
theorem dX11_isAheadOf_2_10 : decode cX11_isAheadOf_2 10 = .ok (.iload_n 2, 1) := dk_28 (dk_at dksX11_isAheadOf_2_0 10 rfl rfl)
theorem dX11_isAheadOf_2_11 : decode cX11_isAheadOf_2 11 = .ok (.ifCond .eq 13, 3) := dk_153 0 13 (dk_at dksX11_isAheadOf_2_0 11 rfl rfl)
theorem dX11_isAheadOf_2_14 : decode cX11_isAheadOf_2 14 = .ok (.iload_n 2, 1) := dk_28 (dk_at dksX11_isAheadOf_2_0 14 rfl rfl)
theorem dX11_isAheadOf_2_15 : decode cX11_isAheadOf_2 15 = .ok (.ifCond .le 7, 3) := dk_158 0 7 (dk_at dksX11_isAheadOf_2_0 15 rfl rfl)
theorem dX11_isAheadOf_2_18 : decode cX11_isAheadOf_2 18 = .ok (.iconst 1, 1) := dk_4 (dk_at dksX11_isAheadOf_2_0 18 rfl rfl)
theorem dX11_isAheadOf_2_19 : decode cX11_isAheadOf_2 19 = .ok (.goto 4, 3) := dk_167 0 4 (dk_at dksX11_isAheadOf_2_0 19 rfl rfl)
theorem dX11_isAheadOf_2_22 : decode cX11_isAheadOf_2 22 = .ok (.iconst 0, 1) := dk_3 (dk_at dksX11_isAheadOf_2_0 22 rfl rfl)
theorem dX11_isAheadOf_2_23 : decode cX11_isAheadOf_2 23 = .ok (.ireturn, 1) := dk_172 (dk_at dksX11_isAheadOf_2_0 23 rfl rfl)
theorem dX11_isAheadOf_2_24 : decode cX11_isAheadOf_2 24 = .ok (.aload_n 0, 1) := dk_42 (dk_at dksX11_isAheadOf_2_1 0 rfl rfl)
theorem dX11_isAheadOf_2_25 : decode cX11_isAheadOf_2 25 = .ok (.getfield 37, 3) := dk_180 0 37 (dk_at dksX11_isAheadOf_2_1 1 rfl rfl)
theorem dX11_isAheadOf_2_28 : decode cX11_isAheadOf_2 28 = .ok (.aload_n 1, 1) := dk_43 (dk_at dksX11_isAheadOf_2_1 4 rfl rfl)
theorem dX11_isAheadOf_2_29 : decode cX11_isAheadOf_2 29 = .ok (.getfield 37, 3) := dk_180 0 37 (dk_at dksX11_isAheadOf_2_1 5 rfl rfl)
theorem dX11_isAheadOf_2_32 : decode cX11_isAheadOf_2 32 = .ok (.if_icmp .eq 22, 3) := dk_159 0 22 (dk_at dksX11_isAheadOf_2_1 8 rfl rfl)
theorem dX11_isAheadOf_2_35 : decode cX11_isAheadOf_2 35 = .ok (.aload_n 0, 1) := dk_42 (dk_at dksX11_isAheadOf_2_1 11 rfl rfl)
theorem dX11_isAheadOf_2_36 : decode cX11_isAheadOf_2 36 = .ok (.getfield 37, 3) := dk_180 0 37 (dk_at dksX11_isAheadOf_2_1 12 rfl rfl)
theorem dX11_isAheadOf_2_39 : decode cX11_isAheadOf_2 39 = .ok (.aload_n 1, 1) := dk_43 (dk_at dksX11_isAheadOf_2_1 15 rfl rfl)
theorem dX11_isAheadOf_2_40 : decode cX11_isAheadOf_2 40 = .ok (.getfield 37, 3) := dk_180 0 37 (dk_at dksX11_isAheadOf_2_1 16 rfl rfl)
theorem dX11_isAheadOf_2_43 : decode cX11_isAheadOf_2 43 = .ok (.if_icmp .le 7, 3) := dk_164 0 7 (dk_at dksX11_isAheadOf_2_1 19 rfl rfl)
theorem dX11_isAheadOf_2_46 : decode cX11_isAheadOf_2 46 = .ok (.iconst 1, 1) := dk_4 (dk_at dksX11_isAheadOf_2_1 22 rfl rfl)
theorem dX11_isAheadOf_2_47 : decode cX11_isAheadOf_2 47 = .ok (.goto 23, 3) := dk_167 0 23 (dk_at dksX11_isAheadOf_2_2 0 rfl rfl)
theorem dX11_isAheadOf_2_50 : decode cX11_isAheadOf_2 50 = .ok (.iconst 0, 1) := dk_3 (dk_at dksX11_isAheadOf_2_2 3 rfl rfl)
theorem dX11_isAheadOf_2_51 : decode cX11_isAheadOf_2 51 = .ok (.goto 19, 3) := dk_167 0 19 (dk_at dksX11_isAheadOf_2_2 4 rfl rfl)
theorem dX11_isAheadOf_2_54 : decode cX11_isAheadOf_2 54 = .ok (.aload_n 0, 1) := dk_42 (dk_at dksX11_isAheadOf_2_2 7 rfl rfl)
theorem dX11_isAheadOf_2_55 : decode cX11_isAheadOf_2 55 = .ok (.invokevirtual 62, 3) := dk_182 0 62 (dk_at dksX11_isAheadOf_2_2 8 rfl rfl)
theorem dX11_isAheadOf_2_58 : decode cX11_isAheadOf_2 58 = .ok (.aload_n 1, 1) := dk_43 (dk_at dksX11_isAheadOf_2_2 11 rfl rfl)
theorem dX11_isAheadOf_2_59 : decode cX11_isAheadOf_2 59 = .ok (.invokevirtual 62, 3) := dk_182 0 62 (dk_at dksX11_isAheadOf_2_2 12 rfl rfl)
theorem dX11_isAheadOf_2_62 : decode cX11_isAheadOf_2 62 = .ok (.if_icmp .ge 7, 3) := dk_162 0 7 (dk_at dksX11_isAheadOf_2_2 15 rfl rfl)
theorem dX11_isAheadOf_2_65 : decode cX11_isAheadOf_2 65 = .ok (.iconst 1, 1) := dk_4 (dk_at dksX11_isAheadOf_2_2 18 rfl rfl)
theorem dX11_isAheadOf_2_66 : decode cX11_isAheadOf_2 66 = .ok (.goto 4, 3) := dk_167 0 4 (dk_at dksX11_isAheadOf_2_2 19 rfl rfl)
theorem dX11_isAheadOf_2_69 : decode cX11_isAheadOf_2 69 = .ok (.iconst 0, 1) := dk_3 (dk_at dksX11_isAheadOf_2_2 22 rfl rfl)
theorem dX11_isAheadOf_2_70 : decode cX11_isAheadOf_2 70 = .ok (.ireturn, 1) := dk_172 (dk_at dksX11_isAheadOf_2_2 23 rfl rfl)
abbrev cX11_told : ByteArray := prog_4_method_8_code
def yX11_told : MethodName := ⟨RX11, "told", "()Ljava/lang/String;"⟩
def dkwX11_told_4 : List UInt8 := [18, 94, 182, 0, 85, 42, 182, 0, 60, 182, 0, 89, 182, 0, 98, 176]
abbrev dktX11_told_4 : List UInt8 := dkwX11_told_4 ++ []
def dkwX11_told_3 : List UInt8 := [182, 0, 89, 18, 94, 182, 0, 85, 42, 180, 0, 37, 182, 0, 89, 18, 96, 182, 0, 85, 43, 182, 0, 85]
abbrev dktX11_told_3 : List UInt8 := dkwX11_told_3 ++ dktX11_told_4
def dkwX11_told_2 : List UInt8 := [183, 0, 80, 18, 83, 182, 0, 85, 42, 182, 0, 62, 182, 0, 89, 18, 92, 182, 0, 85, 42, 180, 0, 13]
abbrev dktX11_told_2 : List UInt8 := dkwX11_told_2 ++ dktX11_told_3
def dkwX11_told_1 : List UInt8 := [167, 0, 17, 42, 182, 0, 70, 153, 0, 8, 18, 74, 167, 0, 5, 18, 76, 76, 187, 0, 78, 89]
abbrev dktX11_told_1 : List UInt8 := dkwX11_told_1 ++ dktX11_told_2
def dkwX11_told_0 : List UInt8 := [42, 4, 182, 0, 33, 153, 0, 8, 18, 66, 167, 0, 30, 42, 5, 182, 0, 33, 153, 0, 8, 18, 68]
abbrev dktX11_told_0 : List UInt8 := dkwX11_told_0 ++ dktX11_told_1
theorem dksX11_told_0 : cX11_told.data.toList.drop 0 = dktX11_told_0 := by decide +kernel
theorem dksX11_told_1 : cX11_told.data.toList.drop 23 = dktX11_told_1 := dk_seg dksX11_told_0 23 rfl rfl
theorem dksX11_told_2 : cX11_told.data.toList.drop 45 = dktX11_told_2 := dk_seg dksX11_told_1 22 rfl rfl
theorem dksX11_told_3 : cX11_told.data.toList.drop 69 = dktX11_told_3 := dk_seg dksX11_told_2 24 rfl rfl
theorem dksX11_told_4 : cX11_told.data.toList.drop 93 = dktX11_told_4 := dk_seg dksX11_told_3 24 rfl rfl
theorem dX11_told_0 : decode cX11_told 0 = .ok (.aload_n 0, 1) := dk_42 (dk_at dksX11_told_0 0 rfl rfl)
theorem dX11_told_1 : decode cX11_told 1 = .ok (.iconst 1, 1) := dk_4 (dk_at dksX11_told_0 1 rfl rfl)
theorem dX11_told_2 : decode cX11_told 2 = .ok (.invokevirtual 33, 3) := dk_182 0 33 (dk_at dksX11_told_0 2 rfl rfl)
theorem dX11_told_5 : decode cX11_told 5 = .ok (.ifCond .eq 8, 3) := dk_153 0 8 (dk_at dksX11_told_0 5 rfl rfl)
theorem dX11_told_8 : decode cX11_told 8 = .ok (.ldc 66, 2) := dk_18 66 (dk_at dksX11_told_0 8 rfl rfl)
theorem dX11_told_10 : decode cX11_told 10 = .ok (.goto 30, 3) := dk_167 0 30 (dk_at dksX11_told_0 10 rfl rfl)
theorem dX11_told_13 : decode cX11_told 13 = .ok (.aload_n 0, 1) := dk_42 (dk_at dksX11_told_0 13 rfl rfl)
theorem dX11_told_14 : decode cX11_told 14 = .ok (.iconst 2, 1) := dk_5 (dk_at dksX11_told_0 14 rfl rfl)
theorem dX11_told_15 : decode cX11_told 15 = .ok (.invokevirtual 33, 3) := dk_182 0 33 (dk_at dksX11_told_0 15 rfl rfl)
theorem dX11_told_18 : decode cX11_told 18 = .ok (.ifCond .eq 8, 3) := dk_153 0 8 (dk_at dksX11_told_0 18 rfl rfl)
theorem dX11_told_21 : decode cX11_told 21 = .ok (.ldc 68, 2) := dk_18 68 (dk_at dksX11_told_0 21 rfl rfl)
theorem dX11_told_23 : decode cX11_told 23 = .ok (.goto 17, 3) := dk_167 0 17 (dk_at dksX11_told_1 0 rfl rfl)
theorem dX11_told_26 : decode cX11_told 26 = .ok (.aload_n 0, 1) := dk_42 (dk_at dksX11_told_1 3 rfl rfl)
theorem dX11_told_27 : decode cX11_told 27 = .ok (.invokevirtual 70, 3) := dk_182 0 70 (dk_at dksX11_told_1 4 rfl rfl)
theorem dX11_told_30 : decode cX11_told 30 = .ok (.ifCond .eq 8, 3) := dk_153 0 8 (dk_at dksX11_told_1 7 rfl rfl)
theorem dX11_told_33 : decode cX11_told 33 = .ok (.ldc 74, 2) := dk_18 74 (dk_at dksX11_told_1 10 rfl rfl)
theorem dX11_told_35 : decode cX11_told 35 = .ok (.goto 5, 3) := dk_167 0 5 (dk_at dksX11_told_1 12 rfl rfl)
theorem dX11_told_38 : decode cX11_told 38 = .ok (.ldc 76, 2) := dk_18 76 (dk_at dksX11_told_1 15 rfl rfl)
theorem dX11_told_40 : decode cX11_told 40 = .ok (.astore_n 1, 1) := dk_76 (dk_at dksX11_told_1 17 rfl rfl)
theorem dX11_told_41 : decode cX11_told 41 = .ok (.new 78, 3) := dk_187 0 78 (dk_at dksX11_told_1 18 rfl rfl)
theorem dX11_told_44 : decode cX11_told 44 = .ok (.dup, 1) := dk_89 (dk_at dksX11_told_1 21 rfl rfl)
theorem dX11_told_45 : decode cX11_told 45 = .ok (.invokespecial 80, 3) := dk_183 0 80 (dk_at dksX11_told_2 0 rfl rfl)
theorem dX11_told_48 : decode cX11_told 48 = .ok (.ldc 83, 2) := dk_18 83 (dk_at dksX11_told_2 3 rfl rfl)
theorem dX11_told_50 : decode cX11_told 50 = .ok (.invokevirtual 85, 3) := dk_182 0 85 (dk_at dksX11_told_2 5 rfl rfl)
theorem dX11_told_53 : decode cX11_told 53 = .ok (.aload_n 0, 1) := dk_42 (dk_at dksX11_told_2 8 rfl rfl)
theorem dX11_told_54 : decode cX11_told 54 = .ok (.invokevirtual 62, 3) := dk_182 0 62 (dk_at dksX11_told_2 9 rfl rfl)
theorem dX11_told_57 : decode cX11_told 57 = .ok (.invokevirtual 89, 3) := dk_182 0 89 (dk_at dksX11_told_2 12 rfl rfl)
theorem dX11_told_60 : decode cX11_told 60 = .ok (.ldc 92, 2) := dk_18 92 (dk_at dksX11_told_2 15 rfl rfl)
theorem dX11_told_62 : decode cX11_told 62 = .ok (.invokevirtual 85, 3) := dk_182 0 85 (dk_at dksX11_told_2 17 rfl rfl)
theorem dX11_told_65 : decode cX11_told 65 = .ok (.aload_n 0, 1) := dk_42 (dk_at dksX11_told_2 20 rfl rfl)
theorem dX11_told_66 : decode cX11_told 66 = .ok (.getfield 13, 3) := dk_180 0 13 (dk_at dksX11_told_2 21 rfl rfl)
theorem dX11_told_69 : decode cX11_told 69 = .ok (.invokevirtual 89, 3) := dk_182 0 89 (dk_at dksX11_told_3 0 rfl rfl)
theorem dX11_told_72 : decode cX11_told 72 = .ok (.ldc 94, 2) := dk_18 94 (dk_at dksX11_told_3 3 rfl rfl)
theorem dX11_told_74 : decode cX11_told 74 = .ok (.invokevirtual 85, 3) := dk_182 0 85 (dk_at dksX11_told_3 5 rfl rfl)
theorem dX11_told_77 : decode cX11_told 77 = .ok (.aload_n 0, 1) := dk_42 (dk_at dksX11_told_3 8 rfl rfl)
theorem dX11_told_78 : decode cX11_told 78 = .ok (.getfield 37, 3) := dk_180 0 37 (dk_at dksX11_told_3 9 rfl rfl)
theorem dX11_told_81 : decode cX11_told 81 = .ok (.invokevirtual 89, 3) := dk_182 0 89 (dk_at dksX11_told_3 12 rfl rfl)
theorem dX11_told_84 : decode cX11_told 84 = .ok (.ldc 96, 2) := dk_18 96 (dk_at dksX11_told_3 15 rfl rfl)
theorem dX11_told_86 : decode cX11_told 86 = .ok (.invokevirtual 85, 3) := dk_182 0 85 (dk_at dksX11_told_3 17 rfl rfl)
theorem dX11_told_89 : decode cX11_told 89 = .ok (.aload_n 1, 1) := dk_43 (dk_at dksX11_told_3 20 rfl rfl)
theorem dX11_told_90 : decode cX11_told 90 = .ok (.invokevirtual 85, 3) := dk_182 0 85 (dk_at dksX11_told_3 21 rfl rfl)
theorem dX11_told_93 : decode cX11_told 93 = .ok (.ldc 94, 2) := dk_18 94 (dk_at dksX11_told_4 0 rfl rfl)
theorem dX11_told_95 : decode cX11_told 95 = .ok (.invokevirtual 85, 3) := dk_182 0 85 (dk_at dksX11_told_4 2 rfl rfl)
theorem dX11_told_98 : decode cX11_told 98 = .ok (.aload_n 0, 1) := dk_42 (dk_at dksX11_told_4 5 rfl rfl)
theorem dX11_told_99 : decode cX11_told 99 = .ok (.invokevirtual 60, 3) := dk_182 0 60 (dk_at dksX11_told_4 6 rfl rfl)
theorem dX11_told_102 : decode cX11_told 102 = .ok (.invokevirtual 89, 3) := dk_182 0 89 (dk_at dksX11_told_4 9 rfl rfl)
theorem dX11_told_105 : decode cX11_told 105 = .ok (.invokevirtual 98, 3) := dk_182 0 98 (dk_at dksX11_told_4 12 rfl rfl)
theorem dX11_told_108 : decode cX11_told 108 = .ok (.areturn, 1) := dk_176 (dk_at dksX11_told_4 15 rfl rfl)
theorem q99 : (Jvm.Cond.initialized "MustardMill$Jar") ∈ lw_all := lw_g (lw_at lw_m1 36 rfl) rfl
theorem q842 : (Jvm.Cond.selects "MustardMill$Jar" ({ cls := "java/lang/Object", name := "getClass", desc := "()Ljava/lang/Class;" } : Jvm.MethodName) ({ cls := "java/lang/Object", name := "getClass", desc := "()Ljava/lang/Class;" } : Jvm.MethodName)) ∈ lw_all := lw_g (lw_at lw_m4 59 rfl) rfl
theorem q881 : (Jvm.Cond.instanceMethod ({ cls := "MustardMill$Jar", name := "clone", desc := "()LMustardMill$Jar;" } : Jvm.MethodName)) ∈ lw_all := lw_g (lw_at lw_m4 98 rfl) rfl
theorem q882 : (Jvm.Cond.selects "MustardMill$Jar" ({ cls := "MustardMill$Jar", name := "clone", desc := "()LMustardMill$Jar;" } : Jvm.MethodName) ({ cls := "MustardMill$Jar", name := "clone", desc := "()LMustardMill$Jar;" } : Jvm.MethodName)) ∈ lw_all := lw_g (lw_at lw_m4 99 rfl) rfl
theorem q883 : (Jvm.Cond.code ({ cls := "MustardMill$Jar", name := "clone", desc := "()LMustardMill$Jar;" } : Jvm.MethodName) prog_4_method_2_code (1 : Nat) (Option.some (Jvm.ClassFile.FieldType.object "MustardMill$Jar"))) ∈ lw_all := lw_g (lw_at lw_m4 100 rfl) rfl
theorem q884 : (Jvm.Cond.methodLink "MustardMill$Jar" (29 : Nat) ({ cls := "MustardMill$Thing", name := "clone", desc := "()LMustardMill$Thing;" } : Jvm.MethodName)) ∈ lw_all := lw_g (lw_at lw_m4 101 rfl) rfl
theorem q885 : (Jvm.Cond.superclass "MustardMill$Jar" "MustardMill$Thing") ∈ lw_all := lw_g (lw_at lw_m4 102 rfl) rfl
theorem q886 : (Jvm.Cond.classLink "MustardMill$Jar" (14 : Nat) "MustardMill$Jar") ∈ lw_all := lw_g (lw_at lw_m4 103 rfl) rfl
theorem q1172 : (Jvm.Cond.castable "MustardMill$Jar" "MustardMill$Numbered") ∈ lw_tbl := lw_at lw_m5 149 rfl
theorem q1173 : (Jvm.Cond.selects "MustardMill$Jar" ({ cls := "MustardMill$Numbered", name := "state", desc := "()I" } : Jvm.MethodName) ({ cls := "MustardMill$Thing", name := "state", desc := "()I" } : Jvm.MethodName)) ∈ lw_all := lw_g (lw_at lw_m5 150 rfl) rfl
theorem q1174 : (Jvm.Cond.unhidden "MustardMill$Jar" "state" "()I") ∈ lw_tbl := lw_at lw_m5 151 rfl
theorem q1197 : (Jvm.Cond.instantiable "MustardMill$Jar" (7 : Nat)) ∈ lw_all := lw_g (lw_at lw_m5 174 rfl) rfl
theorem q1199 : (Jvm.Cond.instanceMethod ({ cls := "MustardMill$Jar", name := "<init>", desc := "(ILMustardMill$Batch;)V" } : Jvm.MethodName)) ∈ lw_all := lw_g (lw_at lw_m5 176 rfl) rfl
theorem q1200 : (Jvm.Cond.code ({ cls := "MustardMill$Jar", name := "<init>", desc := "(ILMustardMill$Batch;)V" } : Jvm.MethodName) prog_4_method_1_code (3 : Nat) (Option.none : Option Jvm.ClassFile.FieldType)) ∈ lw_all := lw_g (lw_at lw_m5 177 rfl) rfl
theorem q1201 : (Jvm.Cond.methodLink "MustardMill$Jar" (1 : Nat) ({ cls := "MustardMill$Thing", name := "<init>", desc := "(I)V" } : Jvm.MethodName)) ∈ lw_all := lw_g (lw_at lw_m5 178 rfl) rfl
theorem q1202 : (Jvm.Cond.methodLink "MustardMill$Jar" (7 : Nat) ({ cls := "MustardMill$Batch", name := "number", desc := "()I" } : Jvm.MethodName)) ∈ lw_all := lw_g (lw_at lw_m5 179 rfl) rfl
theorem q1208 : (Jvm.Cond.methodLink "MustardMill$Jar" (19 : Nat) ({ cls := "MustardMill$Batch", name := "bite", desc := "()I" } : Jvm.MethodName)) ∈ lw_all := lw_g (lw_at lw_m5 185 rfl) rfl
theorem q1212 : (Jvm.Cond.methodLink "MustardMill$Jar" (24 : Nat) ({ cls := "MustardMill$Batch", name := "ripeDays", desc := "()I" } : Jvm.MethodName)) ∈ lw_all := lw_g (lw_at lw_m5 189 rfl) rfl
theorem q1213 : (Jvm.Cond.fieldLink "MustardMill$Jar" (13 : Nat) "MustardMill$Jar" "batch" "I") ∈ lw_all := lw_g (lw_at lw_m5 190 rfl) rfl
theorem q1215 : (Jvm.Cond.fieldLink "MustardMill$Jar" (22 : Nat) "MustardMill$Jar" "bite" "I") ∈ lw_all := lw_g (lw_at lw_m5 192 rfl) rfl
theorem q1217 : (Jvm.Cond.fieldLink "MustardMill$Jar" (27 : Nat) "MustardMill$Jar" "ripeDays" "I") ∈ lw_all := lw_g (lw_at lw_m5 194 rfl) rfl
theorem q1219 : (Jvm.Cond.fieldLink "MustardMill$Jar" (37 : Nat) "MustardMill$Jar" "rested" "I") ∈ lw_all := lw_g (lw_at lw_m5 196 rfl) rfl
theorem q1222 : (Jvm.Cond.fieldLink "MustardMill$Jar" (57 : Nat) "MustardMill$Jar" "lost" "I") ∈ lw_all := lw_g (lw_at lw_m5 199 rfl) rfl
theorem q1223 : (Jvm.Cond.laysFinal "MustardMill$Jar" "MustardMill$Jar" "batch" "I") ∈ lw_all := lw_g (lw_at lw_m5 200 rfl) rfl
theorem q1224 : (Jvm.Cond.soleField "MustardMill$Jar" "batch") ∈ lw_all := lw_g (lw_at lw_m5 201 rfl) rfl
theorem q1225 : (Jvm.Cond.laysFinal "MustardMill$Jar" "MustardMill$Jar" "bite" "I") ∈ lw_all := lw_g (lw_at lw_m5 202 rfl) rfl
theorem q1226 : (Jvm.Cond.soleField "MustardMill$Jar" "bite") ∈ lw_all := lw_g (lw_at lw_m5 203 rfl) rfl
theorem q1227 : (Jvm.Cond.laysFinal "MustardMill$Jar" "MustardMill$Jar" "ripeDays" "I") ∈ lw_all := lw_g (lw_at lw_m5 204 rfl) rfl
theorem q1228 : (Jvm.Cond.soleField "MustardMill$Jar" "ripeDays") ∈ lw_all := lw_g (lw_at lw_m5 205 rfl) rfl
theorem q1229 : (Jvm.Cond.lays "MustardMill$Jar" "MustardMill$Jar" "rested" "I") ∈ lw_all := lw_g (lw_at lw_m5 206 rfl) rfl
theorem q1230 : (Jvm.Cond.soleField "MustardMill$Jar" "rested") ∈ lw_all := lw_g (lw_at lw_m5 207 rfl) rfl
theorem q1231 : (Jvm.Cond.lays "MustardMill$Jar" "MustardMill$Jar" "lost" "I") ∈ lw_all := lw_g (lw_at lw_m5 208 rfl) rfl
theorem q1232 : (Jvm.Cond.soleField "MustardMill$Jar" "lost") ∈ lw_all := lw_g (lw_at lw_m5 209 rfl) rfl
theorem q1233 : (Jvm.Cond.laysFinal "MustardMill$Jar" "MustardMill$Thing" "number" "I") ∈ lw_all := lw_g (lw_at lw_m5 210 rfl) rfl
theorem q1234 : (Jvm.Cond.lays "MustardMill$Jar" "MustardMill$Thing" "state" "I") ∈ lw_all := lw_g (lw_at lw_m5 211 rfl) rfl
theorem q1243 : (Jvm.Cond.unhidden "MustardMill$Jar" "is" "(I)Z") ∈ lw_tbl := lw_at lw_m5 220 rfl
theorem q1245 : (Jvm.Cond.sameMethod "MustardMill$Jar" "MustardMill$Thing" "state" "()I") ∈ lw_all := lw_g (lw_at lw_m5 222 rfl) rfl
theorem q1246 : (Jvm.Cond.selects "MustardMill$Jar" ({ cls := "MustardMill$Jar", name := "state", desc := "()I" } : Jvm.MethodName) ({ cls := "MustardMill$Thing", name := "state", desc := "()I" } : Jvm.MethodName)) ∈ lw_all := lw_g (lw_at lw_m5 223 rfl) rfl
theorem q1248 : (Jvm.Cond.sameMethod "MustardMill$Jar" "MustardMill$Thing" "become" "(I)V") ∈ lw_all := lw_g (lw_at lw_m5 225 rfl) rfl
theorem q1249 : (Jvm.Cond.selects "MustardMill$Jar" ({ cls := "MustardMill$Jar", name := "become", desc := "(I)V" } : Jvm.MethodName) ({ cls := "MustardMill$Thing", name := "become", desc := "(I)V" } : Jvm.MethodName)) ∈ lw_all := lw_g (lw_at lw_m5 226 rfl) rfl
theorem q1251 : (Jvm.Cond.instanceMethod ({ cls := "MustardMill$Jar", name := "tear", desc := "()I" } : Jvm.MethodName)) ∈ lw_all := lw_g (lw_at lw_m5 228 rfl) rfl
theorem q1252 : (Jvm.Cond.selects "MustardMill$Jar" ({ cls := "MustardMill$Jar", name := "tear", desc := "()I" } : Jvm.MethodName) ({ cls := "MustardMill$Jar", name := "tear", desc := "()I" } : Jvm.MethodName)) ∈ lw_all := lw_g (lw_at lw_m5 229 rfl) rfl
theorem q1253 : (Jvm.Cond.code ({ cls := "MustardMill$Jar", name := "tear", desc := "()I" } : Jvm.MethodName) prog_4_method_5_code (2 : Nat) (Option.some Jvm.ClassFile.FieldType.int)) ∈ lw_all := lw_g (lw_at lw_m5 230 rfl) rfl
theorem q1254 : (Jvm.Cond.classLink "MustardMill$Jar" (46 : Nat) "MustardMill$Jar$1") ∈ lw_all := lw_g (lw_at lw_m5 231 rfl) rfl
theorem q1256 : (Jvm.Cond.methodLink "MustardMill$Jar" (48 : Nat) ({ cls := "MustardMill$Jar$1", name := "<init>", desc := "(LMustardMill$Jar;)V" } : Jvm.MethodName)) ∈ lw_all := lw_g (lw_at lw_m5 233 rfl) rfl
theorem q1264 : (Jvm.Cond.interfaceEntry "MustardMill$Jar" (51 : Nat)) ∈ lw_tbl := lw_at lw_m6 1 rfl
theorem q1265 : (Jvm.Cond.methodLink "MustardMill$Jar" (51 : Nat) ({ cls := "MustardMill$Taste", name := "tear", desc := "(I)I" } : Jvm.MethodName)) ∈ lw_all := lw_g (lw_at lw_m6 2 rfl) rfl
theorem q1299 : (Jvm.Cond.methodLink "MustardMill$Jar" (40 : Nat) ({ cls := "java/lang/Math", name := "max", desc := "(II)I" } : Jvm.MethodName)) ∈ lw_all := lw_g (lw_at lw_m6 36 rfl) rfl
theorem q1305 : (Jvm.Cond.instanceMethod ({ cls := "MustardMill$Jar", name := "isRipe", desc := "()Z" } : Jvm.MethodName)) ∈ lw_all := lw_g (lw_at lw_m6 42 rfl) rfl
theorem q1306 : (Jvm.Cond.selects "MustardMill$Jar" ({ cls := "MustardMill$Jar", name := "isRipe", desc := "()Z" } : Jvm.MethodName) ({ cls := "MustardMill$Jar", name := "isRipe", desc := "()Z" } : Jvm.MethodName)) ∈ lw_all := lw_g (lw_at lw_m6 43 rfl) rfl
theorem q1307 : (Jvm.Cond.code ({ cls := "MustardMill$Jar", name := "isRipe", desc := "()Z" } : Jvm.MethodName) prog_4_method_4_code (1 : Nat) (Option.some Jvm.ClassFile.FieldType.boolean)) ∈ lw_all := lw_g (lw_at lw_m6 44 rfl) rfl
theorem q1309 : (Jvm.Cond.instanceMethod ({ cls := "MustardMill$Jar", name := "missing", desc := "()I" } : Jvm.MethodName)) ∈ lw_all := lw_g (lw_at lw_m6 46 rfl) rfl
theorem q1310 : (Jvm.Cond.selects "MustardMill$Jar" ({ cls := "MustardMill$Jar", name := "missing", desc := "()I" } : Jvm.MethodName) ({ cls := "MustardMill$Jar", name := "missing", desc := "()I" } : Jvm.MethodName)) ∈ lw_all := lw_g (lw_at lw_m6 47 rfl) rfl
theorem q1311 : (Jvm.Cond.code ({ cls := "MustardMill$Jar", name := "missing", desc := "()I" } : Jvm.MethodName) prog_4_method_3_code (1 : Nat) (Option.some Jvm.ClassFile.FieldType.int)) ∈ lw_all := lw_g (lw_at lw_m6 48 rfl) rfl
theorem q1396 : (Jvm.Cond.sameMethod "MustardMill$Jar" "MustardMill$Thing" "number" "()I") ∈ lw_all := lw_g (lw_at lw_m6 133 rfl) rfl
theorem q1397 : (Jvm.Cond.selects "MustardMill$Jar" ({ cls := "MustardMill$Jar", name := "number", desc := "()I" } : Jvm.MethodName) ({ cls := "MustardMill$Thing", name := "number", desc := "()I" } : Jvm.MethodName)) ∈ lw_all := lw_g (lw_at lw_m6 134 rfl) rfl
theorem q1409 : (Jvm.Cond.instanceMethod ({ cls := "MustardMill$Jar", name := "rests", desc := "()Z" } : Jvm.MethodName)) ∈ lw_all := lw_g (lw_at lw_m6 146 rfl) rfl
theorem q1410 : (Jvm.Cond.selects "MustardMill$Jar" ({ cls := "MustardMill$Jar", name := "rests", desc := "()Z" } : Jvm.MethodName) ({ cls := "MustardMill$Jar", name := "rests", desc := "()Z" } : Jvm.MethodName)) ∈ lw_all := lw_g (lw_at lw_m6 147 rfl) rfl
theorem q1411 : (Jvm.Cond.code ({ cls := "MustardMill$Jar", name := "rests", desc := "()Z" } : Jvm.MethodName) prog_4_method_7_code (1 : Nat) (Option.some Jvm.ClassFile.FieldType.boolean)) ∈ lw_all := lw_g (lw_at lw_m6 148 rfl) rfl
theorem q1412 : (Jvm.Cond.methodLink "MustardMill$Jar" (63 : Nat) ({ cls := "MustardMill$Jar", name := "state", desc := "()I" } : Jvm.MethodName)) ∈ lw_all := lw_g (lw_at lw_m6 149 rfl) rfl
theorem q1698 : (Jvm.Cond.castable "MustardMill$Jar" "MustardMill$Ranked") ∈ lw_tbl := lw_at lw_m7 195 rfl
theorem q1699 : (Jvm.Cond.selects "MustardMill$Jar" ({ cls := "MustardMill$Ranked", name := "isAheadOf", desc := "(Ljava/lang/Object;)Z" } : Jvm.MethodName) ({ cls := "MustardMill$Jar", name := "isAheadOf", desc := "(Ljava/lang/Object;)Z" } : Jvm.MethodName)) ∈ lw_all := lw_g (lw_at lw_m7 196 rfl) rfl
theorem q1700 : (Jvm.Cond.unhidden "MustardMill$Jar" "isAheadOf" "(Ljava/lang/Object;)Z") ∈ lw_tbl := lw_at lw_m7 197 rfl
theorem q1701 : (Jvm.Cond.instanceMethod ({ cls := "MustardMill$Jar", name := "isAheadOf", desc := "(Ljava/lang/Object;)Z" } : Jvm.MethodName)) ∈ lw_all := lw_g (lw_at lw_m7 198 rfl) rfl
theorem q1702 : (Jvm.Cond.publicMethod ({ cls := "MustardMill$Jar", name := "isAheadOf", desc := "(Ljava/lang/Object;)Z" } : Jvm.MethodName)) ∈ lw_tbl := lw_at lw_m7 199 rfl
theorem q1703 : (Jvm.Cond.code ({ cls := "MustardMill$Jar", name := "isAheadOf", desc := "(Ljava/lang/Object;)Z" } : Jvm.MethodName) prog_4_method_11_code (2 : Nat) (Option.some Jvm.ClassFile.FieldType.boolean)) ∈ lw_all := lw_g (lw_at lw_m7 200 rfl) rfl
theorem q1704 : (Jvm.Cond.methodLink "MustardMill$Jar" (105 : Nat) ({ cls := "MustardMill$Jar", name := "isAheadOf", desc := "(LMustardMill$Jar;)Z" } : Jvm.MethodName)) ∈ lw_all := lw_g (lw_at lw_m7 201 rfl) rfl
theorem q1705 : (Jvm.Cond.instanceMethod ({ cls := "MustardMill$Jar", name := "isAheadOf", desc := "(LMustardMill$Jar;)Z" } : Jvm.MethodName)) ∈ lw_all := lw_g (lw_at lw_m7 202 rfl) rfl
theorem q1706 : (Jvm.Cond.selects "MustardMill$Jar" ({ cls := "MustardMill$Jar", name := "isAheadOf", desc := "(LMustardMill$Jar;)Z" } : Jvm.MethodName) ({ cls := "MustardMill$Jar", name := "isAheadOf", desc := "(LMustardMill$Jar;)Z" } : Jvm.MethodName)) ∈ lw_all := lw_g (lw_at lw_m7 203 rfl) rfl
theorem q1707 : (Jvm.Cond.code ({ cls := "MustardMill$Jar", name := "isAheadOf", desc := "(LMustardMill$Jar;)Z" } : Jvm.MethodName) prog_4_method_6_code (3 : Nat) (Option.some Jvm.ClassFile.FieldType.boolean)) ∈ lw_all := lw_g (lw_at lw_m7 204 rfl) rfl
theorem q1708 : (Jvm.Cond.methodLink "MustardMill$Jar" (60 : Nat) ({ cls := "MustardMill$Jar", name := "tear", desc := "()I" } : Jvm.MethodName)) ∈ lw_all := lw_g (lw_at lw_m7 205 rfl) rfl
theorem q1709 : (Jvm.Cond.methodLink "MustardMill$Jar" (62 : Nat) ({ cls := "MustardMill$Jar", name := "number", desc := "()I" } : Jvm.MethodName)) ∈ lw_all := lw_g (lw_at lw_m7 206 rfl) rfl
theorem q1799 : (Jvm.Cond.instanceMethod ({ cls := "MustardMill$Jar", name := "told", desc := "()Ljava/lang/String;" } : Jvm.MethodName)) ∈ lw_all := lw_g (lw_at lw_m8 56 rfl) rfl
theorem q1800 : (Jvm.Cond.selects "MustardMill$Jar" ({ cls := "MustardMill$Jar", name := "told", desc := "()Ljava/lang/String;" } : Jvm.MethodName) ({ cls := "MustardMill$Jar", name := "told", desc := "()Ljava/lang/String;" } : Jvm.MethodName)) ∈ lw_all := lw_g (lw_at lw_m8 57 rfl) rfl
theorem q1801 : (Jvm.Cond.code ({ cls := "MustardMill$Jar", name := "told", desc := "()Ljava/lang/String;" } : Jvm.MethodName) prog_4_method_8_code (2 : Nat) (Option.some (Jvm.ClassFile.FieldType.object "java/lang/String"))) ∈ lw_all := lw_g (lw_at lw_m8 58 rfl) rfl
theorem q1802 : (Jvm.Cond.stringRef "MustardMill$Jar" (66 : Nat) "open") ∈ lw_tbl := lw_at lw_m8 59 rfl
theorem q1803 : (Jvm.Cond.stringRef "MustardMill$Jar" (68 : Nat) "sold") ∈ lw_tbl := lw_at lw_m8 60 rfl
theorem q1804 : (Jvm.Cond.methodLink "MustardMill$Jar" (70 : Nat) ({ cls := "MustardMill$Jar", name := "isRipe", desc := "()Z" } : Jvm.MethodName)) ∈ lw_all := lw_g (lw_at lw_m8 61 rfl) rfl
theorem q1805 : (Jvm.Cond.stringRef "MustardMill$Jar" (74 : Nat) "ripe") ∈ lw_tbl := lw_at lw_m8 62 rfl
theorem q1806 : (Jvm.Cond.stringRef "MustardMill$Jar" (76 : Nat) "resting") ∈ lw_tbl := lw_at lw_m8 63 rfl
theorem q1807 : (Jvm.Cond.classLink "MustardMill$Jar" (78 : Nat) "java/lang/StringBuilder") ∈ lw_all := lw_g (lw_at lw_m8 64 rfl) rfl
theorem q1808 : (Jvm.Cond.methodLink "MustardMill$Jar" (80 : Nat) ({ cls := "java/lang/StringBuilder", name := "<init>", desc := "()V" } : Jvm.MethodName)) ∈ lw_all := lw_g (lw_at lw_m8 65 rfl) rfl
theorem q1809 : (Jvm.Cond.stringRef "MustardMill$Jar" (83 : Nat) "j") ∈ lw_tbl := lw_at lw_m8 66 rfl
theorem q1810 : (Jvm.Cond.methodLink "MustardMill$Jar" (85 : Nat) ({ cls := "java/lang/StringBuilder", name := "append", desc := "(Ljava/lang/String;)Ljava/lang/StringBuilder;" } : Jvm.MethodName)) ∈ lw_all := lw_g (lw_at lw_m8 67 rfl) rfl
theorem q1811 : (Jvm.Cond.methodLink "MustardMill$Jar" (89 : Nat) ({ cls := "java/lang/StringBuilder", name := "append", desc := "(I)Ljava/lang/StringBuilder;" } : Jvm.MethodName)) ∈ lw_all := lw_g (lw_at lw_m8 68 rfl) rfl
theorem q1812 : (Jvm.Cond.stringRef "MustardMill$Jar" (92 : Nat) " of ") ∈ lw_tbl := lw_at lw_m8 69 rfl
theorem q1813 : (Jvm.Cond.stringRef "MustardMill$Jar" (94 : Nat) ", ") ∈ lw_tbl := lw_at lw_m8 70 rfl
theorem q1814 : (Jvm.Cond.stringRef "MustardMill$Jar" (96 : Nat) "d, ") ∈ lw_tbl := lw_at lw_m8 71 rfl
theorem q1815 : (Jvm.Cond.methodLink "MustardMill$Jar" (98 : Nat) ({ cls := "java/lang/StringBuilder", name := "toString", desc := "()Ljava/lang/String;" } : Jvm.MethodName)) ∈ lw_all := lw_g (lw_at lw_m8 72 rfl) rfl
theorem q2512 : (Jvm.Cond.selects "MustardMill$Jar" ({ cls := "MustardMill$Thing", name := "number", desc := "()I" } : Jvm.MethodName) ({ cls := "MustardMill$Thing", name := "number", desc := "()I" } : Jvm.MethodName)) ∈ lw_all := lw_g (lw_at lw_m11 49 rfl) rfl
theorem q2519 : (Jvm.Cond.castable "MustardMill$Jar" "MustardMill$Thing") ∈ lw_tbl := lw_at lw_m11 56 rfl
theorem q2523 : (Jvm.Cond.castable "MustardMill$Jar" "java/lang/Cloneable") ∈ lw_tbl := lw_at lw_m11 60 rfl
theorem q2534 : (Jvm.Cond.castable "MustardMill$Jar" "java/lang/Object") ∈ lw_tbl := lw_at lw_m11 71 rfl
theorem in_X11 : ∀ w ∈ wsX110, w ∈ lw_all := lw_in wsX110 [1233, 1234, 1223, 1225, 1227, 1229, 1231] (by decide +kernel) (by decide +kernel)
/-! MustardMill$Jar$1 -/
set_option maxRecDepth 100000
def RX12 : String := "MustardMill$Jar$1"
def TX12 : u_T := fun k => match k with
  | _ => ("MustardMill$Jar$1", "this$0", "LMustardMill$Jar;", true)
def tyX12 : Nat → FieldType := fun k => match k with
  | _ => .object "MustardMill$Jar"
abbrev wsX120 : List Cond := u_ws RX12 TX12 1
theorem nmX12 : ∀ a, a < 1 → ∀ b, b < 1 → a ≠ b → (TX12 a).2.1 ≠ (TX12 b).2.1 := by decide +kernel
theorem tyX12_ok : ∀ k, k < 1 → parseFieldDescriptor (TX12 k).2.2.1 = some (tyX12 k) := by decide +kernel
abbrev cX12_init : ByteArray := prog_5_method_1_code
def yX12_init : MethodName := ⟨RX12, "<init>", "(LMustardMill$Jar;)V"⟩
def dkwX12_init_0 : List UInt8 := [42, 43, 181, 0, 1, 42, 183, 0, 7, 177]
abbrev dktX12_init_0 : List UInt8 := dkwX12_init_0 ++ []
theorem dksX12_init_0 : cX12_init.data.toList.drop 0 = dktX12_init_0 := by decide +kernel
theorem dX12_init_0 : decode cX12_init 0 = .ok (.aload_n 0, 1) := dk_42 (dk_at dksX12_init_0 0 rfl rfl)
theorem dX12_init_1 : decode cX12_init 1 = .ok (.aload_n 1, 1) := dk_43 (dk_at dksX12_init_0 1 rfl rfl)
theorem dX12_init_2 : decode cX12_init 2 = .ok (.putfield 1, 3) := dk_181 0 1 (dk_at dksX12_init_0 2 rfl rfl)
theorem dX12_init_5 : decode cX12_init 5 = .ok (.aload_n 0, 1) := dk_42 (dk_at dksX12_init_0 5 rfl rfl)
theorem dX12_init_6 : decode cX12_init 6 = .ok (.invokespecial 7, 3) := dk_183 0 7 (dk_at dksX12_init_0 6 rfl rfl)
theorem dX12_init_9 : decode cX12_init 9 = .ok (.return_, 1) := dk_177 (dk_at dksX12_init_0 9 rfl rfl)
abbrev cX12_ripeDays : ByteArray := prog_5_method_3_code
def yX12_ripeDays : MethodName := ⟨RX12, "ripeDays", "()I"⟩
def dkwX12_ripeDays_0 : List UInt8 := [42, 180, 0, 1, 180, 0, 19, 172]
abbrev dktX12_ripeDays_0 : List UInt8 := dkwX12_ripeDays_0 ++ []
theorem dksX12_ripeDays_0 : cX12_ripeDays.data.toList.drop 0 = dktX12_ripeDays_0 := by decide +kernel
theorem dX12_ripeDays_0 : decode cX12_ripeDays 0 = .ok (.aload_n 0, 1) := dk_42 (dk_at dksX12_ripeDays_0 0 rfl rfl)
theorem dX12_ripeDays_1 : decode cX12_ripeDays 1 = .ok (.getfield 1, 3) := dk_180 0 1 (dk_at dksX12_ripeDays_0 1 rfl rfl)
theorem dX12_ripeDays_4 : decode cX12_ripeDays 4 = .ok (.getfield 19, 3) := dk_180 0 19 (dk_at dksX12_ripeDays_0 4 rfl rfl)
theorem dX12_ripeDays_7 : decode cX12_ripeDays 7 = .ok (.ireturn, 1) := dk_172 (dk_at dksX12_ripeDays_0 7 rfl rfl)
abbrev cX12_bite : ByteArray := prog_5_method_2_code
def yX12_bite : MethodName := ⟨RX12, "bite", "()I"⟩
def dkwX12_bite_0 : List UInt8 := [42, 180, 0, 1, 180, 0, 13, 172]
abbrev dktX12_bite_0 : List UInt8 := dkwX12_bite_0 ++ []
theorem dksX12_bite_0 : cX12_bite.data.toList.drop 0 = dktX12_bite_0 := by decide +kernel
theorem dX12_bite_0 : decode cX12_bite 0 = .ok (.aload_n 0, 1) := dk_42 (dk_at dksX12_bite_0 0 rfl rfl)
theorem dX12_bite_1 : decode cX12_bite 1 = .ok (.getfield 1, 3) := dk_180 0 1 (dk_at dksX12_bite_0 1 rfl rfl)
theorem dX12_bite_4 : decode cX12_bite 4 = .ok (.getfield 13, 3) := dk_180 0 13 (dk_at dksX12_bite_0 4 rfl rfl)
theorem dX12_bite_7 : decode cX12_bite 7 = .ok (.ireturn, 1) := dk_172 (dk_at dksX12_bite_0 7 rfl rfl)
theorem q100 : (Jvm.Cond.initialized "MustardMill$Jar$1") ∈ lw_all := lw_g (lw_at lw_m1 37 rfl) rfl
theorem q843 : (Jvm.Cond.selects "MustardMill$Jar$1" ({ cls := "java/lang/Object", name := "getClass", desc := "()Ljava/lang/Class;" } : Jvm.MethodName) ({ cls := "java/lang/Object", name := "getClass", desc := "()Ljava/lang/Class;" } : Jvm.MethodName)) ∈ lw_all := lw_g (lw_at lw_m4 60 rfl) rfl
theorem q1216 : (Jvm.Cond.fieldLinkNest "MustardMill$Jar$1" (13 : Nat) "MustardMill$Jar" "bite" "I" "MustardMill") ∈ lw_tbl := lw_at lw_m5 193 rfl
theorem q1218 : (Jvm.Cond.fieldLinkNest "MustardMill$Jar$1" (19 : Nat) "MustardMill$Jar" "ripeDays" "I" "MustardMill") ∈ lw_tbl := lw_at lw_m5 195 rfl
theorem q1255 : (Jvm.Cond.instantiable "MustardMill$Jar$1" (1 : Nat)) ∈ lw_all := lw_g (lw_at lw_m5 232 rfl) rfl
theorem q1257 : (Jvm.Cond.instanceMethod ({ cls := "MustardMill$Jar$1", name := "<init>", desc := "(LMustardMill$Jar;)V" } : Jvm.MethodName)) ∈ lw_all := lw_g (lw_at lw_m5 234 rfl) rfl
theorem q1258 : (Jvm.Cond.code ({ cls := "MustardMill$Jar$1", name := "<init>", desc := "(LMustardMill$Jar;)V" } : Jvm.MethodName) prog_5_method_1_code (2 : Nat) (Option.none : Option Jvm.ClassFile.FieldType)) ∈ lw_all := lw_g (lw_at lw_m5 235 rfl) rfl
theorem q1259 : (Jvm.Cond.methodLink "MustardMill$Jar$1" (7 : Nat) ({ cls := "java/lang/Object", name := "<init>", desc := "()V" } : Jvm.MethodName)) ∈ lw_all := lw_g (lw_at lw_m5 236 rfl) rfl
theorem q1260 : (Jvm.Cond.fieldLink "MustardMill$Jar$1" (1 : Nat) "MustardMill$Jar$1" "this$0" "LMustardMill$Jar;") ∈ lw_all := lw_g (lw_at lw_m5 237 rfl) rfl
theorem q1261 : (Jvm.Cond.laysFinal "MustardMill$Jar$1" "MustardMill$Jar$1" "this$0" "LMustardMill$Jar;") ∈ lw_all := lw_g (lw_at lw_m5 238 rfl) rfl
theorem q1262 : (Jvm.Cond.soleField "MustardMill$Jar$1" "this$0") ∈ lw_all := lw_g (lw_at lw_m5 239 rfl) rfl
theorem q1263 : (Jvm.Cond.superclass "MustardMill$Jar$1" "java/lang/Object") ∈ lw_all := lw_g (lw_at lw_m6 0 rfl) rfl
theorem q1280 : (Jvm.Cond.castable "MustardMill$Jar$1" "MustardMill$Taste") ∈ lw_tbl := lw_at lw_m6 17 rfl
theorem q1281 : (Jvm.Cond.selects "MustardMill$Jar$1" ({ cls := "MustardMill$Taste", name := "ripeDays", desc := "()I" } : Jvm.MethodName) ({ cls := "MustardMill$Jar$1", name := "ripeDays", desc := "()I" } : Jvm.MethodName)) ∈ lw_all := lw_g (lw_at lw_m6 18 rfl) rfl
theorem q1282 : (Jvm.Cond.unhidden "MustardMill$Jar$1" "ripeDays" "()I") ∈ lw_tbl := lw_at lw_m6 19 rfl
theorem q1283 : (Jvm.Cond.instanceMethod ({ cls := "MustardMill$Jar$1", name := "ripeDays", desc := "()I" } : Jvm.MethodName)) ∈ lw_all := lw_g (lw_at lw_m6 20 rfl) rfl
theorem q1284 : (Jvm.Cond.publicMethod ({ cls := "MustardMill$Jar$1", name := "ripeDays", desc := "()I" } : Jvm.MethodName)) ∈ lw_tbl := lw_at lw_m6 21 rfl
theorem q1285 : (Jvm.Cond.code ({ cls := "MustardMill$Jar$1", name := "ripeDays", desc := "()I" } : Jvm.MethodName) prog_5_method_3_code (1 : Nat) (Option.some Jvm.ClassFile.FieldType.int)) ∈ lw_all := lw_g (lw_at lw_m6 22 rfl) rfl
theorem q1293 : (Jvm.Cond.selects "MustardMill$Jar$1" ({ cls := "MustardMill$Taste", name := "bite", desc := "()I" } : Jvm.MethodName) ({ cls := "MustardMill$Jar$1", name := "bite", desc := "()I" } : Jvm.MethodName)) ∈ lw_all := lw_g (lw_at lw_m6 30 rfl) rfl
theorem q1294 : (Jvm.Cond.unhidden "MustardMill$Jar$1" "bite" "()I") ∈ lw_tbl := lw_at lw_m6 31 rfl
theorem q1295 : (Jvm.Cond.instanceMethod ({ cls := "MustardMill$Jar$1", name := "bite", desc := "()I" } : Jvm.MethodName)) ∈ lw_all := lw_g (lw_at lw_m6 32 rfl) rfl
theorem q1296 : (Jvm.Cond.publicMethod ({ cls := "MustardMill$Jar$1", name := "bite", desc := "()I" } : Jvm.MethodName)) ∈ lw_tbl := lw_at lw_m6 33 rfl
theorem q1297 : (Jvm.Cond.code ({ cls := "MustardMill$Jar$1", name := "bite", desc := "()I" } : Jvm.MethodName) prog_5_method_2_code (1 : Nat) (Option.some Jvm.ClassFile.FieldType.int)) ∈ lw_all := lw_g (lw_at lw_m6 34 rfl) rfl
theorem q1298 : (Jvm.Cond.unhidden "MustardMill$Jar$1" "tear" "(I)I") ∈ lw_tbl := lw_at lw_m6 35 rfl
theorem q2551 : (Jvm.Cond.castable "MustardMill$Jar$1" "java/lang/Object") ∈ lw_tbl := lw_at lw_m11 88 rfl
theorem in_X12 : ∀ w ∈ wsX120, w ∈ lw_all := lw_in wsX120 [1261] (by decide +kernel) (by decide +kernel)
/-! MustardMill$Numbered -/
set_option maxRecDepth 100000
def RX13 : String := "MustardMill$Numbered"
abbrev cX13_is : ByteArray := prog_7_method_3_code
def yX13_is : MethodName := ⟨RX13, "is", "(I)Z"⟩
def dkwX13_is_0 : List UInt8 := [42, 185, 0, 1, 1, 0, 27, 160, 0, 7, 4, 167, 0, 4, 3, 172]
abbrev dktX13_is_0 : List UInt8 := dkwX13_is_0 ++ []
theorem dksX13_is_0 : cX13_is.data.toList.drop 0 = dktX13_is_0 := by decide +kernel
theorem dX13_is_0 : decode cX13_is 0 = .ok (.aload_n 0, 1) := dk_42 (dk_at dksX13_is_0 0 rfl rfl)
theorem dX13_is_1 : decode cX13_is 1 = .ok (.invokeinterface 1 1, 5) := by decide +kernel
theorem dX13_is_6 : decode cX13_is 6 = .ok (.iload_n 1, 1) := dk_27 (dk_at dksX13_is_0 6 rfl rfl)
theorem dX13_is_7 : decode cX13_is 7 = .ok (.if_icmp .ne 7, 3) := dk_160 0 7 (dk_at dksX13_is_0 7 rfl rfl)
theorem dX13_is_10 : decode cX13_is 10 = .ok (.iconst 1, 1) := dk_4 (dk_at dksX13_is_0 10 rfl rfl)
theorem dX13_is_11 : decode cX13_is 11 = .ok (.goto 4, 3) := dk_167 0 4 (dk_at dksX13_is_0 11 rfl rfl)
theorem dX13_is_14 : decode cX13_is 14 = .ok (.iconst 0, 1) := dk_3 (dk_at dksX13_is_0 14 rfl rfl)
theorem dX13_is_15 : decode cX13_is 15 = .ok (.ireturn, 1) := dk_172 (dk_at dksX13_is_0 15 rfl rfl)
abbrev cX13_count : ByteArray := prog_7_method_4_code
def yX13_count : MethodName := ⟨RX13, "count", "(Ljava/lang/Iterable;I)I"⟩
def dkwX13_count_2 : List UInt8 := [167, 255, 217, 28, 172]
abbrev dktX13_count_2 : List UInt8 := dkwX13_count_2 ++ []
def dkwX13_count_1 : List UInt8 := [192, 0, 2, 58, 4, 28, 25, 4, 27, 185, 0, 23, 2, 0, 153, 0, 7, 4, 167, 0, 4, 3, 96, 61]
abbrev dktX13_count_1 : List UInt8 := dkwX13_count_1 ++ dktX13_count_2
def dkwX13_count_0 : List UInt8 := [3, 61, 42, 185, 0, 7, 1, 0, 78, 45, 185, 0, 13, 1, 0, 153, 0, 36, 45, 185, 0, 19, 1, 0]
abbrev dktX13_count_0 : List UInt8 := dkwX13_count_0 ++ dktX13_count_1
theorem dksX13_count_0 : cX13_count.data.toList.drop 0 = dktX13_count_0 := by decide +kernel
theorem dksX13_count_1 : cX13_count.data.toList.drop 24 = dktX13_count_1 := dk_seg dksX13_count_0 24 rfl rfl
theorem dksX13_count_2 : cX13_count.data.toList.drop 48 = dktX13_count_2 := dk_seg dksX13_count_1 24 rfl rfl
theorem dX13_count_0 : decode cX13_count 0 = .ok (.iconst 0, 1) := dk_3 (dk_at dksX13_count_0 0 rfl rfl)
theorem dX13_count_1 : decode cX13_count 1 = .ok (.istore_n 2, 1) := dk_61 (dk_at dksX13_count_0 1 rfl rfl)
theorem dX13_count_2 : decode cX13_count 2 = .ok (.aload_n 0, 1) := dk_42 (dk_at dksX13_count_0 2 rfl rfl)
theorem dX13_count_3 : decode cX13_count 3 = .ok (.invokeinterface 7 1, 5) := by decide +kernel
theorem dX13_count_8 : decode cX13_count 8 = .ok (.astore_n 3, 1) := dk_78 (dk_at dksX13_count_0 8 rfl rfl)
theorem dX13_count_9 : decode cX13_count 9 = .ok (.aload_n 3, 1) := dk_45 (dk_at dksX13_count_0 9 rfl rfl)
theorem dX13_count_10 : decode cX13_count 10 = .ok (.invokeinterface 13 1, 5) := by decide +kernel
theorem dX13_count_15 : decode cX13_count 15 = .ok (.ifCond .eq 36, 3) := dk_153 0 36 (dk_at dksX13_count_0 15 rfl rfl)
theorem dX13_count_18 : decode cX13_count 18 = .ok (.aload_n 3, 1) := dk_45 (dk_at dksX13_count_0 18 rfl rfl)
theorem dX13_count_19 : decode cX13_count 19 = .ok (.invokeinterface 19 1, 5) := by decide +kernel
theorem dX13_count_24 : decode cX13_count 24 = .ok (.checkcast 2, 3) := dk_192 0 2 (dk_at dksX13_count_1 0 rfl rfl)
theorem dX13_count_27 : decode cX13_count 27 = .ok (.astore 4, 2) := dk_58 4 (dk_at dksX13_count_1 3 rfl rfl)
theorem dX13_count_29 : decode cX13_count 29 = .ok (.iload_n 2, 1) := dk_28 (dk_at dksX13_count_1 5 rfl rfl)
theorem dX13_count_30 : decode cX13_count 30 = .ok (.aload 4, 2) := dk_25 4 (dk_at dksX13_count_1 6 rfl rfl)
theorem dX13_count_32 : decode cX13_count 32 = .ok (.iload_n 1, 1) := dk_27 (dk_at dksX13_count_1 8 rfl rfl)
theorem dX13_count_33 : decode cX13_count 33 = .ok (.invokeinterface 23 2, 5) := by decide +kernel
theorem dX13_count_38 : decode cX13_count 38 = .ok (.ifCond .eq 7, 3) := dk_153 0 7 (dk_at dksX13_count_1 14 rfl rfl)
theorem dX13_count_41 : decode cX13_count 41 = .ok (.iconst 1, 1) := dk_4 (dk_at dksX13_count_1 17 rfl rfl)
theorem dX13_count_42 : decode cX13_count 42 = .ok (.goto 4, 3) := dk_167 0 4 (dk_at dksX13_count_1 18 rfl rfl)
theorem dX13_count_45 : decode cX13_count 45 = .ok (.iconst 0, 1) := dk_3 (dk_at dksX13_count_1 21 rfl rfl)
theorem dX13_count_46 : decode cX13_count 46 = .ok (.iadd, 1) := dk_96 (dk_at dksX13_count_1 22 rfl rfl)
theorem dX13_count_47 : decode cX13_count 47 = .ok (.istore_n 2, 1) := dk_61 (dk_at dksX13_count_1 23 rfl rfl)
theorem dX13_count_48 : decode cX13_count 48 = .ok (.goto (-39), 3) := dk_167 255 217 (dk_at dksX13_count_2 0 rfl rfl)
theorem dX13_count_51 : decode cX13_count 51 = .ok (.iload_n 2, 1) := dk_28 (dk_at dksX13_count_2 3 rfl rfl)
theorem dX13_count_52 : decode cX13_count 52 = .ok (.ireturn, 1) := dk_172 (dk_at dksX13_count_2 4 rfl rfl)
theorem q101 : (Jvm.Cond.initialized "MustardMill$Numbered") ∈ lw_all := lw_g (lw_at lw_m1 38 rfl) rfl
theorem q1157 : (Jvm.Cond.declares ({ cls := "MustardMill$Numbered", name := "is", desc := "(I)Z" } : Jvm.MethodName)) ∈ lw_tbl := lw_at lw_m5 134 rfl
theorem q1159 : (Jvm.Cond.instanceMethod ({ cls := "MustardMill$Numbered", name := "is", desc := "(I)Z" } : Jvm.MethodName)) ∈ lw_all := lw_g (lw_at lw_m5 136 rfl) rfl
theorem q1160 : (Jvm.Cond.publicMethod ({ cls := "MustardMill$Numbered", name := "is", desc := "(I)Z" } : Jvm.MethodName)) ∈ lw_tbl := lw_at lw_m5 137 rfl
theorem q1161 : (Jvm.Cond.code ({ cls := "MustardMill$Numbered", name := "is", desc := "(I)Z" } : Jvm.MethodName) prog_7_method_3_code (2 : Nat) (Option.some Jvm.ClassFile.FieldType.boolean)) ∈ lw_all := lw_g (lw_at lw_m5 138 rfl) rfl
theorem q1162 : (Jvm.Cond.interfaceEntry "MustardMill$Numbered" (1 : Nat)) ∈ lw_tbl := lw_at lw_m5 139 rfl
theorem q1163 : (Jvm.Cond.methodLink "MustardMill$Numbered" (1 : Nat) ({ cls := "MustardMill$Numbered", name := "state", desc := "()I" } : Jvm.MethodName)) ∈ lw_all := lw_g (lw_at lw_m5 140 rfl) rfl
theorem q1164 : (Jvm.Cond.interfaceMethod "MustardMill$Numbered" "MustardMill$Numbered" "state" "()I") ∈ lw_tbl := lw_at lw_m5 141 rfl
theorem q1165 : (Jvm.Cond.declares ({ cls := "MustardMill$Numbered", name := "state", desc := "()I" } : Jvm.MethodName)) ∈ lw_tbl := lw_at lw_m5 142 rfl
theorem q1338 : (Jvm.Cond.static ({ cls := "MustardMill$Numbered", name := "count", desc := "(Ljava/lang/Iterable;I)I" } : Jvm.MethodName)) ∈ lw_all := lw_g (lw_at lw_m6 75 rfl) rfl
theorem q1339 : (Jvm.Cond.code ({ cls := "MustardMill$Numbered", name := "count", desc := "(Ljava/lang/Iterable;I)I" } : Jvm.MethodName) prog_7_method_4_code (5 : Nat) (Option.some Jvm.ClassFile.FieldType.int)) ∈ lw_all := lw_g (lw_at lw_m6 76 rfl) rfl
theorem q1340 : (Jvm.Cond.interfaceEntry "MustardMill$Numbered" (7 : Nat)) ∈ lw_tbl := lw_at lw_m6 77 rfl
theorem q1341 : (Jvm.Cond.methodLink "MustardMill$Numbered" (7 : Nat) ({ cls := "java/lang/Iterable", name := "iterator", desc := "()Ljava/util/Iterator;" } : Jvm.MethodName)) ∈ lw_all := lw_g (lw_at lw_m6 78 rfl) rfl
theorem q1384 : (Jvm.Cond.interfaceEntry "MustardMill$Numbered" (13 : Nat)) ∈ lw_tbl := lw_at lw_m6 121 rfl
theorem q1385 : (Jvm.Cond.methodLink "MustardMill$Numbered" (13 : Nat) ({ cls := "java/util/Iterator", name := "hasNext", desc := "()Z" } : Jvm.MethodName)) ∈ lw_all := lw_g (lw_at lw_m6 122 rfl) rfl
theorem q1386 : (Jvm.Cond.interfaceEntry "MustardMill$Numbered" (19 : Nat)) ∈ lw_tbl := lw_at lw_m6 123 rfl
theorem q1387 : (Jvm.Cond.methodLink "MustardMill$Numbered" (19 : Nat) ({ cls := "java/util/Iterator", name := "next", desc := "()Ljava/lang/Object;" } : Jvm.MethodName)) ∈ lw_all := lw_g (lw_at lw_m6 124 rfl) rfl
theorem q1388 : (Jvm.Cond.classLink "MustardMill$Numbered" (2 : Nat) "MustardMill$Numbered") ∈ lw_all := lw_g (lw_at lw_m6 125 rfl) rfl
theorem q1389 : (Jvm.Cond.interfaceEntry "MustardMill$Numbered" (23 : Nat)) ∈ lw_tbl := lw_at lw_m6 126 rfl
theorem q1390 : (Jvm.Cond.methodLink "MustardMill$Numbered" (23 : Nat) ({ cls := "MustardMill$Numbered", name := "is", desc := "(I)Z" } : Jvm.MethodName)) ∈ lw_all := lw_g (lw_at lw_m6 127 rfl) rfl
theorem q1391 : (Jvm.Cond.interfaceMethod "MustardMill$Numbered" "MustardMill$Numbered" "is" "(I)Z") ∈ lw_tbl := lw_at lw_m6 128 rfl
/-! MustardMill$Wish -/
set_option maxRecDepth 100000
def RX14 : String := "MustardMill$Wish"
def TX14 : u_T := fun k => match k with
  | 0 => ("MustardMill$Thing", "number", "I", true)
  | 1 => ("MustardMill$Thing", "state", "I", false)
  | 2 => ("MustardMill$Wish", "least", "I", true)
  | 3 => ("MustardMill$Wish", "most", "I", true)
  | _ => ("MustardMill$Wish", "jar", "I", false)
def tyX14 : Nat → FieldType := fun k => match k with
  | 0 => .int
  | 1 => .int
  | 2 => .int
  | 3 => .int
  | _ => .int
abbrev wsX140 : List Cond := u_ws RX14 TX14 5
theorem nmX14 : ∀ a, a < 5 → ∀ b, b < 5 → a ≠ b → (TX14 a).2.1 ≠ (TX14 b).2.1 := by decide +kernel
theorem tyX14_ok : ∀ k, k < 5 → parseFieldDescriptor (TX14 k).2.2.1 = some (tyX14 k) := by decide +kernel
abbrev cX14_clone : ByteArray := prog_16_method_2_code
def yX14_clone : MethodName := ⟨RX14, "clone", "()LMustardMill$Wish;"⟩
def dkwX14_clone_0 : List UInt8 := [42, 183, 0, 21, 192, 0, 10, 176]
abbrev dktX14_clone_0 : List UInt8 := dkwX14_clone_0 ++ []
theorem dksX14_clone_0 : cX14_clone.data.toList.drop 0 = dktX14_clone_0 := by decide +kernel
theorem dX14_clone_0 : decode cX14_clone 0 = .ok (.aload_n 0, 1) := dk_42 (dk_at dksX14_clone_0 0 rfl rfl)
theorem dX14_clone_1 : decode cX14_clone 1 = .ok (.invokespecial 21, 3) := dk_183 0 21 (dk_at dksX14_clone_0 1 rfl rfl)
theorem dX14_clone_4 : decode cX14_clone 4 = .ok (.checkcast 10, 3) := dk_192 0 10 (dk_at dksX14_clone_0 4 rfl rfl)
theorem dX14_clone_7 : decode cX14_clone 7 = .ok (.areturn, 1) := dk_176 (dk_at dksX14_clone_0 7 rfl rfl)
abbrev cX14_suits : ByteArray := prog_16_method_3_code
def yX14_suits : MethodName := ⟨RX14, "suits", "(LMustardMill$Jar;)Z"⟩
def dkwX14_suits_1 : List UInt8 := [184, 0, 35, 153, 0, 7, 4, 167, 0, 4, 3, 172]
abbrev dktX14_suits_1 : List UInt8 := dkwX14_suits_1 ++ []
def dkwX14_suits_0 : List UInt8 := [43, 182, 0, 25, 153, 0, 28, 43, 182, 0, 31, 133, 42, 180, 0, 15, 133, 42, 180, 0, 18, 133]
abbrev dktX14_suits_0 : List UInt8 := dkwX14_suits_0 ++ dktX14_suits_1
theorem dksX14_suits_0 : cX14_suits.data.toList.drop 0 = dktX14_suits_0 := by decide +kernel
theorem dksX14_suits_1 : cX14_suits.data.toList.drop 22 = dktX14_suits_1 := dk_seg dksX14_suits_0 22 rfl rfl
theorem dX14_suits_0 : decode cX14_suits 0 = .ok (.aload_n 1, 1) := dk_43 (dk_at dksX14_suits_0 0 rfl rfl)
theorem dX14_suits_1 : decode cX14_suits 1 = .ok (.invokevirtual 25, 3) := dk_182 0 25 (dk_at dksX14_suits_0 1 rfl rfl)
theorem dX14_suits_4 : decode cX14_suits 4 = .ok (.ifCond .eq 28, 3) := dk_153 0 28 (dk_at dksX14_suits_0 4 rfl rfl)
theorem dX14_suits_7 : decode cX14_suits 7 = .ok (.aload_n 1, 1) := dk_43 (dk_at dksX14_suits_0 7 rfl rfl)
theorem dX14_suits_8 : decode cX14_suits 8 = .ok (.invokevirtual 31, 3) := dk_182 0 31 (dk_at dksX14_suits_0 8 rfl rfl)
theorem dX14_suits_11 : decode cX14_suits 11 = .ok (.i2l, 1) := dk_133 (dk_at dksX14_suits_0 11 rfl rfl)
theorem dX14_suits_12 : decode cX14_suits 12 = .ok (.aload_n 0, 1) := dk_42 (dk_at dksX14_suits_0 12 rfl rfl)
theorem dX14_suits_13 : decode cX14_suits 13 = .ok (.getfield 15, 3) := dk_180 0 15 (dk_at dksX14_suits_0 13 rfl rfl)
theorem dX14_suits_16 : decode cX14_suits 16 = .ok (.i2l, 1) := dk_133 (dk_at dksX14_suits_0 16 rfl rfl)
theorem dX14_suits_17 : decode cX14_suits 17 = .ok (.aload_n 0, 1) := dk_42 (dk_at dksX14_suits_0 17 rfl rfl)
theorem dX14_suits_18 : decode cX14_suits 18 = .ok (.getfield 18, 3) := dk_180 0 18 (dk_at dksX14_suits_0 18 rfl rfl)
theorem dX14_suits_21 : decode cX14_suits 21 = .ok (.i2l, 1) := dk_133 (dk_at dksX14_suits_0 21 rfl rfl)
theorem dX14_suits_22 : decode cX14_suits 22 = .ok (.invokestatic 35, 3) := dk_184 0 35 (dk_at dksX14_suits_1 0 rfl rfl)
theorem dX14_suits_25 : decode cX14_suits 25 = .ok (.ifCond .eq 7, 3) := dk_153 0 7 (dk_at dksX14_suits_1 3 rfl rfl)
theorem dX14_suits_28 : decode cX14_suits 28 = .ok (.iconst 1, 1) := dk_4 (dk_at dksX14_suits_1 6 rfl rfl)
theorem dX14_suits_29 : decode cX14_suits 29 = .ok (.goto 4, 3) := dk_167 0 4 (dk_at dksX14_suits_1 7 rfl rfl)
theorem dX14_suits_32 : decode cX14_suits 32 = .ok (.iconst 0, 1) := dk_3 (dk_at dksX14_suits_1 10 rfl rfl)
theorem dX14_suits_33 : decode cX14_suits 33 = .ok (.ireturn, 1) := dk_172 (dk_at dksX14_suits_1 11 rfl rfl)
abbrev cX14_init : ByteArray := prog_16_method_1_code
def yX14_init : MethodName := ⟨RX14, "<init>", "(III)V"⟩
def dkwX14_init_0 : List UInt8 := [42, 27, 183, 0, 3, 42, 2, 181, 0, 9, 42, 28, 181, 0, 15, 42, 29, 181, 0, 18, 177]
abbrev dktX14_init_0 : List UInt8 := dkwX14_init_0 ++ []
theorem dksX14_init_0 : cX14_init.data.toList.drop 0 = dktX14_init_0 := by decide +kernel
theorem dX14_init_0 : decode cX14_init 0 = .ok (.aload_n 0, 1) := dk_42 (dk_at dksX14_init_0 0 rfl rfl)
theorem dX14_init_1 : decode cX14_init 1 = .ok (.iload_n 1, 1) := dk_27 (dk_at dksX14_init_0 1 rfl rfl)
theorem dX14_init_2 : decode cX14_init 2 = .ok (.invokespecial 3, 3) := dk_183 0 3 (dk_at dksX14_init_0 2 rfl rfl)
theorem dX14_init_5 : decode cX14_init 5 = .ok (.aload_n 0, 1) := dk_42 (dk_at dksX14_init_0 5 rfl rfl)
theorem dX14_init_6 : decode cX14_init 6 = .ok (.iconst (-1), 1) := dk_2 (dk_at dksX14_init_0 6 rfl rfl)
theorem dX14_init_7 : decode cX14_init 7 = .ok (.putfield 9, 3) := dk_181 0 9 (dk_at dksX14_init_0 7 rfl rfl)
theorem dX14_init_10 : decode cX14_init 10 = .ok (.aload_n 0, 1) := dk_42 (dk_at dksX14_init_0 10 rfl rfl)
theorem dX14_init_11 : decode cX14_init 11 = .ok (.iload_n 2, 1) := dk_28 (dk_at dksX14_init_0 11 rfl rfl)
theorem dX14_init_12 : decode cX14_init 12 = .ok (.putfield 15, 3) := dk_181 0 15 (dk_at dksX14_init_0 12 rfl rfl)
theorem dX14_init_15 : decode cX14_init 15 = .ok (.aload_n 0, 1) := dk_42 (dk_at dksX14_init_0 15 rfl rfl)
theorem dX14_init_16 : decode cX14_init 16 = .ok (.iload_n 3, 1) := dk_29 (dk_at dksX14_init_0 16 rfl rfl)
theorem dX14_init_17 : decode cX14_init 17 = .ok (.putfield 18, 3) := dk_181 0 18 (dk_at dksX14_init_0 17 rfl rfl)
theorem dX14_init_20 : decode cX14_init 20 = .ok (.return_, 1) := dk_177 (dk_at dksX14_init_0 20 rfl rfl)
theorem q103 : (Jvm.Cond.initialized "MustardMill$Wish") ∈ lw_all := lw_g (lw_at lw_m1 40 rfl) rfl
theorem q850 : (Jvm.Cond.selects "MustardMill$Wish" ({ cls := "java/lang/Object", name := "getClass", desc := "()Ljava/lang/Class;" } : Jvm.MethodName) ({ cls := "java/lang/Object", name := "getClass", desc := "()Ljava/lang/Class;" } : Jvm.MethodName)) ∈ lw_all := lw_g (lw_at lw_m4 67 rfl) rfl
theorem q889 : (Jvm.Cond.instanceMethod ({ cls := "MustardMill$Wish", name := "clone", desc := "()LMustardMill$Wish;" } : Jvm.MethodName)) ∈ lw_all := lw_g (lw_at lw_m4 106 rfl) rfl
theorem q890 : (Jvm.Cond.selects "MustardMill$Wish" ({ cls := "MustardMill$Wish", name := "clone", desc := "()LMustardMill$Wish;" } : Jvm.MethodName) ({ cls := "MustardMill$Wish", name := "clone", desc := "()LMustardMill$Wish;" } : Jvm.MethodName)) ∈ lw_all := lw_g (lw_at lw_m4 107 rfl) rfl
theorem q891 : (Jvm.Cond.code ({ cls := "MustardMill$Wish", name := "clone", desc := "()LMustardMill$Wish;" } : Jvm.MethodName) prog_16_method_2_code (1 : Nat) (Option.some (Jvm.ClassFile.FieldType.object "MustardMill$Wish"))) ∈ lw_all := lw_g (lw_at lw_m4 108 rfl) rfl
theorem q892 : (Jvm.Cond.methodLink "MustardMill$Wish" (21 : Nat) ({ cls := "MustardMill$Thing", name := "clone", desc := "()LMustardMill$Thing;" } : Jvm.MethodName)) ∈ lw_all := lw_g (lw_at lw_m4 109 rfl) rfl
theorem q893 : (Jvm.Cond.superclass "MustardMill$Wish" "MustardMill$Thing") ∈ lw_all := lw_g (lw_at lw_m4 110 rfl) rfl
theorem q894 : (Jvm.Cond.classLink "MustardMill$Wish" (10 : Nat) "MustardMill$Wish") ∈ lw_all := lw_g (lw_at lw_m4 111 rfl) rfl
theorem q1175 : (Jvm.Cond.castable "MustardMill$Wish" "MustardMill$Numbered") ∈ lw_tbl := lw_at lw_m5 152 rfl
theorem q1176 : (Jvm.Cond.selects "MustardMill$Wish" ({ cls := "MustardMill$Numbered", name := "state", desc := "()I" } : Jvm.MethodName) ({ cls := "MustardMill$Thing", name := "state", desc := "()I" } : Jvm.MethodName)) ∈ lw_all := lw_g (lw_at lw_m5 153 rfl) rfl
theorem q1177 : (Jvm.Cond.unhidden "MustardMill$Wish" "state" "()I") ∈ lw_tbl := lw_at lw_m5 154 rfl
theorem q1325 : (Jvm.Cond.unhidden "MustardMill$Wish" "is" "(I)Z") ∈ lw_tbl := lw_at lw_m6 62 rfl
theorem q1331 : (Jvm.Cond.instanceMethod ({ cls := "MustardMill$Wish", name := "suits", desc := "(LMustardMill$Jar;)Z" } : Jvm.MethodName)) ∈ lw_all := lw_g (lw_at lw_m6 68 rfl) rfl
theorem q1332 : (Jvm.Cond.selects "MustardMill$Wish" ({ cls := "MustardMill$Wish", name := "suits", desc := "(LMustardMill$Jar;)Z" } : Jvm.MethodName) ({ cls := "MustardMill$Wish", name := "suits", desc := "(LMustardMill$Jar;)Z" } : Jvm.MethodName)) ∈ lw_all := lw_g (lw_at lw_m6 69 rfl) rfl
theorem q1333 : (Jvm.Cond.code ({ cls := "MustardMill$Wish", name := "suits", desc := "(LMustardMill$Jar;)Z" } : Jvm.MethodName) prog_16_method_3_code (2 : Nat) (Option.some Jvm.ClassFile.FieldType.boolean)) ∈ lw_all := lw_g (lw_at lw_m6 70 rfl) rfl
theorem q1334 : (Jvm.Cond.methodLink "MustardMill$Wish" (25 : Nat) ({ cls := "MustardMill$Jar", name := "isRipe", desc := "()Z" } : Jvm.MethodName)) ∈ lw_all := lw_g (lw_at lw_m6 71 rfl) rfl
theorem q1335 : (Jvm.Cond.methodLink "MustardMill$Wish" (31 : Nat) ({ cls := "MustardMill$Jar", name := "tear", desc := "()I" } : Jvm.MethodName)) ∈ lw_all := lw_g (lw_at lw_m6 72 rfl) rfl
theorem q1336 : (Jvm.Cond.methodLinkNest "MustardMill$Wish" (35 : Nat) ({ cls := "MustardMill", name := "inRange", desc := "(JJJ)Z" } : Jvm.MethodName) "MustardMill") ∈ lw_tbl := lw_at lw_m6 73 rfl
theorem q1393 : (Jvm.Cond.sameMethod "MustardMill$Wish" "MustardMill$Thing" "become" "(I)V") ∈ lw_all := lw_g (lw_at lw_m6 130 rfl) rfl
theorem q1394 : (Jvm.Cond.selects "MustardMill$Wish" ({ cls := "MustardMill$Wish", name := "become", desc := "(I)V" } : Jvm.MethodName) ({ cls := "MustardMill$Thing", name := "become", desc := "(I)V" } : Jvm.MethodName)) ∈ lw_all := lw_g (lw_at lw_m6 131 rfl) rfl
theorem q1426 : (Jvm.Cond.instantiable "MustardMill$Wish" (5 : Nat)) ∈ lw_all := lw_g (lw_at lw_m6 163 rfl) rfl
theorem q1428 : (Jvm.Cond.instanceMethod ({ cls := "MustardMill$Wish", name := "<init>", desc := "(III)V" } : Jvm.MethodName)) ∈ lw_all := lw_g (lw_at lw_m6 165 rfl) rfl
theorem q1429 : (Jvm.Cond.code ({ cls := "MustardMill$Wish", name := "<init>", desc := "(III)V" } : Jvm.MethodName) prog_16_method_1_code (4 : Nat) (Option.none : Option Jvm.ClassFile.FieldType)) ∈ lw_all := lw_g (lw_at lw_m6 166 rfl) rfl
theorem q1430 : (Jvm.Cond.methodLink "MustardMill$Wish" (3 : Nat) ({ cls := "MustardMill$Thing", name := "<init>", desc := "(I)V" } : Jvm.MethodName)) ∈ lw_all := lw_g (lw_at lw_m6 167 rfl) rfl
theorem q1431 : (Jvm.Cond.fieldLink "MustardMill$Wish" (15 : Nat) "MustardMill$Wish" "least" "I") ∈ lw_all := lw_g (lw_at lw_m6 168 rfl) rfl
theorem q1433 : (Jvm.Cond.fieldLink "MustardMill$Wish" (18 : Nat) "MustardMill$Wish" "most" "I") ∈ lw_all := lw_g (lw_at lw_m6 170 rfl) rfl
theorem q1435 : (Jvm.Cond.fieldLink "MustardMill$Wish" (9 : Nat) "MustardMill$Wish" "jar" "I") ∈ lw_all := lw_g (lw_at lw_m6 172 rfl) rfl
theorem q1438 : (Jvm.Cond.laysFinal "MustardMill$Wish" "MustardMill$Wish" "least" "I") ∈ lw_all := lw_g (lw_at lw_m6 175 rfl) rfl
theorem q1439 : (Jvm.Cond.soleField "MustardMill$Wish" "least") ∈ lw_all := lw_g (lw_at lw_m6 176 rfl) rfl
theorem q1440 : (Jvm.Cond.laysFinal "MustardMill$Wish" "MustardMill$Wish" "most" "I") ∈ lw_all := lw_g (lw_at lw_m6 177 rfl) rfl
theorem q1441 : (Jvm.Cond.soleField "MustardMill$Wish" "most") ∈ lw_all := lw_g (lw_at lw_m6 178 rfl) rfl
theorem q1442 : (Jvm.Cond.lays "MustardMill$Wish" "MustardMill$Wish" "jar" "I") ∈ lw_all := lw_g (lw_at lw_m6 179 rfl) rfl
theorem q1443 : (Jvm.Cond.soleField "MustardMill$Wish" "jar") ∈ lw_all := lw_g (lw_at lw_m6 180 rfl) rfl
theorem q1444 : (Jvm.Cond.laysFinal "MustardMill$Wish" "MustardMill$Thing" "number" "I") ∈ lw_all := lw_g (lw_at lw_m6 181 rfl) rfl
theorem q1445 : (Jvm.Cond.lays "MustardMill$Wish" "MustardMill$Thing" "state" "I") ∈ lw_all := lw_g (lw_at lw_m6 182 rfl) rfl
theorem q1744 : (Jvm.Cond.sameMethod "MustardMill$Wish" "MustardMill$Thing" "state" "()I") ∈ lw_all := lw_g (lw_at lw_m8 1 rfl) rfl
theorem q1745 : (Jvm.Cond.selects "MustardMill$Wish" ({ cls := "MustardMill$Wish", name := "state", desc := "()I" } : Jvm.MethodName) ({ cls := "MustardMill$Thing", name := "state", desc := "()I" } : Jvm.MethodName)) ∈ lw_all := lw_g (lw_at lw_m8 2 rfl) rfl
theorem q2513 : (Jvm.Cond.selects "MustardMill$Wish" ({ cls := "MustardMill$Thing", name := "number", desc := "()I" } : Jvm.MethodName) ({ cls := "MustardMill$Thing", name := "number", desc := "()I" } : Jvm.MethodName)) ∈ lw_all := lw_g (lw_at lw_m11 50 rfl) rfl
theorem q2520 : (Jvm.Cond.castable "MustardMill$Wish" "MustardMill$Thing") ∈ lw_tbl := lw_at lw_m11 57 rfl
theorem q2524 : (Jvm.Cond.castable "MustardMill$Wish" "java/lang/Cloneable") ∈ lw_tbl := lw_at lw_m11 61 rfl
theorem q2553 : (Jvm.Cond.castable "MustardMill$Wish" "java/lang/Object") ∈ lw_tbl := lw_at lw_m11 90 rfl
theorem in_X14 : ∀ w ∈ wsX140, w ∈ lw_all := lw_in wsX140 [1444, 1445, 1438, 1440, 1442] (by decide +kernel) (by decide +kernel)
/-! MustardMill$Ranked -/
set_option maxRecDepth 100000
def RX15 : String := "MustardMill$Ranked"
abbrev cX15_at : ByteArray := prog_10_method_2_code
def yX15_at : MethodName := ⟨RX15, "at", "(ILjava/util/ArrayList;)LMustardMill$Ranked;"⟩
def dkwX15_at_3 : List UInt8 := [167, 0, 4, 3, 96, 54, 4, 167, 255, 213, 21, 4, 26, 160, 0, 5, 45, 176, 167, 255, 174, 1, 176]
abbrev dktX15_at_3 : List UInt8 := dkwX15_at_3 ++ []
def dkwX15_at_2 : List UInt8 := [185, 0, 13, 1, 0, 192, 0, 17, 58, 6, 21, 4, 25, 6, 45, 185, 0, 19, 2, 0, 153, 0, 7, 4]
abbrev dktX15_at_2 : List UInt8 := dkwX15_at_2 ++ dktX15_at_3
def dkwX15_at_1 : List UInt8 := [3, 54, 4, 43, 182, 0, 1, 58, 5, 25, 5, 185, 0, 7, 1, 0, 153, 0, 39, 25, 5]
abbrev dktX15_at_1 : List UInt8 := dkwX15_at_1 ++ dktX15_at_2
def dkwX15_at_0 : List UInt8 := [43, 182, 0, 1, 77, 44, 185, 0, 7, 1, 0, 153, 0, 79, 44, 185, 0, 13, 1, 0, 192, 0, 17, 78]
abbrev dktX15_at_0 : List UInt8 := dkwX15_at_0 ++ dktX15_at_1
theorem dksX15_at_0 : cX15_at.data.toList.drop 0 = dktX15_at_0 := by decide +kernel
theorem dksX15_at_1 : cX15_at.data.toList.drop 24 = dktX15_at_1 := dk_seg dksX15_at_0 24 rfl rfl
theorem dksX15_at_2 : cX15_at.data.toList.drop 45 = dktX15_at_2 := dk_seg dksX15_at_1 21 rfl rfl
theorem dksX15_at_3 : cX15_at.data.toList.drop 69 = dktX15_at_3 := dk_seg dksX15_at_2 24 rfl rfl
theorem dX15_at_0 : decode cX15_at 0 = .ok (.aload_n 1, 1) := dk_43 (dk_at dksX15_at_0 0 rfl rfl)
theorem dX15_at_1 : decode cX15_at 1 = .ok (.invokevirtual 1, 3) := dk_182 0 1 (dk_at dksX15_at_0 1 rfl rfl)
theorem dX15_at_4 : decode cX15_at 4 = .ok (.astore_n 2, 1) := dk_77 (dk_at dksX15_at_0 4 rfl rfl)
theorem dX15_at_5 : decode cX15_at 5 = .ok (.aload_n 2, 1) := dk_44 (dk_at dksX15_at_0 5 rfl rfl)
theorem dX15_at_6 : decode cX15_at 6 = .ok (.invokeinterface 7 1, 5) := by decide +kernel
theorem dX15_at_11 : decode cX15_at 11 = .ok (.ifCond .eq 79, 3) := dk_153 0 79 (dk_at dksX15_at_0 11 rfl rfl)
theorem dX15_at_14 : decode cX15_at 14 = .ok (.aload_n 2, 1) := dk_44 (dk_at dksX15_at_0 14 rfl rfl)
theorem dX15_at_15 : decode cX15_at 15 = .ok (.invokeinterface 13 1, 5) := by decide +kernel
theorem dX15_at_20 : decode cX15_at 20 = .ok (.checkcast 17, 3) := dk_192 0 17 (dk_at dksX15_at_0 20 rfl rfl)
theorem dX15_at_23 : decode cX15_at 23 = .ok (.astore_n 3, 1) := dk_78 (dk_at dksX15_at_0 23 rfl rfl)
theorem dX15_at_24 : decode cX15_at 24 = .ok (.iconst 0, 1) := dk_3 (dk_at dksX15_at_1 0 rfl rfl)
theorem dX15_at_25 : decode cX15_at 25 = .ok (.istore 4, 2) := dk_54 4 (dk_at dksX15_at_1 1 rfl rfl)
theorem dX15_at_27 : decode cX15_at 27 = .ok (.aload_n 1, 1) := dk_43 (dk_at dksX15_at_1 3 rfl rfl)
theorem dX15_at_28 : decode cX15_at 28 = .ok (.invokevirtual 1, 3) := dk_182 0 1 (dk_at dksX15_at_1 4 rfl rfl)
theorem dX15_at_31 : decode cX15_at 31 = .ok (.astore 5, 2) := dk_58 5 (dk_at dksX15_at_1 7 rfl rfl)
theorem dX15_at_33 : decode cX15_at 33 = .ok (.aload 5, 2) := dk_25 5 (dk_at dksX15_at_1 9 rfl rfl)
theorem dX15_at_35 : decode cX15_at 35 = .ok (.invokeinterface 7 1, 5) := by decide +kernel
theorem dX15_at_40 : decode cX15_at 40 = .ok (.ifCond .eq 39, 3) := dk_153 0 39 (dk_at dksX15_at_1 16 rfl rfl)
theorem dX15_at_43 : decode cX15_at 43 = .ok (.aload 5, 2) := dk_25 5 (dk_at dksX15_at_1 19 rfl rfl)
theorem dX15_at_45 : decode cX15_at 45 = .ok (.invokeinterface 13 1, 5) := by decide +kernel
theorem dX15_at_50 : decode cX15_at 50 = .ok (.checkcast 17, 3) := dk_192 0 17 (dk_at dksX15_at_2 5 rfl rfl)
theorem dX15_at_53 : decode cX15_at 53 = .ok (.astore 6, 2) := dk_58 6 (dk_at dksX15_at_2 8 rfl rfl)
theorem dX15_at_55 : decode cX15_at 55 = .ok (.iload 4, 2) := dk_21 4 (dk_at dksX15_at_2 10 rfl rfl)
theorem dX15_at_57 : decode cX15_at 57 = .ok (.aload 6, 2) := dk_25 6 (dk_at dksX15_at_2 12 rfl rfl)
theorem dX15_at_59 : decode cX15_at 59 = .ok (.aload_n 3, 1) := dk_45 (dk_at dksX15_at_2 14 rfl rfl)
theorem dX15_at_60 : decode cX15_at 60 = .ok (.invokeinterface 19 2, 5) := by decide +kernel
theorem dX15_at_65 : decode cX15_at 65 = .ok (.ifCond .eq 7, 3) := dk_153 0 7 (dk_at dksX15_at_2 20 rfl rfl)
theorem dX15_at_68 : decode cX15_at 68 = .ok (.iconst 1, 1) := dk_4 (dk_at dksX15_at_2 23 rfl rfl)
theorem dX15_at_69 : decode cX15_at 69 = .ok (.goto 4, 3) := dk_167 0 4 (dk_at dksX15_at_3 0 rfl rfl)
theorem dX15_at_72 : decode cX15_at 72 = .ok (.iconst 0, 1) := dk_3 (dk_at dksX15_at_3 3 rfl rfl)
theorem dX15_at_73 : decode cX15_at 73 = .ok (.iadd, 1) := dk_96 (dk_at dksX15_at_3 4 rfl rfl)
theorem dX15_at_74 : decode cX15_at 74 = .ok (.istore 4, 2) := dk_54 4 (dk_at dksX15_at_3 5 rfl rfl)
theorem dX15_at_76 : decode cX15_at 76 = .ok (.goto (-43), 3) := dk_167 255 213 (dk_at dksX15_at_3 7 rfl rfl)
theorem dX15_at_79 : decode cX15_at 79 = .ok (.iload 4, 2) := dk_21 4 (dk_at dksX15_at_3 10 rfl rfl)
theorem dX15_at_81 : decode cX15_at 81 = .ok (.iload_n 0, 1) := dk_26 (dk_at dksX15_at_3 12 rfl rfl)
theorem dX15_at_82 : decode cX15_at 82 = .ok (.if_icmp .ne 5, 3) := dk_160 0 5 (dk_at dksX15_at_3 13 rfl rfl)
theorem dX15_at_85 : decode cX15_at 85 = .ok (.aload_n 3, 1) := dk_45 (dk_at dksX15_at_3 16 rfl rfl)
theorem dX15_at_86 : decode cX15_at 86 = .ok (.areturn, 1) := dk_176 (dk_at dksX15_at_3 17 rfl rfl)
theorem dX15_at_87 : decode cX15_at 87 = .ok (.goto (-82), 3) := dk_167 255 174 (dk_at dksX15_at_3 18 rfl rfl)
theorem dX15_at_90 : decode cX15_at 90 = .ok (.aconst_null, 1) := dk_1 (dk_at dksX15_at_3 21 rfl rfl)
theorem dX15_at_91 : decode cX15_at 91 = .ok (.areturn, 1) := dk_176 (dk_at dksX15_at_3 22 rfl rfl)
theorem q107 : (Jvm.Cond.initialized "MustardMill$Ranked") ∈ lw_all := lw_g (lw_at lw_m1 44 rfl) rfl
theorem q1686 : (Jvm.Cond.static ({ cls := "MustardMill$Ranked", name := "at", desc := "(ILjava/util/ArrayList;)LMustardMill$Ranked;" } : Jvm.MethodName)) ∈ lw_all := lw_g (lw_at lw_m7 183 rfl) rfl
theorem q1687 : (Jvm.Cond.code ({ cls := "MustardMill$Ranked", name := "at", desc := "(ILjava/util/ArrayList;)LMustardMill$Ranked;" } : Jvm.MethodName) prog_10_method_2_code (7 : Nat) (Option.some (Jvm.ClassFile.FieldType.object "MustardMill$Ranked"))) ∈ lw_all := lw_g (lw_at lw_m7 184 rfl) rfl
theorem q1688 : (Jvm.Cond.methodLink "MustardMill$Ranked" (1 : Nat) ({ cls := "java/util/ArrayList", name := "iterator", desc := "()Ljava/util/Iterator;" } : Jvm.MethodName)) ∈ lw_all := lw_g (lw_at lw_m7 185 rfl) rfl
theorem q1689 : (Jvm.Cond.interfaceEntry "MustardMill$Ranked" (7 : Nat)) ∈ lw_tbl := lw_at lw_m7 186 rfl
theorem q1690 : (Jvm.Cond.methodLink "MustardMill$Ranked" (7 : Nat) ({ cls := "java/util/Iterator", name := "hasNext", desc := "()Z" } : Jvm.MethodName)) ∈ lw_all := lw_g (lw_at lw_m7 187 rfl) rfl
theorem q1691 : (Jvm.Cond.interfaceEntry "MustardMill$Ranked" (13 : Nat)) ∈ lw_tbl := lw_at lw_m7 188 rfl
theorem q1692 : (Jvm.Cond.methodLink "MustardMill$Ranked" (13 : Nat) ({ cls := "java/util/Iterator", name := "next", desc := "()Ljava/lang/Object;" } : Jvm.MethodName)) ∈ lw_all := lw_g (lw_at lw_m7 189 rfl) rfl
theorem q1693 : (Jvm.Cond.classLink "MustardMill$Ranked" (17 : Nat) "MustardMill$Ranked") ∈ lw_all := lw_g (lw_at lw_m7 190 rfl) rfl
theorem q1694 : (Jvm.Cond.interfaceEntry "MustardMill$Ranked" (19 : Nat)) ∈ lw_tbl := lw_at lw_m7 191 rfl
theorem q1695 : (Jvm.Cond.methodLink "MustardMill$Ranked" (19 : Nat) ({ cls := "MustardMill$Ranked", name := "isAheadOf", desc := "(Ljava/lang/Object;)Z" } : Jvm.MethodName)) ∈ lw_all := lw_g (lw_at lw_m7 192 rfl) rfl
theorem q1696 : (Jvm.Cond.interfaceMethod "MustardMill$Ranked" "MustardMill$Ranked" "isAheadOf" "(Ljava/lang/Object;)Z") ∈ lw_tbl := lw_at lw_m7 193 rfl
theorem q1697 : (Jvm.Cond.declares ({ cls := "MustardMill$Ranked", name := "isAheadOf", desc := "(Ljava/lang/Object;)Z" } : Jvm.MethodName)) ∈ lw_tbl := lw_at lw_m7 194 rfl
/-! MustardMill$Parser -/
set_option maxRecDepth 100000
def RX16 : String := "MustardMill$Parser"
def TX16 : u_T := fun k => match k with
  | 0 => ("MustardMill$Parser", "words", "[Ljava/lang/String;", true)
  | 1 => ("MustardMill$Parser", "text", "Ljava/lang/CharSequence;", true)
  | _ => ("MustardMill$Parser", "position", "I", false)
def tyX16 : Nat → FieldType := fun k => match k with
  | 0 => .array (.object "java/lang/String")
  | 1 => .object "java/lang/CharSequence"
  | _ => .int
abbrev wsX160 : List Cond := u_ws RX16 TX16 3
theorem nmX16 : ∀ a, a < 3 → ∀ b, b < 3 → a ≠ b → (TX16 a).2.1 ≠ (TX16 b).2.1 := by decide +kernel
theorem tyX16_ok : ∀ k, k < 3 → parseFieldDescriptor (TX16 k).2.2.1 = some (tyX16 k) := by decide +kernel
abbrev cX16_init : ByteArray := prog_8_method_1_code
def yX16_init : MethodName := ⟨RX16, "<init>", "(Ljava/lang/CharSequence;)V"⟩
def dkwX16_init_2 : List UInt8 := [16, 7, 18, 23, 83, 181, 0, 25, 42, 43, 181, 0, 31, 177]
abbrev dktX16_init_2 : List UInt8 := dkwX16_init_2 ++ []
def dkwX16_init_1 : List UInt8 := [83, 89, 6, 18, 15, 83, 89, 7, 18, 17, 83, 89, 8, 18, 19, 83, 89, 16, 6, 18, 21, 83, 89]
abbrev dktX16_init_1 : List UInt8 := dkwX16_init_1 ++ dktX16_init_2
def dkwX16_init_0 : List UInt8 := [42, 183, 0, 1, 42, 16, 8, 189, 0, 7, 89, 3, 18, 9, 83, 89, 4, 18, 11, 83, 89, 5, 18, 13]
abbrev dktX16_init_0 : List UInt8 := dkwX16_init_0 ++ dktX16_init_1
theorem dksX16_init_0 : cX16_init.data.toList.drop 0 = dktX16_init_0 := by decide +kernel
theorem dksX16_init_1 : cX16_init.data.toList.drop 24 = dktX16_init_1 := dk_seg dksX16_init_0 24 rfl rfl
theorem dksX16_init_2 : cX16_init.data.toList.drop 47 = dktX16_init_2 := dk_seg dksX16_init_1 23 rfl rfl
theorem dX16_init_0 : decode cX16_init 0 = .ok (.aload_n 0, 1) := dk_42 (dk_at dksX16_init_0 0 rfl rfl)
theorem dX16_init_1 : decode cX16_init 1 = .ok (.invokespecial 1, 3) := dk_183 0 1 (dk_at dksX16_init_0 1 rfl rfl)
theorem dX16_init_4 : decode cX16_init 4 = .ok (.aload_n 0, 1) := dk_42 (dk_at dksX16_init_0 4 rfl rfl)
theorem dX16_init_5 : decode cX16_init 5 = .ok (.bipush 8, 2) := dk_16 8 (dk_at dksX16_init_0 5 rfl rfl)
theorem dX16_init_7 : decode cX16_init 7 = .ok (.anewarray 7, 3) := dk_189 0 7 (dk_at dksX16_init_0 7 rfl rfl)
theorem dX16_init_10 : decode cX16_init 10 = .ok (.dup, 1) := dk_89 (dk_at dksX16_init_0 10 rfl rfl)
theorem dX16_init_11 : decode cX16_init 11 = .ok (.iconst 0, 1) := dk_3 (dk_at dksX16_init_0 11 rfl rfl)
theorem dX16_init_12 : decode cX16_init 12 = .ok (.ldc 9, 2) := dk_18 9 (dk_at dksX16_init_0 12 rfl rfl)
theorem dX16_init_14 : decode cX16_init 14 = .ok (.aastore, 1) := dk_83 (dk_at dksX16_init_0 14 rfl rfl)
theorem dX16_init_15 : decode cX16_init 15 = .ok (.dup, 1) := dk_89 (dk_at dksX16_init_0 15 rfl rfl)
theorem dX16_init_16 : decode cX16_init 16 = .ok (.iconst 1, 1) := dk_4 (dk_at dksX16_init_0 16 rfl rfl)
theorem dX16_init_17 : decode cX16_init 17 = .ok (.ldc 11, 2) := dk_18 11 (dk_at dksX16_init_0 17 rfl rfl)
theorem dX16_init_19 : decode cX16_init 19 = .ok (.aastore, 1) := dk_83 (dk_at dksX16_init_0 19 rfl rfl)
theorem dX16_init_20 : decode cX16_init 20 = .ok (.dup, 1) := dk_89 (dk_at dksX16_init_0 20 rfl rfl)
theorem dX16_init_21 : decode cX16_init 21 = .ok (.iconst 2, 1) := dk_5 (dk_at dksX16_init_0 21 rfl rfl)
theorem dX16_init_22 : decode cX16_init 22 = .ok (.ldc 13, 2) := dk_18 13 (dk_at dksX16_init_0 22 rfl rfl)
theorem dX16_init_24 : decode cX16_init 24 = .ok (.aastore, 1) := dk_83 (dk_at dksX16_init_1 0 rfl rfl)
theorem dX16_init_25 : decode cX16_init 25 = .ok (.dup, 1) := dk_89 (dk_at dksX16_init_1 1 rfl rfl)
theorem dX16_init_26 : decode cX16_init 26 = .ok (.iconst 3, 1) := dk_6 (dk_at dksX16_init_1 2 rfl rfl)
theorem dX16_init_27 : decode cX16_init 27 = .ok (.ldc 15, 2) := dk_18 15 (dk_at dksX16_init_1 3 rfl rfl)
theorem dX16_init_29 : decode cX16_init 29 = .ok (.aastore, 1) := dk_83 (dk_at dksX16_init_1 5 rfl rfl)
theorem dX16_init_30 : decode cX16_init 30 = .ok (.dup, 1) := dk_89 (dk_at dksX16_init_1 6 rfl rfl)
theorem dX16_init_31 : decode cX16_init 31 = .ok (.iconst 4, 1) := dk_7 (dk_at dksX16_init_1 7 rfl rfl)
theorem dX16_init_32 : decode cX16_init 32 = .ok (.ldc 17, 2) := dk_18 17 (dk_at dksX16_init_1 8 rfl rfl)
theorem dX16_init_34 : decode cX16_init 34 = .ok (.aastore, 1) := dk_83 (dk_at dksX16_init_1 10 rfl rfl)
theorem dX16_init_35 : decode cX16_init 35 = .ok (.dup, 1) := dk_89 (dk_at dksX16_init_1 11 rfl rfl)
theorem dX16_init_36 : decode cX16_init 36 = .ok (.iconst 5, 1) := dk_8 (dk_at dksX16_init_1 12 rfl rfl)
theorem dX16_init_37 : decode cX16_init 37 = .ok (.ldc 19, 2) := dk_18 19 (dk_at dksX16_init_1 13 rfl rfl)
theorem dX16_init_39 : decode cX16_init 39 = .ok (.aastore, 1) := dk_83 (dk_at dksX16_init_1 15 rfl rfl)
theorem dX16_init_40 : decode cX16_init 40 = .ok (.dup, 1) := dk_89 (dk_at dksX16_init_1 16 rfl rfl)
theorem dX16_init_41 : decode cX16_init 41 = .ok (.bipush 6, 2) := dk_16 6 (dk_at dksX16_init_1 17 rfl rfl)
theorem dX16_init_43 : decode cX16_init 43 = .ok (.ldc 21, 2) := dk_18 21 (dk_at dksX16_init_1 19 rfl rfl)
theorem dX16_init_45 : decode cX16_init 45 = .ok (.aastore, 1) := dk_83 (dk_at dksX16_init_1 21 rfl rfl)
theorem dX16_init_46 : decode cX16_init 46 = .ok (.dup, 1) := dk_89 (dk_at dksX16_init_1 22 rfl rfl)
theorem dX16_init_47 : decode cX16_init 47 = .ok (.bipush 7, 2) := dk_16 7 (dk_at dksX16_init_2 0 rfl rfl)
theorem dX16_init_49 : decode cX16_init 49 = .ok (.ldc 23, 2) := dk_18 23 (dk_at dksX16_init_2 2 rfl rfl)
theorem dX16_init_51 : decode cX16_init 51 = .ok (.aastore, 1) := dk_83 (dk_at dksX16_init_2 4 rfl rfl)
theorem dX16_init_52 : decode cX16_init 52 = .ok (.putfield 25, 3) := dk_181 0 25 (dk_at dksX16_init_2 5 rfl rfl)
theorem dX16_init_55 : decode cX16_init 55 = .ok (.aload_n 0, 1) := dk_42 (dk_at dksX16_init_2 8 rfl rfl)
theorem dX16_init_56 : decode cX16_init 56 = .ok (.aload_n 1, 1) := dk_43 (dk_at dksX16_init_2 9 rfl rfl)
theorem dX16_init_57 : decode cX16_init 57 = .ok (.putfield 31, 3) := dk_181 0 31 (dk_at dksX16_init_2 10 rfl rfl)
theorem dX16_init_60 : decode cX16_init 60 = .ok (.return_, 1) := dk_177 (dk_at dksX16_init_2 13 rfl rfl)
abbrev cX16_orders : ByteArray := prog_8_method_8_code
def yX16_orders : MethodName := ⟨RX16, "orders", "()Ljava/util/ArrayList;"⟩
def dkwX16_orders_2 : List UInt8 := [182, 0, 101, 182, 0, 105, 61, 167, 255, 222, 43, 176]
abbrev dktX16_orders_2 : List UInt8 := dkwX16_orders_2 ++ []
def dkwX16_orders_1 : List UInt8 := [180, 0, 31, 185, 0, 35, 1, 0, 162, 0, 24, 42, 16, 59, 16, 59, 182, 0, 76, 62, 43, 42]
abbrev dktX16_orders_1 : List UInt8 := dkwX16_orders_1 ++ dktX16_orders_2
def dkwX16_orders_0 : List UInt8 := [187, 0, 98, 89, 183, 0, 100, 76, 43, 42, 182, 0, 101, 182, 0, 105, 61, 42, 180, 0, 45, 42]
abbrev dktX16_orders_0 : List UInt8 := dkwX16_orders_0 ++ dktX16_orders_1
theorem dksX16_orders_0 : cX16_orders.data.toList.drop 0 = dktX16_orders_0 := by decide +kernel
theorem dksX16_orders_1 : cX16_orders.data.toList.drop 22 = dktX16_orders_1 := dk_seg dksX16_orders_0 22 rfl rfl
theorem dksX16_orders_2 : cX16_orders.data.toList.drop 44 = dktX16_orders_2 := dk_seg dksX16_orders_1 22 rfl rfl
theorem dX16_orders_0 : decode cX16_orders 0 = .ok (.new 98, 3) := dk_187 0 98 (dk_at dksX16_orders_0 0 rfl rfl)
theorem dX16_orders_3 : decode cX16_orders 3 = .ok (.dup, 1) := dk_89 (dk_at dksX16_orders_0 3 rfl rfl)
theorem dX16_orders_4 : decode cX16_orders 4 = .ok (.invokespecial 100, 3) := dk_183 0 100 (dk_at dksX16_orders_0 4 rfl rfl)
theorem dX16_orders_7 : decode cX16_orders 7 = .ok (.astore_n 1, 1) := dk_76 (dk_at dksX16_orders_0 7 rfl rfl)
theorem dX16_orders_8 : decode cX16_orders 8 = .ok (.aload_n 1, 1) := dk_43 (dk_at dksX16_orders_0 8 rfl rfl)
theorem dX16_orders_9 : decode cX16_orders 9 = .ok (.aload_n 0, 1) := dk_42 (dk_at dksX16_orders_0 9 rfl rfl)
theorem dX16_orders_10 : decode cX16_orders 10 = .ok (.invokevirtual 101, 3) := dk_182 0 101 (dk_at dksX16_orders_0 10 rfl rfl)
theorem dX16_orders_13 : decode cX16_orders 13 = .ok (.invokevirtual 105, 3) := dk_182 0 105 (dk_at dksX16_orders_0 13 rfl rfl)
theorem dX16_orders_16 : decode cX16_orders 16 = .ok (.istore_n 2, 1) := dk_61 (dk_at dksX16_orders_0 16 rfl rfl)
theorem dX16_orders_17 : decode cX16_orders 17 = .ok (.aload_n 0, 1) := dk_42 (dk_at dksX16_orders_0 17 rfl rfl)
theorem dX16_orders_18 : decode cX16_orders 18 = .ok (.getfield 45, 3) := dk_180 0 45 (dk_at dksX16_orders_0 18 rfl rfl)
theorem dX16_orders_21 : decode cX16_orders 21 = .ok (.aload_n 0, 1) := dk_42 (dk_at dksX16_orders_0 21 rfl rfl)
theorem dX16_orders_22 : decode cX16_orders 22 = .ok (.getfield 31, 3) := dk_180 0 31 (dk_at dksX16_orders_1 0 rfl rfl)
theorem dX16_orders_25 : decode cX16_orders 25 = .ok (.invokeinterface 35 1, 5) := by decide +kernel
theorem dX16_orders_30 : decode cX16_orders 30 = .ok (.if_icmp .ge 24, 3) := dk_162 0 24 (dk_at dksX16_orders_1 8 rfl rfl)
theorem dX16_orders_33 : decode cX16_orders 33 = .ok (.aload_n 0, 1) := dk_42 (dk_at dksX16_orders_1 11 rfl rfl)
theorem dX16_orders_34 : decode cX16_orders 34 = .ok (.bipush 59, 2) := dk_16 59 (dk_at dksX16_orders_1 12 rfl rfl)
theorem dX16_orders_36 : decode cX16_orders 36 = .ok (.bipush 59, 2) := dk_16 59 (dk_at dksX16_orders_1 14 rfl rfl)
theorem dX16_orders_38 : decode cX16_orders 38 = .ok (.invokevirtual 76, 3) := dk_182 0 76 (dk_at dksX16_orders_1 16 rfl rfl)
theorem dX16_orders_41 : decode cX16_orders 41 = .ok (.istore_n 3, 1) := dk_62 (dk_at dksX16_orders_1 19 rfl rfl)
theorem dX16_orders_42 : decode cX16_orders 42 = .ok (.aload_n 1, 1) := dk_43 (dk_at dksX16_orders_1 20 rfl rfl)
theorem dX16_orders_43 : decode cX16_orders 43 = .ok (.aload_n 0, 1) := dk_42 (dk_at dksX16_orders_1 21 rfl rfl)
theorem dX16_orders_44 : decode cX16_orders 44 = .ok (.invokevirtual 101, 3) := dk_182 0 101 (dk_at dksX16_orders_2 0 rfl rfl)
theorem dX16_orders_47 : decode cX16_orders 47 = .ok (.invokevirtual 105, 3) := dk_182 0 105 (dk_at dksX16_orders_2 3 rfl rfl)
theorem dX16_orders_50 : decode cX16_orders 50 = .ok (.istore_n 2, 1) := dk_61 (dk_at dksX16_orders_2 6 rfl rfl)
theorem dX16_orders_51 : decode cX16_orders 51 = .ok (.goto (-34), 3) := dk_167 255 222 (dk_at dksX16_orders_2 7 rfl rfl)
theorem dX16_orders_54 : decode cX16_orders 54 = .ok (.aload_n 1, 1) := dk_43 (dk_at dksX16_orders_2 10 rfl rfl)
theorem dX16_orders_55 : decode cX16_orders 55 = .ok (.areturn, 1) := dk_176 (dk_at dksX16_orders_2 11 rfl rfl)
abbrev cX16_order : ByteArray := prog_8_method_7_code
def yX16_order : MethodName := ⟨RX16, "order", "()LMustardMill$Change;"⟩
def dkwX16_order_1 : List UInt8 := [182, 0, 92, 79, 132, 3, 1, 167, 255, 240, 187, 0, 88, 89, 43, 44, 183, 0, 95, 176]
abbrev dktX16_order_1 : List UInt8 := dkwX16_order_1 ++ []
def dkwX16_order_0 : List UInt8 := [42, 182, 0, 83, 76, 43, 184, 0, 87, 188, 10, 77, 3, 62, 29, 44, 190, 162, 0, 16, 44, 29, 42]
abbrev dktX16_order_0 : List UInt8 := dkwX16_order_0 ++ dktX16_order_1
theorem dksX16_order_0 : cX16_order.data.toList.drop 0 = dktX16_order_0 := by decide +kernel
theorem dksX16_order_1 : cX16_order.data.toList.drop 23 = dktX16_order_1 := dk_seg dksX16_order_0 23 rfl rfl
theorem dX16_order_0 : decode cX16_order 0 = .ok (.aload_n 0, 1) := dk_42 (dk_at dksX16_order_0 0 rfl rfl)
theorem dX16_order_1 : decode cX16_order 1 = .ok (.invokevirtual 83, 3) := dk_182 0 83 (dk_at dksX16_order_0 1 rfl rfl)
theorem dX16_order_4 : decode cX16_order 4 = .ok (.astore_n 1, 1) := dk_76 (dk_at dksX16_order_0 4 rfl rfl)
theorem dX16_order_5 : decode cX16_order 5 = .ok (.aload_n 1, 1) := dk_43 (dk_at dksX16_order_0 5 rfl rfl)
theorem dX16_order_6 : decode cX16_order 6 = .ok (.invokestatic 87, 3) := dk_184 0 87 (dk_at dksX16_order_0 6 rfl rfl)
theorem dX16_order_9 : decode cX16_order 9 = .ok (.newarray .int, 2) := dk_188_10 (dk_at dksX16_order_0 9 rfl rfl)
theorem dX16_order_11 : decode cX16_order 11 = .ok (.astore_n 2, 1) := dk_77 (dk_at dksX16_order_0 11 rfl rfl)
theorem dX16_order_12 : decode cX16_order 12 = .ok (.iconst 0, 1) := dk_3 (dk_at dksX16_order_0 12 rfl rfl)
theorem dX16_order_13 : decode cX16_order 13 = .ok (.istore_n 3, 1) := dk_62 (dk_at dksX16_order_0 13 rfl rfl)
theorem dX16_order_14 : decode cX16_order 14 = .ok (.iload_n 3, 1) := dk_29 (dk_at dksX16_order_0 14 rfl rfl)
theorem dX16_order_15 : decode cX16_order 15 = .ok (.aload_n 2, 1) := dk_44 (dk_at dksX16_order_0 15 rfl rfl)
theorem dX16_order_16 : decode cX16_order 16 = .ok (.arraylength, 1) := dk_190 (dk_at dksX16_order_0 16 rfl rfl)
theorem dX16_order_17 : decode cX16_order 17 = .ok (.if_icmp .ge 16, 3) := dk_162 0 16 (dk_at dksX16_order_0 17 rfl rfl)
theorem dX16_order_20 : decode cX16_order 20 = .ok (.aload_n 2, 1) := dk_44 (dk_at dksX16_order_0 20 rfl rfl)
theorem dX16_order_21 : decode cX16_order 21 = .ok (.iload_n 3, 1) := dk_29 (dk_at dksX16_order_0 21 rfl rfl)
theorem dX16_order_22 : decode cX16_order 22 = .ok (.aload_n 0, 1) := dk_42 (dk_at dksX16_order_0 22 rfl rfl)
theorem dX16_order_23 : decode cX16_order 23 = .ok (.invokevirtual 92, 3) := dk_182 0 92 (dk_at dksX16_order_1 0 rfl rfl)
theorem dX16_order_26 : decode cX16_order 26 = .ok (.iastore, 1) := dk_79 (dk_at dksX16_order_1 3 rfl rfl)
theorem dX16_order_27 : decode cX16_order 27 = .ok (.iinc 3 1, 3) := dk_132 3 1 (dk_at dksX16_order_1 4 rfl rfl)
theorem dX16_order_30 : decode cX16_order 30 = .ok (.goto (-16), 3) := dk_167 255 240 (dk_at dksX16_order_1 7 rfl rfl)
theorem dX16_order_33 : decode cX16_order 33 = .ok (.new 88, 3) := dk_187 0 88 (dk_at dksX16_order_1 10 rfl rfl)
theorem dX16_order_36 : decode cX16_order 36 = .ok (.dup, 1) := dk_89 (dk_at dksX16_order_1 13 rfl rfl)
theorem dX16_order_37 : decode cX16_order 37 = .ok (.aload_n 1, 1) := dk_43 (dk_at dksX16_order_1 14 rfl rfl)
theorem dX16_order_38 : decode cX16_order 38 = .ok (.aload_n 2, 1) := dk_44 (dk_at dksX16_order_1 15 rfl rfl)
theorem dX16_order_39 : decode cX16_order 39 = .ok (.invokespecial 95, 3) := dk_183 0 95 (dk_at dksX16_order_1 16 rfl rfl)
theorem dX16_order_42 : decode cX16_order 42 = .ok (.areturn, 1) := dk_176 (dk_at dksX16_order_1 19 rfl rfl)
abbrev cX16_word : ByteArray := prog_8_method_5_code
def yX16_word : MethodName := ⟨RX16, "word", "()Ljava/lang/String;"⟩
def dkwX16_word_3 : List UInt8 := [167, 255, 202, 187, 0, 55, 89, 42, 180, 0, 45, 27, 96, 183, 0, 57, 191]
abbrev dktX16_word_3 : List UInt8 := dkwX16_word_3 ++ []
def dkwX16_word_2 : List UInt8 := [180, 0, 45, 21, 6, 96, 181, 0, 45, 25, 5, 176, 27, 21, 6, 184, 0, 70, 60, 132, 4, 1]
abbrev dktX16_word_2 : List UInt8 := dkwX16_word_2 ++ dktX16_word_3
def dkwX16_word_1 : List UInt8 := [58, 5, 42, 25, 5, 182, 0, 66, 54, 6, 21, 6, 25, 5, 182, 0, 60, 160, 0, 17, 42, 89]
abbrev dktX16_word_1 : List UInt8 := dkwX16_word_1 ++ dktX16_word_2
def dkwX16_word_0 : List UInt8 := [3, 60, 42, 180, 0, 25, 77, 44, 190, 62, 3, 54, 4, 21, 4, 29, 162, 0, 54, 44, 21, 4, 50]
abbrev dktX16_word_0 : List UInt8 := dkwX16_word_0 ++ dktX16_word_1
theorem dksX16_word_0 : cX16_word.data.toList.drop 0 = dktX16_word_0 := by decide +kernel
theorem dksX16_word_1 : cX16_word.data.toList.drop 23 = dktX16_word_1 := dk_seg dksX16_word_0 23 rfl rfl
theorem dksX16_word_2 : cX16_word.data.toList.drop 45 = dktX16_word_2 := dk_seg dksX16_word_1 22 rfl rfl
theorem dksX16_word_3 : cX16_word.data.toList.drop 67 = dktX16_word_3 := dk_seg dksX16_word_2 22 rfl rfl
theorem dX16_word_0 : decode cX16_word 0 = .ok (.iconst 0, 1) := dk_3 (dk_at dksX16_word_0 0 rfl rfl)
theorem dX16_word_1 : decode cX16_word 1 = .ok (.istore_n 1, 1) := dk_60 (dk_at dksX16_word_0 1 rfl rfl)
theorem dX16_word_2 : decode cX16_word 2 = .ok (.aload_n 0, 1) := dk_42 (dk_at dksX16_word_0 2 rfl rfl)
theorem dX16_word_3 : decode cX16_word 3 = .ok (.getfield 25, 3) := dk_180 0 25 (dk_at dksX16_word_0 3 rfl rfl)
theorem dX16_word_6 : decode cX16_word 6 = .ok (.astore_n 2, 1) := dk_77 (dk_at dksX16_word_0 6 rfl rfl)
theorem dX16_word_7 : decode cX16_word 7 = .ok (.aload_n 2, 1) := dk_44 (dk_at dksX16_word_0 7 rfl rfl)
theorem dX16_word_8 : decode cX16_word 8 = .ok (.arraylength, 1) := dk_190 (dk_at dksX16_word_0 8 rfl rfl)
theorem dX16_word_9 : decode cX16_word 9 = .ok (.istore_n 3, 1) := dk_62 (dk_at dksX16_word_0 9 rfl rfl)
theorem dX16_word_10 : decode cX16_word 10 = .ok (.iconst 0, 1) := dk_3 (dk_at dksX16_word_0 10 rfl rfl)
theorem dX16_word_11 : decode cX16_word 11 = .ok (.istore 4, 2) := dk_54 4 (dk_at dksX16_word_0 11 rfl rfl)
theorem dX16_word_13 : decode cX16_word 13 = .ok (.iload 4, 2) := dk_21 4 (dk_at dksX16_word_0 13 rfl rfl)
theorem dX16_word_15 : decode cX16_word 15 = .ok (.iload_n 3, 1) := dk_29 (dk_at dksX16_word_0 15 rfl rfl)
theorem dX16_word_16 : decode cX16_word 16 = .ok (.if_icmp .ge 54, 3) := dk_162 0 54 (dk_at dksX16_word_0 16 rfl rfl)
theorem dX16_word_19 : decode cX16_word 19 = .ok (.aload_n 2, 1) := dk_44 (dk_at dksX16_word_0 19 rfl rfl)
theorem dX16_word_20 : decode cX16_word 20 = .ok (.iload 4, 2) := dk_21 4 (dk_at dksX16_word_0 20 rfl rfl)
theorem dX16_word_22 : decode cX16_word 22 = .ok (.aaload, 1) := dk_50 (dk_at dksX16_word_0 22 rfl rfl)
theorem dX16_word_23 : decode cX16_word 23 = .ok (.astore 5, 2) := dk_58 5 (dk_at dksX16_word_1 0 rfl rfl)
theorem dX16_word_25 : decode cX16_word 25 = .ok (.aload_n 0, 1) := dk_42 (dk_at dksX16_word_1 2 rfl rfl)
theorem dX16_word_26 : decode cX16_word 26 = .ok (.aload 5, 2) := dk_25 5 (dk_at dksX16_word_1 3 rfl rfl)
theorem dX16_word_28 : decode cX16_word 28 = .ok (.invokevirtual 66, 3) := dk_182 0 66 (dk_at dksX16_word_1 5 rfl rfl)
theorem dX16_word_31 : decode cX16_word 31 = .ok (.istore 6, 2) := dk_54 6 (dk_at dksX16_word_1 8 rfl rfl)
theorem dX16_word_33 : decode cX16_word 33 = .ok (.iload 6, 2) := dk_21 6 (dk_at dksX16_word_1 10 rfl rfl)
theorem dX16_word_35 : decode cX16_word 35 = .ok (.aload 5, 2) := dk_25 5 (dk_at dksX16_word_1 12 rfl rfl)
theorem dX16_word_37 : decode cX16_word 37 = .ok (.invokevirtual 60, 3) := dk_182 0 60 (dk_at dksX16_word_1 14 rfl rfl)
theorem dX16_word_40 : decode cX16_word 40 = .ok (.if_icmp .ne 17, 3) := dk_160 0 17 (dk_at dksX16_word_1 17 rfl rfl)
theorem dX16_word_43 : decode cX16_word 43 = .ok (.aload_n 0, 1) := dk_42 (dk_at dksX16_word_1 20 rfl rfl)
theorem dX16_word_44 : decode cX16_word 44 = .ok (.dup, 1) := dk_89 (dk_at dksX16_word_1 21 rfl rfl)
theorem dX16_word_45 : decode cX16_word 45 = .ok (.getfield 45, 3) := dk_180 0 45 (dk_at dksX16_word_2 0 rfl rfl)
theorem dX16_word_48 : decode cX16_word 48 = .ok (.iload 6, 2) := dk_21 6 (dk_at dksX16_word_2 3 rfl rfl)
theorem dX16_word_50 : decode cX16_word 50 = .ok (.iadd, 1) := dk_96 (dk_at dksX16_word_2 5 rfl rfl)
theorem dX16_word_51 : decode cX16_word 51 = .ok (.putfield 45, 3) := dk_181 0 45 (dk_at dksX16_word_2 6 rfl rfl)
theorem dX16_word_54 : decode cX16_word 54 = .ok (.aload 5, 2) := dk_25 5 (dk_at dksX16_word_2 9 rfl rfl)
theorem dX16_word_56 : decode cX16_word 56 = .ok (.areturn, 1) := dk_176 (dk_at dksX16_word_2 11 rfl rfl)
theorem dX16_word_57 : decode cX16_word 57 = .ok (.iload_n 1, 1) := dk_27 (dk_at dksX16_word_2 12 rfl rfl)
theorem dX16_word_58 : decode cX16_word 58 = .ok (.iload 6, 2) := dk_21 6 (dk_at dksX16_word_2 13 rfl rfl)
theorem dX16_word_60 : decode cX16_word 60 = .ok (.invokestatic 70, 3) := dk_184 0 70 (dk_at dksX16_word_2 15 rfl rfl)
theorem dX16_word_63 : decode cX16_word 63 = .ok (.istore_n 1, 1) := dk_60 (dk_at dksX16_word_2 18 rfl rfl)
theorem dX16_word_64 : decode cX16_word 64 = .ok (.iinc 4 1, 3) := dk_132 4 1 (dk_at dksX16_word_2 19 rfl rfl)
theorem dX16_word_67 : decode cX16_word 67 = .ok (.goto (-54), 3) := dk_167 255 202 (dk_at dksX16_word_3 0 rfl rfl)
theorem dX16_word_70 : decode cX16_word 70 = .ok (.new 55, 3) := dk_187 0 55 (dk_at dksX16_word_3 3 rfl rfl)
theorem dX16_word_73 : decode cX16_word 73 = .ok (.dup, 1) := dk_89 (dk_at dksX16_word_3 6 rfl rfl)
theorem dX16_word_74 : decode cX16_word 74 = .ok (.aload_n 0, 1) := dk_42 (dk_at dksX16_word_3 7 rfl rfl)
theorem dX16_word_75 : decode cX16_word 75 = .ok (.getfield 45, 3) := dk_180 0 45 (dk_at dksX16_word_3 8 rfl rfl)
theorem dX16_word_78 : decode cX16_word 78 = .ok (.iload_n 1, 1) := dk_27 (dk_at dksX16_word_3 11 rfl rfl)
theorem dX16_word_79 : decode cX16_word 79 = .ok (.iadd, 1) := dk_96 (dk_at dksX16_word_3 12 rfl rfl)
theorem dX16_word_80 : decode cX16_word 80 = .ok (.invokespecial 57, 3) := dk_183 0 57 (dk_at dksX16_word_3 13 rfl rfl)
theorem dX16_word_83 : decode cX16_word 83 = .ok (.athrow, 1) := dk_191 (dk_at dksX16_word_3 16 rfl rfl)
abbrev cX16_letters : ByteArray := prog_8_method_4_code
def yX16_letters : MethodName := ⟨RX16, "letters", "(Ljava/lang/String;)I"⟩
def dkwX16_letters_1 : List UInt8 := [182, 0, 62, 153, 0, 9, 132, 2, 1, 167, 255, 227, 28, 172]
abbrev dktX16_letters_1 : List UInt8 := dkwX16_letters_1 ++ []
def dkwX16_letters_0 : List UInt8 := [3, 61, 28, 43, 182, 0, 60, 162, 0, 27, 42, 42, 180, 0, 45, 28, 96, 43, 28, 182, 0, 61]
abbrev dktX16_letters_0 : List UInt8 := dkwX16_letters_0 ++ dktX16_letters_1
theorem dksX16_letters_0 : cX16_letters.data.toList.drop 0 = dktX16_letters_0 := by decide +kernel
theorem dksX16_letters_1 : cX16_letters.data.toList.drop 22 = dktX16_letters_1 := dk_seg dksX16_letters_0 22 rfl rfl
theorem dX16_letters_0 : decode cX16_letters 0 = .ok (.iconst 0, 1) := dk_3 (dk_at dksX16_letters_0 0 rfl rfl)
theorem dX16_letters_1 : decode cX16_letters 1 = .ok (.istore_n 2, 1) := dk_61 (dk_at dksX16_letters_0 1 rfl rfl)
theorem dX16_letters_2 : decode cX16_letters 2 = .ok (.iload_n 2, 1) := dk_28 (dk_at dksX16_letters_0 2 rfl rfl)
theorem dX16_letters_3 : decode cX16_letters 3 = .ok (.aload_n 1, 1) := dk_43 (dk_at dksX16_letters_0 3 rfl rfl)
theorem dX16_letters_4 : decode cX16_letters 4 = .ok (.invokevirtual 60, 3) := dk_182 0 60 (dk_at dksX16_letters_0 4 rfl rfl)
theorem dX16_letters_7 : decode cX16_letters 7 = .ok (.if_icmp .ge 27, 3) := dk_162 0 27 (dk_at dksX16_letters_0 7 rfl rfl)
theorem dX16_letters_10 : decode cX16_letters 10 = .ok (.aload_n 0, 1) := dk_42 (dk_at dksX16_letters_0 10 rfl rfl)
theorem dX16_letters_11 : decode cX16_letters 11 = .ok (.aload_n 0, 1) := dk_42 (dk_at dksX16_letters_0 11 rfl rfl)
theorem dX16_letters_12 : decode cX16_letters 12 = .ok (.getfield 45, 3) := dk_180 0 45 (dk_at dksX16_letters_0 12 rfl rfl)
theorem dX16_letters_15 : decode cX16_letters 15 = .ok (.iload_n 2, 1) := dk_28 (dk_at dksX16_letters_0 15 rfl rfl)
theorem dX16_letters_16 : decode cX16_letters 16 = .ok (.iadd, 1) := dk_96 (dk_at dksX16_letters_0 16 rfl rfl)
theorem dX16_letters_17 : decode cX16_letters 17 = .ok (.aload_n 1, 1) := dk_43 (dk_at dksX16_letters_0 17 rfl rfl)
theorem dX16_letters_18 : decode cX16_letters 18 = .ok (.iload_n 2, 1) := dk_28 (dk_at dksX16_letters_0 18 rfl rfl)
theorem dX16_letters_19 : decode cX16_letters 19 = .ok (.invokevirtual 61, 3) := dk_182 0 61 (dk_at dksX16_letters_0 19 rfl rfl)
theorem dX16_letters_22 : decode cX16_letters 22 = .ok (.invokevirtual 62, 3) := dk_182 0 62 (dk_at dksX16_letters_1 0 rfl rfl)
theorem dX16_letters_25 : decode cX16_letters 25 = .ok (.ifCond .eq 9, 3) := dk_153 0 9 (dk_at dksX16_letters_1 3 rfl rfl)
theorem dX16_letters_28 : decode cX16_letters 28 = .ok (.iinc 2 1, 3) := dk_132 2 1 (dk_at dksX16_letters_1 6 rfl rfl)
theorem dX16_letters_31 : decode cX16_letters 31 = .ok (.goto (-29), 3) := dk_167 255 227 (dk_at dksX16_letters_1 9 rfl rfl)
theorem dX16_letters_34 : decode cX16_letters 34 = .ok (.iload_n 2, 1) := dk_28 (dk_at dksX16_letters_1 12 rfl rfl)
theorem dX16_letters_35 : decode cX16_letters 35 = .ok (.ireturn, 1) := dk_172 (dk_at dksX16_letters_1 13 rfl rfl)
abbrev cX16_isAt : ByteArray := prog_8_method_2_code
def yX16_isAt : MethodName := ⟨RX16, "isAt", "(IC)Z"⟩
def dkwX16_isAt_1 : List UInt8 := [160, 0, 7, 4, 167, 0, 4, 3, 172]
abbrev dktX16_isAt_1 : List UInt8 := dkwX16_isAt_1 ++ []
def dkwX16_isAt_0 : List UInt8 := [27, 42, 180, 0, 31, 185, 0, 35, 1, 0, 162, 0, 21, 42, 180, 0, 31, 27, 185, 0, 41, 2, 0, 28]
abbrev dktX16_isAt_0 : List UInt8 := dkwX16_isAt_0 ++ dktX16_isAt_1
theorem dksX16_isAt_0 : cX16_isAt.data.toList.drop 0 = dktX16_isAt_0 := by decide +kernel
theorem dksX16_isAt_1 : cX16_isAt.data.toList.drop 24 = dktX16_isAt_1 := dk_seg dksX16_isAt_0 24 rfl rfl
theorem dX16_isAt_0 : decode cX16_isAt 0 = .ok (.iload_n 1, 1) := dk_27 (dk_at dksX16_isAt_0 0 rfl rfl)
theorem dX16_isAt_1 : decode cX16_isAt 1 = .ok (.aload_n 0, 1) := dk_42 (dk_at dksX16_isAt_0 1 rfl rfl)
theorem dX16_isAt_2 : decode cX16_isAt 2 = .ok (.getfield 31, 3) := dk_180 0 31 (dk_at dksX16_isAt_0 2 rfl rfl)
theorem dX16_isAt_5 : decode cX16_isAt 5 = .ok (.invokeinterface 35 1, 5) := by decide +kernel
theorem dX16_isAt_10 : decode cX16_isAt 10 = .ok (.if_icmp .ge 21, 3) := dk_162 0 21 (dk_at dksX16_isAt_0 10 rfl rfl)
theorem dX16_isAt_13 : decode cX16_isAt 13 = .ok (.aload_n 0, 1) := dk_42 (dk_at dksX16_isAt_0 13 rfl rfl)
theorem dX16_isAt_14 : decode cX16_isAt 14 = .ok (.getfield 31, 3) := dk_180 0 31 (dk_at dksX16_isAt_0 14 rfl rfl)
theorem dX16_isAt_17 : decode cX16_isAt 17 = .ok (.iload_n 1, 1) := dk_27 (dk_at dksX16_isAt_0 17 rfl rfl)
theorem dX16_isAt_18 : decode cX16_isAt 18 = .ok (.invokeinterface 41 2, 5) := by decide +kernel
theorem dX16_isAt_23 : decode cX16_isAt 23 = .ok (.iload_n 2, 1) := dk_28 (dk_at dksX16_isAt_0 23 rfl rfl)
theorem dX16_isAt_24 : decode cX16_isAt 24 = .ok (.if_icmp .ne 7, 3) := dk_160 0 7 (dk_at dksX16_isAt_1 0 rfl rfl)
theorem dX16_isAt_27 : decode cX16_isAt 27 = .ok (.iconst 1, 1) := dk_4 (dk_at dksX16_isAt_1 3 rfl rfl)
theorem dX16_isAt_28 : decode cX16_isAt 28 = .ok (.goto 4, 3) := dk_167 0 4 (dk_at dksX16_isAt_1 4 rfl rfl)
theorem dX16_isAt_31 : decode cX16_isAt 31 = .ok (.iconst 0, 1) := dk_3 (dk_at dksX16_isAt_1 7 rfl rfl)
theorem dX16_isAt_32 : decode cX16_isAt 32 = .ok (.ireturn, 1) := dk_172 (dk_at dksX16_isAt_1 8 rfl rfl)
abbrev cX16_number : ByteArray := prog_8_method_6_code
def yX16_number : MethodName := ⟨RX16, "number", "()I"⟩
def dkwX16_number_3 : List UInt8 := [29, 153, 0, 19, 16, 10, 28, 104, 42, 16, 48, 16, 57, 182, 0, 76, 96, 167, 0, 4, 28, 172]
abbrev dktX16_number_3 : List UInt8 := dkwX16_number_3 ++ []
def dkwX16_number_2 : List UInt8 := [185, 0, 41, 2, 0, 133, 20, 0, 79, 20, 0, 81, 184, 0, 49, 153, 0, 7, 4, 167, 0, 4, 3, 62]
abbrev dktX16_number_2 : List UInt8 := dkwX16_number_2 ++ dktX16_number_3
def dkwX16_number_1 : List UInt8 := [180, 0, 45, 42, 180, 0, 31, 185, 0, 35, 1, 0, 162, 0, 33, 42, 180, 0, 31, 42, 180, 0, 45]
abbrev dktX16_number_1 : List UInt8 := dkwX16_number_1 ++ dktX16_number_2
def dkwX16_number_0 : List UInt8 := [42, 16, 32, 16, 32, 182, 0, 76, 60, 42, 16, 48, 16, 57, 182, 0, 76, 61, 28, 158, 0, 49, 42]
abbrev dktX16_number_0 : List UInt8 := dkwX16_number_0 ++ dktX16_number_1
theorem dksX16_number_0 : cX16_number.data.toList.drop 0 = dktX16_number_0 := by decide +kernel
theorem dksX16_number_1 : cX16_number.data.toList.drop 23 = dktX16_number_1 := dk_seg dksX16_number_0 23 rfl rfl
theorem dksX16_number_2 : cX16_number.data.toList.drop 46 = dktX16_number_2 := dk_seg dksX16_number_1 23 rfl rfl
theorem dksX16_number_3 : cX16_number.data.toList.drop 70 = dktX16_number_3 := dk_seg dksX16_number_2 24 rfl rfl
theorem dX16_number_0 : decode cX16_number 0 = .ok (.aload_n 0, 1) := dk_42 (dk_at dksX16_number_0 0 rfl rfl)
theorem dX16_number_1 : decode cX16_number 1 = .ok (.bipush 32, 2) := dk_16 32 (dk_at dksX16_number_0 1 rfl rfl)
theorem dX16_number_3 : decode cX16_number 3 = .ok (.bipush 32, 2) := dk_16 32 (dk_at dksX16_number_0 3 rfl rfl)
theorem dX16_number_5 : decode cX16_number 5 = .ok (.invokevirtual 76, 3) := dk_182 0 76 (dk_at dksX16_number_0 5 rfl rfl)
theorem dX16_number_8 : decode cX16_number 8 = .ok (.istore_n 1, 1) := dk_60 (dk_at dksX16_number_0 8 rfl rfl)
theorem dX16_number_9 : decode cX16_number 9 = .ok (.aload_n 0, 1) := dk_42 (dk_at dksX16_number_0 9 rfl rfl)
theorem dX16_number_10 : decode cX16_number 10 = .ok (.bipush 48, 2) := dk_16 48 (dk_at dksX16_number_0 10 rfl rfl)
theorem dX16_number_12 : decode cX16_number 12 = .ok (.bipush 57, 2) := dk_16 57 (dk_at dksX16_number_0 12 rfl rfl)
theorem dX16_number_14 : decode cX16_number 14 = .ok (.invokevirtual 76, 3) := dk_182 0 76 (dk_at dksX16_number_0 14 rfl rfl)
theorem dX16_number_17 : decode cX16_number 17 = .ok (.istore_n 2, 1) := dk_61 (dk_at dksX16_number_0 17 rfl rfl)
theorem dX16_number_18 : decode cX16_number 18 = .ok (.iload_n 2, 1) := dk_28 (dk_at dksX16_number_0 18 rfl rfl)
theorem dX16_number_19 : decode cX16_number 19 = .ok (.ifCond .le 49, 3) := dk_158 0 49 (dk_at dksX16_number_0 19 rfl rfl)
theorem dX16_number_22 : decode cX16_number 22 = .ok (.aload_n 0, 1) := dk_42 (dk_at dksX16_number_0 22 rfl rfl)
theorem dX16_number_23 : decode cX16_number 23 = .ok (.getfield 45, 3) := dk_180 0 45 (dk_at dksX16_number_1 0 rfl rfl)
theorem dX16_number_26 : decode cX16_number 26 = .ok (.aload_n 0, 1) := dk_42 (dk_at dksX16_number_1 3 rfl rfl)
theorem dX16_number_27 : decode cX16_number 27 = .ok (.getfield 31, 3) := dk_180 0 31 (dk_at dksX16_number_1 4 rfl rfl)
theorem dX16_number_30 : decode cX16_number 30 = .ok (.invokeinterface 35 1, 5) := by decide +kernel
theorem dX16_number_35 : decode cX16_number 35 = .ok (.if_icmp .ge 33, 3) := dk_162 0 33 (dk_at dksX16_number_1 12 rfl rfl)
theorem dX16_number_38 : decode cX16_number 38 = .ok (.aload_n 0, 1) := dk_42 (dk_at dksX16_number_1 15 rfl rfl)
theorem dX16_number_39 : decode cX16_number 39 = .ok (.getfield 31, 3) := dk_180 0 31 (dk_at dksX16_number_1 16 rfl rfl)
theorem dX16_number_42 : decode cX16_number 42 = .ok (.aload_n 0, 1) := dk_42 (dk_at dksX16_number_1 19 rfl rfl)
theorem dX16_number_43 : decode cX16_number 43 = .ok (.getfield 45, 3) := dk_180 0 45 (dk_at dksX16_number_1 20 rfl rfl)
theorem dX16_number_46 : decode cX16_number 46 = .ok (.invokeinterface 41 2, 5) := by decide +kernel
theorem dX16_number_51 : decode cX16_number 51 = .ok (.i2l, 1) := dk_133 (dk_at dksX16_number_2 5 rfl rfl)
theorem dX16_number_52 : decode cX16_number 52 = .ok (.ldc2_w 79, 3) := dk_20 0 79 (dk_at dksX16_number_2 6 rfl rfl)
theorem dX16_number_55 : decode cX16_number 55 = .ok (.ldc2_w 81, 3) := dk_20 0 81 (dk_at dksX16_number_2 9 rfl rfl)
theorem dX16_number_58 : decode cX16_number 58 = .ok (.invokestatic 49, 3) := dk_184 0 49 (dk_at dksX16_number_2 12 rfl rfl)
theorem dX16_number_61 : decode cX16_number 61 = .ok (.ifCond .eq 7, 3) := dk_153 0 7 (dk_at dksX16_number_2 15 rfl rfl)
theorem dX16_number_64 : decode cX16_number 64 = .ok (.iconst 1, 1) := dk_4 (dk_at dksX16_number_2 18 rfl rfl)
theorem dX16_number_65 : decode cX16_number 65 = .ok (.goto 4, 3) := dk_167 0 4 (dk_at dksX16_number_2 19 rfl rfl)
theorem dX16_number_68 : decode cX16_number 68 = .ok (.iconst 0, 1) := dk_3 (dk_at dksX16_number_2 22 rfl rfl)
theorem dX16_number_69 : decode cX16_number 69 = .ok (.istore_n 3, 1) := dk_62 (dk_at dksX16_number_2 23 rfl rfl)
theorem dX16_number_70 : decode cX16_number 70 = .ok (.iload_n 3, 1) := dk_29 (dk_at dksX16_number_3 0 rfl rfl)
theorem dX16_number_71 : decode cX16_number 71 = .ok (.ifCond .eq 19, 3) := dk_153 0 19 (dk_at dksX16_number_3 1 rfl rfl)
theorem dX16_number_74 : decode cX16_number 74 = .ok (.bipush 10, 2) := dk_16 10 (dk_at dksX16_number_3 4 rfl rfl)
theorem dX16_number_76 : decode cX16_number 76 = .ok (.iload_n 2, 1) := dk_28 (dk_at dksX16_number_3 6 rfl rfl)
theorem dX16_number_77 : decode cX16_number 77 = .ok (.imul, 1) := dk_104 (dk_at dksX16_number_3 7 rfl rfl)
theorem dX16_number_78 : decode cX16_number 78 = .ok (.aload_n 0, 1) := dk_42 (dk_at dksX16_number_3 8 rfl rfl)
theorem dX16_number_79 : decode cX16_number 79 = .ok (.bipush 48, 2) := dk_16 48 (dk_at dksX16_number_3 9 rfl rfl)
theorem dX16_number_81 : decode cX16_number 81 = .ok (.bipush 57, 2) := dk_16 57 (dk_at dksX16_number_3 11 rfl rfl)
theorem dX16_number_83 : decode cX16_number 83 = .ok (.invokevirtual 76, 3) := dk_182 0 76 (dk_at dksX16_number_3 13 rfl rfl)
theorem dX16_number_86 : decode cX16_number 86 = .ok (.iadd, 1) := dk_96 (dk_at dksX16_number_3 16 rfl rfl)
theorem dX16_number_87 : decode cX16_number 87 = .ok (.goto 4, 3) := dk_167 0 4 (dk_at dksX16_number_3 17 rfl rfl)
theorem dX16_number_90 : decode cX16_number 90 = .ok (.iload_n 2, 1) := dk_28 (dk_at dksX16_number_3 20 rfl rfl)
theorem dX16_number_91 : decode cX16_number 91 = .ok (.ireturn, 1) := dk_172 (dk_at dksX16_number_3 21 rfl rfl)
abbrev cX16_take : ByteArray := prog_8_method_3_code
def yX16_take : MethodName := ⟨RX16, "take", "(II)I"⟩
def dkwX16_take_3 : List UInt8 := [185, 0, 41, 2, 0, 27, 100, 172]
abbrev dktX16_take_3 : List UInt8 := dkwX16_take_3 ++ []
def dkwX16_take_2 : List UInt8 := [183, 0, 57, 191, 42, 89, 180, 0, 45, 4, 96, 181, 0, 45, 42, 180, 0, 31, 42, 180, 0, 45, 4, 100]
abbrev dktX16_take_2 : List UInt8 := dkwX16_take_2 ++ dktX16_take_3
def dkwX16_take_1 : List UInt8 := [185, 0, 41, 2, 0, 133, 27, 133, 28, 133, 184, 0, 49, 154, 0, 15, 187, 0, 55, 89, 42, 180, 0, 45]
abbrev dktX16_take_1 : List UInt8 := dkwX16_take_1 ++ dktX16_take_2
def dkwX16_take_0 : List UInt8 := [42, 180, 0, 45, 42, 180, 0, 31, 185, 0, 35, 1, 0, 159, 0, 27, 42, 180, 0, 31, 42, 180, 0, 45]
abbrev dktX16_take_0 : List UInt8 := dkwX16_take_0 ++ dktX16_take_1
theorem dksX16_take_0 : cX16_take.data.toList.drop 0 = dktX16_take_0 := by decide +kernel
theorem dksX16_take_1 : cX16_take.data.toList.drop 24 = dktX16_take_1 := dk_seg dksX16_take_0 24 rfl rfl
theorem dksX16_take_2 : cX16_take.data.toList.drop 48 = dktX16_take_2 := dk_seg dksX16_take_1 24 rfl rfl
theorem dksX16_take_3 : cX16_take.data.toList.drop 72 = dktX16_take_3 := dk_seg dksX16_take_2 24 rfl rfl
theorem dX16_take_0 : decode cX16_take 0 = .ok (.aload_n 0, 1) := dk_42 (dk_at dksX16_take_0 0 rfl rfl)
theorem dX16_take_1 : decode cX16_take 1 = .ok (.getfield 45, 3) := dk_180 0 45 (dk_at dksX16_take_0 1 rfl rfl)
theorem dX16_take_4 : decode cX16_take 4 = .ok (.aload_n 0, 1) := dk_42 (dk_at dksX16_take_0 4 rfl rfl)
theorem dX16_take_5 : decode cX16_take 5 = .ok (.getfield 31, 3) := dk_180 0 31 (dk_at dksX16_take_0 5 rfl rfl)
theorem dX16_take_8 : decode cX16_take 8 = .ok (.invokeinterface 35 1, 5) := by decide +kernel
theorem dX16_take_13 : decode cX16_take 13 = .ok (.if_icmp .eq 27, 3) := dk_159 0 27 (dk_at dksX16_take_0 13 rfl rfl)
theorem dX16_take_16 : decode cX16_take 16 = .ok (.aload_n 0, 1) := dk_42 (dk_at dksX16_take_0 16 rfl rfl)
theorem dX16_take_17 : decode cX16_take 17 = .ok (.getfield 31, 3) := dk_180 0 31 (dk_at dksX16_take_0 17 rfl rfl)
theorem dX16_take_20 : decode cX16_take 20 = .ok (.aload_n 0, 1) := dk_42 (dk_at dksX16_take_0 20 rfl rfl)
theorem dX16_take_21 : decode cX16_take 21 = .ok (.getfield 45, 3) := dk_180 0 45 (dk_at dksX16_take_0 21 rfl rfl)
theorem dX16_take_24 : decode cX16_take 24 = .ok (.invokeinterface 41 2, 5) := by decide +kernel
theorem dX16_take_29 : decode cX16_take 29 = .ok (.i2l, 1) := dk_133 (dk_at dksX16_take_1 5 rfl rfl)
theorem dX16_take_30 : decode cX16_take 30 = .ok (.iload_n 1, 1) := dk_27 (dk_at dksX16_take_1 6 rfl rfl)
theorem dX16_take_31 : decode cX16_take 31 = .ok (.i2l, 1) := dk_133 (dk_at dksX16_take_1 7 rfl rfl)
theorem dX16_take_32 : decode cX16_take 32 = .ok (.iload_n 2, 1) := dk_28 (dk_at dksX16_take_1 8 rfl rfl)
theorem dX16_take_33 : decode cX16_take 33 = .ok (.i2l, 1) := dk_133 (dk_at dksX16_take_1 9 rfl rfl)
theorem dX16_take_34 : decode cX16_take 34 = .ok (.invokestatic 49, 3) := dk_184 0 49 (dk_at dksX16_take_1 10 rfl rfl)
theorem dX16_take_37 : decode cX16_take 37 = .ok (.ifCond .ne 15, 3) := dk_154 0 15 (dk_at dksX16_take_1 13 rfl rfl)
theorem dX16_take_40 : decode cX16_take 40 = .ok (.new 55, 3) := dk_187 0 55 (dk_at dksX16_take_1 16 rfl rfl)
theorem dX16_take_43 : decode cX16_take 43 = .ok (.dup, 1) := dk_89 (dk_at dksX16_take_1 19 rfl rfl)
theorem dX16_take_44 : decode cX16_take 44 = .ok (.aload_n 0, 1) := dk_42 (dk_at dksX16_take_1 20 rfl rfl)
theorem dX16_take_45 : decode cX16_take 45 = .ok (.getfield 45, 3) := dk_180 0 45 (dk_at dksX16_take_1 21 rfl rfl)
theorem dX16_take_48 : decode cX16_take 48 = .ok (.invokespecial 57, 3) := dk_183 0 57 (dk_at dksX16_take_2 0 rfl rfl)
theorem dX16_take_51 : decode cX16_take 51 = .ok (.athrow, 1) := dk_191 (dk_at dksX16_take_2 3 rfl rfl)
theorem dX16_take_52 : decode cX16_take 52 = .ok (.aload_n 0, 1) := dk_42 (dk_at dksX16_take_2 4 rfl rfl)
theorem dX16_take_53 : decode cX16_take 53 = .ok (.dup, 1) := dk_89 (dk_at dksX16_take_2 5 rfl rfl)
theorem dX16_take_54 : decode cX16_take 54 = .ok (.getfield 45, 3) := dk_180 0 45 (dk_at dksX16_take_2 6 rfl rfl)
theorem dX16_take_57 : decode cX16_take 57 = .ok (.iconst 1, 1) := dk_4 (dk_at dksX16_take_2 9 rfl rfl)
theorem dX16_take_58 : decode cX16_take 58 = .ok (.iadd, 1) := dk_96 (dk_at dksX16_take_2 10 rfl rfl)
theorem dX16_take_59 : decode cX16_take 59 = .ok (.putfield 45, 3) := dk_181 0 45 (dk_at dksX16_take_2 11 rfl rfl)
theorem dX16_take_62 : decode cX16_take 62 = .ok (.aload_n 0, 1) := dk_42 (dk_at dksX16_take_2 14 rfl rfl)
theorem dX16_take_63 : decode cX16_take 63 = .ok (.getfield 31, 3) := dk_180 0 31 (dk_at dksX16_take_2 15 rfl rfl)
theorem dX16_take_66 : decode cX16_take 66 = .ok (.aload_n 0, 1) := dk_42 (dk_at dksX16_take_2 18 rfl rfl)
theorem dX16_take_67 : decode cX16_take 67 = .ok (.getfield 45, 3) := dk_180 0 45 (dk_at dksX16_take_2 19 rfl rfl)
theorem dX16_take_70 : decode cX16_take 70 = .ok (.iconst 1, 1) := dk_4 (dk_at dksX16_take_2 22 rfl rfl)
theorem dX16_take_71 : decode cX16_take 71 = .ok (.isub, 1) := dk_100 (dk_at dksX16_take_2 23 rfl rfl)
theorem dX16_take_72 : decode cX16_take 72 = .ok (.invokeinterface 41 2, 5) := by decide +kernel
theorem dX16_take_77 : decode cX16_take 77 = .ok (.iload_n 1, 1) := dk_27 (dk_at dksX16_take_3 5 rfl rfl)
theorem dX16_take_78 : decode cX16_take 78 = .ok (.isub, 1) := dk_100 (dk_at dksX16_take_3 6 rfl rfl)
theorem dX16_take_79 : decode cX16_take 79 = .ok (.ireturn, 1) := dk_172 (dk_at dksX16_take_3 7 rfl rfl)
theorem q109 : (Jvm.Cond.initialized "MustardMill$Parser") ∈ lw_all := lw_g (lw_at lw_m1 46 rfl) rfl
theorem q845 : (Jvm.Cond.selects "MustardMill$Parser" ({ cls := "java/lang/Object", name := "getClass", desc := "()Ljava/lang/Class;" } : Jvm.MethodName) ({ cls := "java/lang/Object", name := "getClass", desc := "()Ljava/lang/Class;" } : Jvm.MethodName)) ∈ lw_all := lw_g (lw_at lw_m4 62 rfl) rfl
theorem q1908 : (Jvm.Cond.instantiable "MustardMill$Parser" (3 : Nat)) ∈ lw_all := lw_g (lw_at lw_m8 165 rfl) rfl
theorem q1910 : (Jvm.Cond.instanceMethod ({ cls := "MustardMill$Parser", name := "<init>", desc := "(Ljava/lang/CharSequence;)V" } : Jvm.MethodName)) ∈ lw_all := lw_g (lw_at lw_m8 167 rfl) rfl
theorem q1911 : (Jvm.Cond.code ({ cls := "MustardMill$Parser", name := "<init>", desc := "(Ljava/lang/CharSequence;)V" } : Jvm.MethodName) prog_8_method_1_code (2 : Nat) (Option.none : Option Jvm.ClassFile.FieldType)) ∈ lw_all := lw_g (lw_at lw_m8 168 rfl) rfl
theorem q1912 : (Jvm.Cond.methodLink "MustardMill$Parser" (1 : Nat) ({ cls := "java/lang/Object", name := "<init>", desc := "()V" } : Jvm.MethodName)) ∈ lw_all := lw_g (lw_at lw_m8 169 rfl) rfl
theorem q1913 : (Jvm.Cond.classLink "MustardMill$Parser" (7 : Nat) "java/lang/String") ∈ lw_all := lw_g (lw_at lw_m8 170 rfl) rfl
theorem q1915 : (Jvm.Cond.stringRef "MustardMill$Parser" (9 : Nat) "grind") ∈ lw_tbl := lw_at lw_m8 172 rfl
theorem q1916 : (Jvm.Cond.stringRef "MustardMill$Parser" (11 : Nat) "dress") ∈ lw_tbl := lw_at lw_m8 173 rfl
theorem q1917 : (Jvm.Cond.stringRef "MustardMill$Parser" (13 : Nat) "mix") ∈ lw_tbl := lw_at lw_m8 174 rfl
theorem q1918 : (Jvm.Cond.stringRef "MustardMill$Parser" (15 : Nat) "jar") ∈ lw_tbl := lw_at lw_m8 175 rfl
theorem q1919 : (Jvm.Cond.stringRef "MustardMill$Parser" (17 : Nat) "open") ∈ lw_tbl := lw_at lw_m8 176 rfl
theorem q1920 : (Jvm.Cond.stringRef "MustardMill$Parser" (19 : Nat) "sell") ∈ lw_tbl := lw_at lw_m8 177 rfl
theorem q1921 : (Jvm.Cond.stringRef "MustardMill$Parser" (21 : Nat) "serve") ∈ lw_tbl := lw_at lw_m8 178 rfl
theorem q1922 : (Jvm.Cond.stringRef "MustardMill$Parser" (23 : Nat) "rest") ∈ lw_tbl := lw_at lw_m8 179 rfl
theorem q1923 : (Jvm.Cond.fieldLink "MustardMill$Parser" (25 : Nat) "MustardMill$Parser" "words" "[Ljava/lang/String;") ∈ lw_all := lw_g (lw_at lw_m8 180 rfl) rfl
theorem q1924 : (Jvm.Cond.fieldLink "MustardMill$Parser" (31 : Nat) "MustardMill$Parser" "text" "Ljava/lang/CharSequence;") ∈ lw_all := lw_g (lw_at lw_m8 181 rfl) rfl
theorem q1925 : (Jvm.Cond.fieldLink "MustardMill$Parser" (45 : Nat) "MustardMill$Parser" "position" "I") ∈ lw_all := lw_g (lw_at lw_m8 182 rfl) rfl
theorem q1926 : (Jvm.Cond.laysFinal "MustardMill$Parser" "MustardMill$Parser" "words" "[Ljava/lang/String;") ∈ lw_all := lw_g (lw_at lw_m8 183 rfl) rfl
theorem q1927 : (Jvm.Cond.soleField "MustardMill$Parser" "words") ∈ lw_all := lw_g (lw_at lw_m8 184 rfl) rfl
theorem q1928 : (Jvm.Cond.laysFinal "MustardMill$Parser" "MustardMill$Parser" "text" "Ljava/lang/CharSequence;") ∈ lw_all := lw_g (lw_at lw_m8 185 rfl) rfl
theorem q1929 : (Jvm.Cond.soleField "MustardMill$Parser" "text") ∈ lw_all := lw_g (lw_at lw_m8 186 rfl) rfl
theorem q1930 : (Jvm.Cond.lays "MustardMill$Parser" "MustardMill$Parser" "position" "I") ∈ lw_all := lw_g (lw_at lw_m8 187 rfl) rfl
theorem q1931 : (Jvm.Cond.soleField "MustardMill$Parser" "position") ∈ lw_all := lw_g (lw_at lw_m8 188 rfl) rfl
theorem q1932 : (Jvm.Cond.superclass "MustardMill$Parser" "java/lang/Object") ∈ lw_all := lw_g (lw_at lw_m8 189 rfl) rfl
theorem q1934 : (Jvm.Cond.instanceMethod ({ cls := "MustardMill$Parser", name := "orders", desc := "()Ljava/util/ArrayList;" } : Jvm.MethodName)) ∈ lw_all := lw_g (lw_at lw_m8 191 rfl) rfl
theorem q1935 : (Jvm.Cond.selects "MustardMill$Parser" ({ cls := "MustardMill$Parser", name := "orders", desc := "()Ljava/util/ArrayList;" } : Jvm.MethodName) ({ cls := "MustardMill$Parser", name := "orders", desc := "()Ljava/util/ArrayList;" } : Jvm.MethodName)) ∈ lw_all := lw_g (lw_at lw_m8 192 rfl) rfl
theorem q1936 : (Jvm.Cond.code ({ cls := "MustardMill$Parser", name := "orders", desc := "()Ljava/util/ArrayList;" } : Jvm.MethodName) prog_8_method_8_code (4 : Nat) (Option.some (Jvm.ClassFile.FieldType.object "java/util/ArrayList"))) ∈ lw_all := lw_g (lw_at lw_m8 193 rfl) rfl
theorem q1937 : (Jvm.Cond.classLink "MustardMill$Parser" (98 : Nat) "java/util/ArrayList") ∈ lw_all := lw_g (lw_at lw_m8 194 rfl) rfl
theorem q1938 : (Jvm.Cond.methodLink "MustardMill$Parser" (100 : Nat) ({ cls := "java/util/ArrayList", name := "<init>", desc := "()V" } : Jvm.MethodName)) ∈ lw_all := lw_g (lw_at lw_m8 195 rfl) rfl
theorem q1939 : (Jvm.Cond.methodLink "MustardMill$Parser" (101 : Nat) ({ cls := "MustardMill$Parser", name := "order", desc := "()LMustardMill$Change;" } : Jvm.MethodName)) ∈ lw_all := lw_g (lw_at lw_m8 196 rfl) rfl
theorem q1940 : (Jvm.Cond.privateMethod ({ cls := "MustardMill$Parser", name := "order", desc := "()LMustardMill$Change;" } : Jvm.MethodName)) ∈ lw_tbl := lw_at lw_m8 197 rfl
theorem q1941 : (Jvm.Cond.instanceMethod ({ cls := "MustardMill$Parser", name := "order", desc := "()LMustardMill$Change;" } : Jvm.MethodName)) ∈ lw_all := lw_g (lw_at lw_m8 198 rfl) rfl
theorem q1942 : (Jvm.Cond.code ({ cls := "MustardMill$Parser", name := "order", desc := "()LMustardMill$Change;" } : Jvm.MethodName) prog_8_method_7_code (4 : Nat) (Option.some (Jvm.ClassFile.FieldType.object "MustardMill$Change"))) ∈ lw_all := lw_g (lw_at lw_m8 199 rfl) rfl
theorem q1943 : (Jvm.Cond.methodLink "MustardMill$Parser" (83 : Nat) ({ cls := "MustardMill$Parser", name := "word", desc := "()Ljava/lang/String;" } : Jvm.MethodName)) ∈ lw_all := lw_g (lw_at lw_m8 200 rfl) rfl
theorem q1944 : (Jvm.Cond.privateMethod ({ cls := "MustardMill$Parser", name := "word", desc := "()Ljava/lang/String;" } : Jvm.MethodName)) ∈ lw_tbl := lw_at lw_m8 201 rfl
theorem q1945 : (Jvm.Cond.instanceMethod ({ cls := "MustardMill$Parser", name := "word", desc := "()Ljava/lang/String;" } : Jvm.MethodName)) ∈ lw_all := lw_g (lw_at lw_m8 202 rfl) rfl
theorem q1946 : (Jvm.Cond.code ({ cls := "MustardMill$Parser", name := "word", desc := "()Ljava/lang/String;" } : Jvm.MethodName) prog_8_method_5_code (7 : Nat) (Option.some (Jvm.ClassFile.FieldType.object "java/lang/String"))) ∈ lw_all := lw_g (lw_at lw_m8 203 rfl) rfl
theorem q1947 : (Jvm.Cond.methodLink "MustardMill$Parser" (66 : Nat) ({ cls := "MustardMill$Parser", name := "letters", desc := "(Ljava/lang/String;)I" } : Jvm.MethodName)) ∈ lw_all := lw_g (lw_at lw_m8 204 rfl) rfl
theorem q1948 : (Jvm.Cond.privateMethod ({ cls := "MustardMill$Parser", name := "letters", desc := "(Ljava/lang/String;)I" } : Jvm.MethodName)) ∈ lw_tbl := lw_at lw_m8 205 rfl
theorem q1949 : (Jvm.Cond.instanceMethod ({ cls := "MustardMill$Parser", name := "letters", desc := "(Ljava/lang/String;)I" } : Jvm.MethodName)) ∈ lw_all := lw_g (lw_at lw_m8 206 rfl) rfl
theorem q1950 : (Jvm.Cond.code ({ cls := "MustardMill$Parser", name := "letters", desc := "(Ljava/lang/String;)I" } : Jvm.MethodName) prog_8_method_4_code (3 : Nat) (Option.some Jvm.ClassFile.FieldType.int)) ∈ lw_all := lw_g (lw_at lw_m8 207 rfl) rfl
theorem q1951 : (Jvm.Cond.methodLink "MustardMill$Parser" (60 : Nat) ({ cls := "java/lang/String", name := "length", desc := "()I" } : Jvm.MethodName)) ∈ lw_all := lw_g (lw_at lw_m8 208 rfl) rfl
theorem q1952 : (Jvm.Cond.methodLink "MustardMill$Parser" (61 : Nat) ({ cls := "java/lang/String", name := "charAt", desc := "(I)C" } : Jvm.MethodName)) ∈ lw_all := lw_g (lw_at lw_m8 209 rfl) rfl
theorem q1953 : (Jvm.Cond.methodLink "MustardMill$Parser" (62 : Nat) ({ cls := "MustardMill$Parser", name := "isAt", desc := "(IC)Z" } : Jvm.MethodName)) ∈ lw_all := lw_g (lw_at lw_m8 210 rfl) rfl
theorem q1954 : (Jvm.Cond.privateMethod ({ cls := "MustardMill$Parser", name := "isAt", desc := "(IC)Z" } : Jvm.MethodName)) ∈ lw_tbl := lw_at lw_m8 211 rfl
theorem q1955 : (Jvm.Cond.instanceMethod ({ cls := "MustardMill$Parser", name := "isAt", desc := "(IC)Z" } : Jvm.MethodName)) ∈ lw_all := lw_g (lw_at lw_m8 212 rfl) rfl
theorem q1956 : (Jvm.Cond.code ({ cls := "MustardMill$Parser", name := "isAt", desc := "(IC)Z" } : Jvm.MethodName) prog_8_method_2_code (3 : Nat) (Option.some Jvm.ClassFile.FieldType.boolean)) ∈ lw_all := lw_g (lw_at lw_m8 213 rfl) rfl
theorem q1957 : (Jvm.Cond.interfaceEntry "MustardMill$Parser" (35 : Nat)) ∈ lw_tbl := lw_at lw_m8 214 rfl
theorem q1958 : (Jvm.Cond.methodLink "MustardMill$Parser" (35 : Nat) ({ cls := "java/lang/CharSequence", name := "length", desc := "()I" } : Jvm.MethodName)) ∈ lw_all := lw_g (lw_at lw_m8 215 rfl) rfl
theorem q1969 : (Jvm.Cond.interfaceEntry "MustardMill$Parser" (41 : Nat)) ∈ lw_tbl := lw_at lw_m8 226 rfl
theorem q1970 : (Jvm.Cond.methodLink "MustardMill$Parser" (41 : Nat) ({ cls := "java/lang/CharSequence", name := "charAt", desc := "(I)C" } : Jvm.MethodName)) ∈ lw_all := lw_g (lw_at lw_m8 227 rfl) rfl
theorem q1987 : (Jvm.Cond.methodLink "MustardMill$Parser" (70 : Nat) ({ cls := "java/lang/Math", name := "max", desc := "(II)I" } : Jvm.MethodName)) ∈ lw_all := lw_g (lw_at lw_m9 4 rfl) rfl
theorem q1988 : (Jvm.Cond.classLink "MustardMill$Parser" (55 : Nat) "MustardMill$SyntaxException") ∈ lw_all := lw_g (lw_at lw_m9 5 rfl) rfl
theorem q1997 : (Jvm.Cond.methodLink "MustardMill$Parser" (57 : Nat) ({ cls := "MustardMill$SyntaxException", name := "<init>", desc := "(I)V" } : Jvm.MethodName)) ∈ lw_all := lw_g (lw_at lw_m9 14 rfl) rfl
theorem q2007 : (Jvm.Cond.methodLink "MustardMill$Parser" (87 : Nat) ({ cls := "MustardMill$Change", name := "numbersOf", desc := "(Ljava/lang/String;)I" } : Jvm.MethodName)) ∈ lw_all := lw_g (lw_at lw_m9 24 rfl) rfl
theorem q2010 : (Jvm.Cond.methodLink "MustardMill$Parser" (92 : Nat) ({ cls := "MustardMill$Parser", name := "number", desc := "()I" } : Jvm.MethodName)) ∈ lw_all := lw_g (lw_at lw_m9 27 rfl) rfl
theorem q2011 : (Jvm.Cond.privateMethod ({ cls := "MustardMill$Parser", name := "number", desc := "()I" } : Jvm.MethodName)) ∈ lw_tbl := lw_at lw_m9 28 rfl
theorem q2012 : (Jvm.Cond.instanceMethod ({ cls := "MustardMill$Parser", name := "number", desc := "()I" } : Jvm.MethodName)) ∈ lw_all := lw_g (lw_at lw_m9 29 rfl) rfl
theorem q2013 : (Jvm.Cond.code ({ cls := "MustardMill$Parser", name := "number", desc := "()I" } : Jvm.MethodName) prog_8_method_6_code (4 : Nat) (Option.some Jvm.ClassFile.FieldType.int)) ∈ lw_all := lw_g (lw_at lw_m9 30 rfl) rfl
theorem q2014 : (Jvm.Cond.methodLink "MustardMill$Parser" (76 : Nat) ({ cls := "MustardMill$Parser", name := "take", desc := "(II)I" } : Jvm.MethodName)) ∈ lw_all := lw_g (lw_at lw_m9 31 rfl) rfl
theorem q2015 : (Jvm.Cond.privateMethod ({ cls := "MustardMill$Parser", name := "take", desc := "(II)I" } : Jvm.MethodName)) ∈ lw_tbl := lw_at lw_m9 32 rfl
theorem q2016 : (Jvm.Cond.instanceMethod ({ cls := "MustardMill$Parser", name := "take", desc := "(II)I" } : Jvm.MethodName)) ∈ lw_all := lw_g (lw_at lw_m9 33 rfl) rfl
theorem q2017 : (Jvm.Cond.code ({ cls := "MustardMill$Parser", name := "take", desc := "(II)I" } : Jvm.MethodName) prog_8_method_3_code (3 : Nat) (Option.some Jvm.ClassFile.FieldType.int)) ∈ lw_all := lw_g (lw_at lw_m9 34 rfl) rfl
theorem q2018 : (Jvm.Cond.methodLinkNest "MustardMill$Parser" (49 : Nat) ({ cls := "MustardMill", name := "inRange", desc := "(JJJ)Z" } : Jvm.MethodName) "MustardMill") ∈ lw_tbl := lw_at lw_m9 35 rfl
theorem q2019 : (Jvm.Cond.constantLong "MustardMill$Parser" (79 : Nat) (48 : Int64)) ∈ lw_all := lw_g (lw_at lw_m9 36 rfl) rfl
theorem q2020 : (Jvm.Cond.constantLong "MustardMill$Parser" (81 : Nat) (57 : Int64)) ∈ lw_all := lw_g (lw_at lw_m9 37 rfl) rfl
theorem q2021 : (Jvm.Cond.classLink "MustardMill$Parser" (88 : Nat) "MustardMill$Change") ∈ lw_all := lw_g (lw_at lw_m9 38 rfl) rfl
theorem q2022 : (Jvm.Cond.methodLink "MustardMill$Parser" (95 : Nat) ({ cls := "MustardMill$Change", name := "<init>", desc := "(Ljava/lang/String;[I)V" } : Jvm.MethodName)) ∈ lw_all := lw_g (lw_at lw_m9 39 rfl) rfl
theorem q2023 : (Jvm.Cond.methodLink "MustardMill$Parser" (105 : Nat) ({ cls := "java/util/ArrayList", name := "add", desc := "(Ljava/lang/Object;)Z" } : Jvm.MethodName)) ∈ lw_all := lw_g (lw_at lw_m9 40 rfl) rfl
theorem q2558 : (Jvm.Cond.castable "MustardMill$Parser" "java/lang/Object") ∈ lw_tbl := lw_at lw_m11 95 rfl
theorem in_X16 : ∀ w ∈ wsX160, w ∈ lw_all := lw_in wsX160 [1926, 1928, 1930] (by decide +kernel) (by decide +kernel)
/-! MustardMill$SyntaxException -/
set_option maxRecDepth 100000
def RX17 : String := "MustardMill$SyntaxException"
def TX17 : u_T := fun k => match k with
  | 0 => ("java/lang/Throwable", "cause", "Ljava/lang/Throwable;", false)
  | 1 => ("java/lang/Throwable", "stackTrace", "[Ljava/lang/StackTraceElement;", false)
  | 2 => ("java/lang/Throwable", "suppressedExceptions", "Ljava/util/List;", false)
  | 3 => ("java/lang/Throwable", "detailMessage", "Ljava/lang/String;", false)
  | 4 => ("java/lang/Throwable", "backtrace", "Ljava/lang/Object;", false)
  | 5 => ("java/lang/Throwable", "depth", "I", false)
  | _ => ("MustardMill$SyntaxException", "position", "I", true)
def tyX17 : Nat → FieldType := fun k => match k with
  | 0 => .object "java/lang/Throwable"
  | 1 => .array (.object "java/lang/StackTraceElement")
  | 2 => .object "java/util/List"
  | 3 => .object "java/lang/String"
  | 4 => .object "java/lang/Object"
  | 5 => .int
  | _ => .int
abbrev wsX170 : List Cond := u_ws RX17 TX17 7
theorem nmX17 : ∀ a, a < 7 → ∀ b, b < 7 → a ≠ b → (TX17 a).2.1 ≠ (TX17 b).2.1 := by decide +kernel
theorem tyX17_ok : ∀ k, k < 7 → parseFieldDescriptor (TX17 k).2.2.1 = some (tyX17 k) := by decide +kernel
abbrev cX17_init : ByteArray := prog_13_method_1_code
def yX17_init : MethodName := ⟨RX17, "<init>", "(I)V"⟩
def dkwX17_init_0 : List UInt8 := [42, 1, 1, 3, 3, 183, 0, 1, 42, 27, 181, 0, 7, 177]
abbrev dktX17_init_0 : List UInt8 := dkwX17_init_0 ++ []
theorem dksX17_init_0 : cX17_init.data.toList.drop 0 = dktX17_init_0 := by decide +kernel
theorem dX17_init_0 : decode cX17_init 0 = .ok (.aload_n 0, 1) := dk_42 (dk_at dksX17_init_0 0 rfl rfl)
theorem dX17_init_1 : decode cX17_init 1 = .ok (.aconst_null, 1) := dk_1 (dk_at dksX17_init_0 1 rfl rfl)
theorem dX17_init_2 : decode cX17_init 2 = .ok (.aconst_null, 1) := dk_1 (dk_at dksX17_init_0 2 rfl rfl)
theorem dX17_init_3 : decode cX17_init 3 = .ok (.iconst 0, 1) := dk_3 (dk_at dksX17_init_0 3 rfl rfl)
theorem dX17_init_4 : decode cX17_init 4 = .ok (.iconst 0, 1) := dk_3 (dk_at dksX17_init_0 4 rfl rfl)
theorem dX17_init_5 : decode cX17_init 5 = .ok (.invokespecial 1, 3) := dk_183 0 1 (dk_at dksX17_init_0 5 rfl rfl)
theorem dX17_init_8 : decode cX17_init 8 = .ok (.aload_n 0, 1) := dk_42 (dk_at dksX17_init_0 8 rfl rfl)
theorem dX17_init_9 : decode cX17_init 9 = .ok (.iload_n 1, 1) := dk_27 (dk_at dksX17_init_0 9 rfl rfl)
theorem dX17_init_10 : decode cX17_init 10 = .ok (.putfield 7, 3) := dk_181 0 7 (dk_at dksX17_init_0 10 rfl rfl)
theorem dX17_init_13 : decode cX17_init 13 = .ok (.return_, 1) := dk_177 (dk_at dksX17_init_0 13 rfl rfl)
theorem q110 : (Jvm.Cond.initialized "MustardMill$SyntaxException") ∈ lw_all := lw_g (lw_at lw_m1 47 rfl) rfl
theorem q554 : (Jvm.Cond.selects "MustardMill$SyntaxException" ({ cls := "java/lang/Throwable", name := "fillInStackTrace", desc := "()Ljava/lang/Throwable;" } : Jvm.MethodName) ({ cls := "java/lang/Throwable", name := "fillInStackTrace", desc := "()Ljava/lang/Throwable;" } : Jvm.MethodName)) ∈ lw_all := lw_g (lw_at lw_m3 11 rfl) rfl
theorem q849 : (Jvm.Cond.selects "MustardMill$SyntaxException" ({ cls := "java/lang/Object", name := "getClass", desc := "()Ljava/lang/Class;" } : Jvm.MethodName) ({ cls := "java/lang/Object", name := "getClass", desc := "()Ljava/lang/Class;" } : Jvm.MethodName)) ∈ lw_all := lw_g (lw_at lw_m4 66 rfl) rfl
theorem q1989 : (Jvm.Cond.instantiable "MustardMill$SyntaxException" (7 : Nat)) ∈ lw_all := lw_g (lw_at lw_m9 6 rfl) rfl
theorem q1990 : (Jvm.Cond.castable "MustardMill$SyntaxException" "MustardMill$SyntaxException") ∈ lw_tbl := lw_at lw_m9 7 rfl
theorem q1991 : (Jvm.Cond.selects "MustardMill$SyntaxException" ({ cls := "java/lang/Throwable", name := "fillInStackTrace", desc := "(I)Ljava/lang/Throwable;" } : Jvm.MethodName) ({ cls := "java/lang/Throwable", name := "fillInStackTrace", desc := "(I)Ljava/lang/Throwable;" } : Jvm.MethodName)) ∈ lw_all := lw_g (lw_at lw_m9 8 rfl) rfl
theorem q1992 : (Jvm.Cond.lays "MustardMill$SyntaxException" "java/lang/Throwable" "cause" "Ljava/lang/Throwable;") ∈ lw_all := lw_g (lw_at lw_m9 9 rfl) rfl
theorem q1993 : (Jvm.Cond.lays "MustardMill$SyntaxException" "java/lang/Throwable" "stackTrace" "[Ljava/lang/StackTraceElement;") ∈ lw_all := lw_g (lw_at lw_m9 10 rfl) rfl
theorem q1994 : (Jvm.Cond.lays "MustardMill$SyntaxException" "java/lang/Throwable" "suppressedExceptions" "Ljava/util/List;") ∈ lw_all := lw_g (lw_at lw_m9 11 rfl) rfl
theorem q1995 : (Jvm.Cond.lays "MustardMill$SyntaxException" "java/lang/Throwable" "detailMessage" "Ljava/lang/String;") ∈ lw_all := lw_g (lw_at lw_m9 12 rfl) rfl
theorem q1996 : (Jvm.Cond.lays "MustardMill$SyntaxException" "java/lang/Throwable" "backtrace" "Ljava/lang/Object;") ∈ lw_all := lw_g (lw_at lw_m9 13 rfl) rfl
theorem q1998 : (Jvm.Cond.instanceMethod ({ cls := "MustardMill$SyntaxException", name := "<init>", desc := "(I)V" } : Jvm.MethodName)) ∈ lw_all := lw_g (lw_at lw_m9 15 rfl) rfl
theorem q1999 : (Jvm.Cond.code ({ cls := "MustardMill$SyntaxException", name := "<init>", desc := "(I)V" } : Jvm.MethodName) prog_13_method_1_code (2 : Nat) (Option.none : Option Jvm.ClassFile.FieldType)) ∈ lw_all := lw_g (lw_at lw_m9 16 rfl) rfl
theorem q2000 : (Jvm.Cond.methodLink "MustardMill$SyntaxException" (1 : Nat) ({ cls := "java/lang/Exception", name := "<init>", desc := "(Ljava/lang/String;Ljava/lang/Throwable;ZZ)V" } : Jvm.MethodName)) ∈ lw_all := lw_g (lw_at lw_m9 17 rfl) rfl
theorem q2001 : (Jvm.Cond.fieldLink "MustardMill$SyntaxException" (7 : Nat) "MustardMill$SyntaxException" "position" "I") ∈ lw_all := lw_g (lw_at lw_m9 18 rfl) rfl
theorem q2003 : (Jvm.Cond.laysFinal "MustardMill$SyntaxException" "MustardMill$SyntaxException" "position" "I") ∈ lw_all := lw_g (lw_at lw_m9 20 rfl) rfl
theorem q2004 : (Jvm.Cond.soleField "MustardMill$SyntaxException" "position") ∈ lw_all := lw_g (lw_at lw_m9 21 rfl) rfl
theorem q2005 : (Jvm.Cond.lays "MustardMill$SyntaxException" "java/lang/Throwable" "depth" "I") ∈ lw_all := lw_g (lw_at lw_m9 22 rfl) rfl
theorem q2006 : (Jvm.Cond.superclass "MustardMill$SyntaxException" "java/lang/Exception") ∈ lw_all := lw_g (lw_at lw_m9 23 rfl) rfl
theorem q2559 : (Jvm.Cond.castable "MustardMill$SyntaxException" "java/lang/Object") ∈ lw_tbl := lw_at lw_m11 96 rfl
theorem in_X17 : ∀ w ∈ wsX170, w ∈ lw_all := lw_in wsX170 [1992, 1993, 1994, 1995, 1996, 2005, 2003] (by decide +kernel) (by decide +kernel)
/-! MustardMill$Mill -/
set_option maxRecDepth 100000
def RX2 : String := "MustardMill$Mill"
def TX2 : u_T := fun k => match k with
  | 0 => ("MustardMill$Mill", "stocks", "[I", false)
  | 1 => ("MustardMill$Mill", "querns", "[LMustardMill$Quern;", false)
  | 2 => ("MustardMill$Mill", "batches", "LMustardMill$Shelf;", false)
  | 3 => ("MustardMill$Mill", "jars", "LMustardMill$Shelf;", false)
  | 4 => ("MustardMill$Mill", "wishes", "LMustardMill$Shelf;", false)
  | 5 => ("MustardMill$Mill", "tray", "[LMustardMill$Thing;", false)
  | 6 => ("MustardMill$Mill", "coins", "I", false)
  | 7 => ("MustardMill$Mill", "got", "I", false)
  | _ => ("MustardMill$Mill", "day", "I", false)
def tyX2 : Nat → FieldType := fun k => match k with
  | 0 => .array .int
  | 1 => .array (.object "MustardMill$Quern")
  | 2 => .object "MustardMill$Shelf"
  | 3 => .object "MustardMill$Shelf"
  | 4 => .object "MustardMill$Shelf"
  | 5 => .array (.object "MustardMill$Thing")
  | 6 => .int
  | 7 => .int
  | _ => .int
abbrev wsX20 : List Cond := u_ws RX2 TX2 9
theorem nmX2 : ∀ a, a < 9 → ∀ b, b < 9 → a ≠ b → (TX2 a).2.1 ≠ (TX2 b).2.1 := by decide +kernel
theorem tyX2_ok : ∀ k, k < 9 → parseFieldDescriptor (TX2 k).2.2.1 = some (tyX2 k) := by decide +kernel
abbrev cX2_init : ByteArray := prog_6_method_1_code
def yX2_init : MethodName := ⟨RX2, "<init>", "()V"⟩
def dkwX2_init_4 : List UInt8 := [183, 0, 34, 181, 0, 42, 42, 16, 40, 181, 0, 45, 177]
abbrev dktX2_init_4 : List UInt8 := dkwX2_init_4 ++ []
def dkwX2_init_3 : List UInt8 := [181, 0, 35, 42, 187, 0, 32, 89, 16, 20, 183, 0, 34, 181, 0, 39, 42, 187, 0, 32, 89, 16, 8]
abbrev dktX2_init_3 : List UInt8 := dkwX2_init_3 ++ dktX2_init_4
def dkwX2_init_2 : List UInt8 := [187, 0, 23, 89, 5, 183, 0, 25, 83, 181, 0, 28, 42, 187, 0, 32, 89, 16, 12, 183, 0, 34]
abbrev dktX2_init_2 : List UInt8 := dkwX2_init_2 ++ dktX2_init_3
def dkwX2_init_1 : List UInt8 := [187, 0, 23, 89, 3, 183, 0, 25, 83, 89, 4, 187, 0, 23, 89, 4, 183, 0, 25, 83, 89, 5]
abbrev dktX2_init_1 : List UInt8 := dkwX2_init_1 ++ dktX2_init_2
def dkwX2_init_0 : List UInt8 := [42, 183, 0, 3, 42, 178, 0, 9, 182, 0, 15, 192, 0, 16, 181, 0, 20, 42, 6, 189, 0, 23, 89, 3]
abbrev dktX2_init_0 : List UInt8 := dkwX2_init_0 ++ dktX2_init_1
theorem dksX2_init_0 : cX2_init.data.toList.drop 0 = dktX2_init_0 := by decide +kernel
theorem dksX2_init_1 : cX2_init.data.toList.drop 24 = dktX2_init_1 := dk_seg dksX2_init_0 24 rfl rfl
theorem dksX2_init_2 : cX2_init.data.toList.drop 46 = dktX2_init_2 := dk_seg dksX2_init_1 22 rfl rfl
theorem dksX2_init_3 : cX2_init.data.toList.drop 68 = dktX2_init_3 := dk_seg dksX2_init_2 22 rfl rfl
theorem dksX2_init_4 : cX2_init.data.toList.drop 91 = dktX2_init_4 := dk_seg dksX2_init_3 23 rfl rfl
theorem dX2_init_0 : decode cX2_init 0 = .ok (.aload_n 0, 1) := dk_42 (dk_at dksX2_init_0 0 rfl rfl)
theorem dX2_init_1 : decode cX2_init 1 = .ok (.invokespecial 3, 3) := dk_183 0 3 (dk_at dksX2_init_0 1 rfl rfl)
theorem dX2_init_4 : decode cX2_init 4 = .ok (.aload_n 0, 1) := dk_42 (dk_at dksX2_init_0 4 rfl rfl)
theorem dX2_init_5 : decode cX2_init 5 = .ok (.getstatic 9, 3) := dk_178 0 9 (dk_at dksX2_init_0 5 rfl rfl)
theorem dX2_init_8 : decode cX2_init 8 = .ok (.invokevirtual 15, 3) := dk_182 0 15 (dk_at dksX2_init_0 8 rfl rfl)
theorem dX2_init_11 : decode cX2_init 11 = .ok (.checkcast 16, 3) := dk_192 0 16 (dk_at dksX2_init_0 11 rfl rfl)
theorem dX2_init_14 : decode cX2_init 14 = .ok (.putfield 20, 3) := dk_181 0 20 (dk_at dksX2_init_0 14 rfl rfl)
theorem dX2_init_17 : decode cX2_init 17 = .ok (.aload_n 0, 1) := dk_42 (dk_at dksX2_init_0 17 rfl rfl)
theorem dX2_init_18 : decode cX2_init 18 = .ok (.iconst 3, 1) := dk_6 (dk_at dksX2_init_0 18 rfl rfl)
theorem dX2_init_19 : decode cX2_init 19 = .ok (.anewarray 23, 3) := dk_189 0 23 (dk_at dksX2_init_0 19 rfl rfl)
theorem dX2_init_22 : decode cX2_init 22 = .ok (.dup, 1) := dk_89 (dk_at dksX2_init_0 22 rfl rfl)
theorem dX2_init_23 : decode cX2_init 23 = .ok (.iconst 0, 1) := dk_3 (dk_at dksX2_init_0 23 rfl rfl)
theorem dX2_init_24 : decode cX2_init 24 = .ok (.new 23, 3) := dk_187 0 23 (dk_at dksX2_init_1 0 rfl rfl)
theorem dX2_init_27 : decode cX2_init 27 = .ok (.dup, 1) := dk_89 (dk_at dksX2_init_1 3 rfl rfl)
theorem dX2_init_28 : decode cX2_init 28 = .ok (.iconst 0, 1) := dk_3 (dk_at dksX2_init_1 4 rfl rfl)
theorem dX2_init_29 : decode cX2_init 29 = .ok (.invokespecial 25, 3) := dk_183 0 25 (dk_at dksX2_init_1 5 rfl rfl)
theorem dX2_init_32 : decode cX2_init 32 = .ok (.aastore, 1) := dk_83 (dk_at dksX2_init_1 8 rfl rfl)
theorem dX2_init_33 : decode cX2_init 33 = .ok (.dup, 1) := dk_89 (dk_at dksX2_init_1 9 rfl rfl)
theorem dX2_init_34 : decode cX2_init 34 = .ok (.iconst 1, 1) := dk_4 (dk_at dksX2_init_1 10 rfl rfl)
theorem dX2_init_35 : decode cX2_init 35 = .ok (.new 23, 3) := dk_187 0 23 (dk_at dksX2_init_1 11 rfl rfl)
theorem dX2_init_38 : decode cX2_init 38 = .ok (.dup, 1) := dk_89 (dk_at dksX2_init_1 14 rfl rfl)
theorem dX2_init_39 : decode cX2_init 39 = .ok (.iconst 1, 1) := dk_4 (dk_at dksX2_init_1 15 rfl rfl)
theorem dX2_init_40 : decode cX2_init 40 = .ok (.invokespecial 25, 3) := dk_183 0 25 (dk_at dksX2_init_1 16 rfl rfl)
theorem dX2_init_43 : decode cX2_init 43 = .ok (.aastore, 1) := dk_83 (dk_at dksX2_init_1 19 rfl rfl)
theorem dX2_init_44 : decode cX2_init 44 = .ok (.dup, 1) := dk_89 (dk_at dksX2_init_1 20 rfl rfl)
theorem dX2_init_45 : decode cX2_init 45 = .ok (.iconst 2, 1) := dk_5 (dk_at dksX2_init_1 21 rfl rfl)
theorem dX2_init_46 : decode cX2_init 46 = .ok (.new 23, 3) := dk_187 0 23 (dk_at dksX2_init_2 0 rfl rfl)
theorem dX2_init_49 : decode cX2_init 49 = .ok (.dup, 1) := dk_89 (dk_at dksX2_init_2 3 rfl rfl)
theorem dX2_init_50 : decode cX2_init 50 = .ok (.iconst 2, 1) := dk_5 (dk_at dksX2_init_2 4 rfl rfl)
theorem dX2_init_51 : decode cX2_init 51 = .ok (.invokespecial 25, 3) := dk_183 0 25 (dk_at dksX2_init_2 5 rfl rfl)
theorem dX2_init_54 : decode cX2_init 54 = .ok (.aastore, 1) := dk_83 (dk_at dksX2_init_2 8 rfl rfl)
theorem dX2_init_55 : decode cX2_init 55 = .ok (.putfield 28, 3) := dk_181 0 28 (dk_at dksX2_init_2 9 rfl rfl)
theorem dX2_init_58 : decode cX2_init 58 = .ok (.aload_n 0, 1) := dk_42 (dk_at dksX2_init_2 12 rfl rfl)
theorem dX2_init_59 : decode cX2_init 59 = .ok (.new 32, 3) := dk_187 0 32 (dk_at dksX2_init_2 13 rfl rfl)
theorem dX2_init_62 : decode cX2_init 62 = .ok (.dup, 1) := dk_89 (dk_at dksX2_init_2 16 rfl rfl)
theorem dX2_init_63 : decode cX2_init 63 = .ok (.bipush 12, 2) := dk_16 12 (dk_at dksX2_init_2 17 rfl rfl)
theorem dX2_init_65 : decode cX2_init 65 = .ok (.invokespecial 34, 3) := dk_183 0 34 (dk_at dksX2_init_2 19 rfl rfl)
theorem dX2_init_68 : decode cX2_init 68 = .ok (.putfield 35, 3) := dk_181 0 35 (dk_at dksX2_init_3 0 rfl rfl)
theorem dX2_init_71 : decode cX2_init 71 = .ok (.aload_n 0, 1) := dk_42 (dk_at dksX2_init_3 3 rfl rfl)
theorem dX2_init_72 : decode cX2_init 72 = .ok (.new 32, 3) := dk_187 0 32 (dk_at dksX2_init_3 4 rfl rfl)
theorem dX2_init_75 : decode cX2_init 75 = .ok (.dup, 1) := dk_89 (dk_at dksX2_init_3 7 rfl rfl)
theorem dX2_init_76 : decode cX2_init 76 = .ok (.bipush 20, 2) := dk_16 20 (dk_at dksX2_init_3 8 rfl rfl)
theorem dX2_init_78 : decode cX2_init 78 = .ok (.invokespecial 34, 3) := dk_183 0 34 (dk_at dksX2_init_3 10 rfl rfl)
theorem dX2_init_81 : decode cX2_init 81 = .ok (.putfield 39, 3) := dk_181 0 39 (dk_at dksX2_init_3 13 rfl rfl)
theorem dX2_init_84 : decode cX2_init 84 = .ok (.aload_n 0, 1) := dk_42 (dk_at dksX2_init_3 16 rfl rfl)
theorem dX2_init_85 : decode cX2_init 85 = .ok (.new 32, 3) := dk_187 0 32 (dk_at dksX2_init_3 17 rfl rfl)
theorem dX2_init_88 : decode cX2_init 88 = .ok (.dup, 1) := dk_89 (dk_at dksX2_init_3 20 rfl rfl)
theorem dX2_init_89 : decode cX2_init 89 = .ok (.bipush 8, 2) := dk_16 8 (dk_at dksX2_init_3 21 rfl rfl)
theorem dX2_init_91 : decode cX2_init 91 = .ok (.invokespecial 34, 3) := dk_183 0 34 (dk_at dksX2_init_4 0 rfl rfl)
theorem dX2_init_94 : decode cX2_init 94 = .ok (.putfield 42, 3) := dk_181 0 42 (dk_at dksX2_init_4 3 rfl rfl)
theorem dX2_init_97 : decode cX2_init 97 = .ok (.aload_n 0, 1) := dk_42 (dk_at dksX2_init_4 6 rfl rfl)
theorem dX2_init_98 : decode cX2_init 98 = .ok (.bipush 40, 2) := dk_16 40 (dk_at dksX2_init_4 7 rfl rfl)
theorem dX2_init_100 : decode cX2_init 100 = .ok (.putfield 45, 3) := dk_181 0 45 (dk_at dksX2_init_4 9 rfl rfl)
theorem dX2_init_103 : decode cX2_init 103 = .ok (.return_, 1) := dk_177 (dk_at dksX2_init_4 12 rfl rfl)
abbrev cX2_told : ByteArray := prog_6_method_31_code
def yX2_told : MethodName := ⟨RX2, "told", "()Ljava/lang/String;"⟩
def dkwX2_told_2 : List UInt8 := [167, 255, 222, 43, 42, 180, 0, 45, 182, 1, 52, 16, 112, 182, 1, 64, 182, 1, 67, 176]
abbrev dktX2_told_2 : List UInt8 := dkwX2_told_2 ++ []
def dkwX2_told_1 : List UInt8 := [182, 1, 52, 19, 1, 56, 28, 182, 1, 58, 182, 1, 64, 16, 32, 182, 1, 64, 78, 132, 2, 1]
abbrev dktX2_told_1 : List UInt8 := dkwX2_told_1 ++ dktX2_told_2
def dkwX2_told_0 : List UInt8 := [187, 1, 49, 89, 183, 1, 51, 76, 3, 61, 28, 7, 163, 0, 35, 43, 42, 180, 0, 20, 28, 46]
abbrev dktX2_told_0 : List UInt8 := dkwX2_told_0 ++ dktX2_told_1
theorem dksX2_told_0 : cX2_told.data.toList.drop 0 = dktX2_told_0 := by decide +kernel
theorem dksX2_told_1 : cX2_told.data.toList.drop 22 = dktX2_told_1 := dk_seg dksX2_told_0 22 rfl rfl
theorem dksX2_told_2 : cX2_told.data.toList.drop 44 = dktX2_told_2 := dk_seg dksX2_told_1 22 rfl rfl
theorem dX2_told_0 : decode cX2_told 0 = .ok (.new 305, 3) := dk_187 1 49 (dk_at dksX2_told_0 0 rfl rfl)
theorem dX2_told_3 : decode cX2_told 3 = .ok (.dup, 1) := dk_89 (dk_at dksX2_told_0 3 rfl rfl)
theorem dX2_told_4 : decode cX2_told 4 = .ok (.invokespecial 307, 3) := dk_183 1 51 (dk_at dksX2_told_0 4 rfl rfl)
theorem dX2_told_7 : decode cX2_told 7 = .ok (.astore_n 1, 1) := dk_76 (dk_at dksX2_told_0 7 rfl rfl)
theorem dX2_told_8 : decode cX2_told 8 = .ok (.iconst 0, 1) := dk_3 (dk_at dksX2_told_0 8 rfl rfl)
theorem dX2_told_9 : decode cX2_told 9 = .ok (.istore_n 2, 1) := dk_61 (dk_at dksX2_told_0 9 rfl rfl)
theorem dX2_told_10 : decode cX2_told 10 = .ok (.iload_n 2, 1) := dk_28 (dk_at dksX2_told_0 10 rfl rfl)
theorem dX2_told_11 : decode cX2_told 11 = .ok (.iconst 4, 1) := dk_7 (dk_at dksX2_told_0 11 rfl rfl)
theorem dX2_told_12 : decode cX2_told 12 = .ok (.if_icmp .gt 35, 3) := dk_163 0 35 (dk_at dksX2_told_0 12 rfl rfl)
theorem dX2_told_15 : decode cX2_told 15 = .ok (.aload_n 1, 1) := dk_43 (dk_at dksX2_told_0 15 rfl rfl)
theorem dX2_told_16 : decode cX2_told 16 = .ok (.aload_n 0, 1) := dk_42 (dk_at dksX2_told_0 16 rfl rfl)
theorem dX2_told_17 : decode cX2_told 17 = .ok (.getfield 20, 3) := dk_180 0 20 (dk_at dksX2_told_0 17 rfl rfl)
theorem dX2_told_20 : decode cX2_told 20 = .ok (.iload_n 2, 1) := dk_28 (dk_at dksX2_told_0 20 rfl rfl)
theorem dX2_told_21 : decode cX2_told 21 = .ok (.iaload, 1) := dk_46 (dk_at dksX2_told_0 21 rfl rfl)
theorem dX2_told_22 : decode cX2_told 22 = .ok (.invokevirtual 308, 3) := dk_182 1 52 (dk_at dksX2_told_1 0 rfl rfl)
theorem dX2_told_25 : decode cX2_told 25 = .ok (.ldc_w 312, 3) := dk_19 1 56 (dk_at dksX2_told_1 3 rfl rfl)
theorem dX2_told_28 : decode cX2_told 28 = .ok (.iload_n 2, 1) := dk_28 (dk_at dksX2_told_1 6 rfl rfl)
theorem dX2_told_29 : decode cX2_told 29 = .ok (.invokevirtual 314, 3) := dk_182 1 58 (dk_at dksX2_told_1 7 rfl rfl)
theorem dX2_told_32 : decode cX2_told 32 = .ok (.invokevirtual 320, 3) := dk_182 1 64 (dk_at dksX2_told_1 10 rfl rfl)
theorem dX2_told_35 : decode cX2_told 35 = .ok (.bipush 32, 2) := dk_16 32 (dk_at dksX2_told_1 13 rfl rfl)
theorem dX2_told_37 : decode cX2_told 37 = .ok (.invokevirtual 320, 3) := dk_182 1 64 (dk_at dksX2_told_1 15 rfl rfl)
theorem dX2_told_40 : decode cX2_told 40 = .ok (.astore_n 3, 1) := dk_78 (dk_at dksX2_told_1 18 rfl rfl)
theorem dX2_told_41 : decode cX2_told 41 = .ok (.iinc 2 1, 3) := dk_132 2 1 (dk_at dksX2_told_1 19 rfl rfl)
theorem dX2_told_44 : decode cX2_told 44 = .ok (.goto (-34), 3) := dk_167 255 222 (dk_at dksX2_told_2 0 rfl rfl)
theorem dX2_told_47 : decode cX2_told 47 = .ok (.aload_n 1, 1) := dk_43 (dk_at dksX2_told_2 3 rfl rfl)
theorem dX2_told_48 : decode cX2_told 48 = .ok (.aload_n 0, 1) := dk_42 (dk_at dksX2_told_2 4 rfl rfl)
theorem dX2_told_49 : decode cX2_told 49 = .ok (.getfield 45, 3) := dk_180 0 45 (dk_at dksX2_told_2 5 rfl rfl)
theorem dX2_told_52 : decode cX2_told 52 = .ok (.invokevirtual 308, 3) := dk_182 1 52 (dk_at dksX2_told_2 8 rfl rfl)
theorem dX2_told_55 : decode cX2_told 55 = .ok (.bipush 112, 2) := dk_16 112 (dk_at dksX2_told_2 11 rfl rfl)
theorem dX2_told_57 : decode cX2_told 57 = .ok (.invokevirtual 320, 3) := dk_182 1 64 (dk_at dksX2_told_2 13 rfl rfl)
theorem dX2_told_60 : decode cX2_told 60 = .ok (.invokevirtual 323, 3) := dk_182 1 67 (dk_at dksX2_told_2 16 rfl rfl)
theorem dX2_told_63 : decode cX2_told 63 = .ok (.areturn, 1) := dk_176 (dk_at dksX2_told_2 19 rfl rfl)
abbrev cX2_copy : ByteArray := prog_6_method_2_code
def yX2_copy : MethodName := ⟨RX2, "copy", "()LMustardMill$Mill;"⟩
def dkwX2_copy_10 : List UInt8 := [180, 0, 94, 181, 0, 94, 43, 176]
abbrev dktX2_copy_10 : List UInt8 := dkwX2_copy_10 ++ []
def dkwX2_copy_9 : List UInt8 := [192, 0, 90, 181, 0, 85, 43, 42, 180, 0, 45, 181, 0, 45, 43, 42, 180, 0, 91, 181, 0, 91, 43, 42]
abbrev dktX2_copy_9 : List UInt8 := dkwX2_copy_9 ++ dktX2_copy_10
def dkwX2_copy_8 : List UInt8 := [167, 255, 224, 43, 42, 180, 0, 85, 199, 0, 7, 1, 167, 0, 13, 42, 180, 0, 85, 182, 0, 89]
abbrev dktX2_copy_8 : List UInt8 := dkwX2_copy_8 ++ dktX2_copy_9
def dkwX2_copy_7 : List UInt8 := [185, 0, 63, 1, 0, 192, 0, 80, 78, 43, 180, 0, 42, 45, 182, 0, 82, 182, 0, 71, 54, 4]
abbrev dktX2_copy_7 : List UInt8 := dkwX2_copy_7 ++ dktX2_copy_8
def dkwX2_copy_6 : List UInt8 := [167, 255, 224, 42, 180, 0, 42, 182, 0, 53, 77, 44, 185, 0, 57, 1, 0, 153, 0, 29, 44]
abbrev dktX2_copy_6 : List UInt8 := dkwX2_copy_6 ++ dktX2_copy_7
def dkwX2_copy_5 : List UInt8 := [185, 0, 63, 1, 0, 192, 0, 75, 78, 43, 180, 0, 39, 45, 182, 0, 77, 182, 0, 71, 54, 4]
abbrev dktX2_copy_5 : List UInt8 := dkwX2_copy_5 ++ dktX2_copy_6
def dkwX2_copy_4 : List UInt8 := [167, 255, 224, 42, 180, 0, 39, 182, 0, 53, 77, 44, 185, 0, 57, 1, 0, 153, 0, 29, 44]
abbrev dktX2_copy_4 : List UInt8 := dkwX2_copy_4 ++ dktX2_copy_5
def dkwX2_copy_3 : List UInt8 := [185, 0, 63, 1, 0, 192, 0, 66, 78, 43, 180, 0, 35, 45, 182, 0, 68, 182, 0, 71, 54, 4]
abbrev dktX2_copy_3 : List UInt8 := dkwX2_copy_3 ++ dktX2_copy_4
def dkwX2_copy_2 : List UInt8 := [167, 255, 233, 42, 180, 0, 35, 182, 0, 53, 77, 44, 185, 0, 57, 1, 0, 153, 0, 29, 44]
abbrev dktX2_copy_2 : List UInt8 := dkwX2_copy_2 ++ dktX2_copy_3
def dkwX2_copy_1 : List UInt8 := [28, 6, 162, 0, 24, 43, 180, 0, 28, 28, 42, 180, 0, 28, 28, 50, 182, 0, 50, 83, 132, 2, 1]
abbrev dktX2_copy_1 : List UInt8 := dkwX2_copy_1 ++ dktX2_copy_2
def dkwX2_copy_0 : List UInt8 := [187, 0, 10, 89, 183, 0, 49, 76, 43, 42, 180, 0, 20, 182, 0, 15, 192, 0, 16, 181, 0, 20, 3, 61]
abbrev dktX2_copy_0 : List UInt8 := dkwX2_copy_0 ++ dktX2_copy_1
theorem dksX2_copy_0 : cX2_copy.data.toList.drop 0 = dktX2_copy_0 := by decide +kernel
theorem dksX2_copy_1 : cX2_copy.data.toList.drop 24 = dktX2_copy_1 := dk_seg dksX2_copy_0 24 rfl rfl
theorem dksX2_copy_2 : cX2_copy.data.toList.drop 47 = dktX2_copy_2 := dk_seg dksX2_copy_1 23 rfl rfl
theorem dksX2_copy_3 : cX2_copy.data.toList.drop 68 = dktX2_copy_3 := dk_seg dksX2_copy_2 21 rfl rfl
theorem dksX2_copy_4 : cX2_copy.data.toList.drop 90 = dktX2_copy_4 := dk_seg dksX2_copy_3 22 rfl rfl
theorem dksX2_copy_5 : cX2_copy.data.toList.drop 111 = dktX2_copy_5 := dk_seg dksX2_copy_4 21 rfl rfl
theorem dksX2_copy_6 : cX2_copy.data.toList.drop 133 = dktX2_copy_6 := dk_seg dksX2_copy_5 22 rfl rfl
theorem dksX2_copy_7 : cX2_copy.data.toList.drop 154 = dktX2_copy_7 := dk_seg dksX2_copy_6 21 rfl rfl
theorem dksX2_copy_8 : cX2_copy.data.toList.drop 176 = dktX2_copy_8 := dk_seg dksX2_copy_7 22 rfl rfl
theorem dksX2_copy_9 : cX2_copy.data.toList.drop 198 = dktX2_copy_9 := dk_seg dksX2_copy_8 22 rfl rfl
theorem dksX2_copy_10 : cX2_copy.data.toList.drop 222 = dktX2_copy_10 := dk_seg dksX2_copy_9 24 rfl rfl
theorem dX2_copy_0 : decode cX2_copy 0 = .ok (.new 10, 3) := dk_187 0 10 (dk_at dksX2_copy_0 0 rfl rfl)
theorem dX2_copy_3 : decode cX2_copy 3 = .ok (.dup, 1) := dk_89 (dk_at dksX2_copy_0 3 rfl rfl)
theorem dX2_copy_4 : decode cX2_copy 4 = .ok (.invokespecial 49, 3) := dk_183 0 49 (dk_at dksX2_copy_0 4 rfl rfl)
theorem dX2_copy_7 : decode cX2_copy 7 = .ok (.astore_n 1, 1) := dk_76 (dk_at dksX2_copy_0 7 rfl rfl)
theorem dX2_copy_8 : decode cX2_copy 8 = .ok (.aload_n 1, 1) := dk_43 (dk_at dksX2_copy_0 8 rfl rfl)
theorem dX2_copy_9 : decode cX2_copy 9 = .ok (.aload_n 0, 1) := dk_42 (dk_at dksX2_copy_0 9 rfl rfl)
theorem dX2_copy_10 : decode cX2_copy 10 = .ok (.getfield 20, 3) := dk_180 0 20 (dk_at dksX2_copy_0 10 rfl rfl)
theorem dX2_copy_13 : decode cX2_copy 13 = .ok (.invokevirtual 15, 3) := dk_182 0 15 (dk_at dksX2_copy_0 13 rfl rfl)
theorem dX2_copy_16 : decode cX2_copy 16 = .ok (.checkcast 16, 3) := dk_192 0 16 (dk_at dksX2_copy_0 16 rfl rfl)
theorem dX2_copy_19 : decode cX2_copy 19 = .ok (.putfield 20, 3) := dk_181 0 20 (dk_at dksX2_copy_0 19 rfl rfl)
theorem dX2_copy_22 : decode cX2_copy 22 = .ok (.iconst 0, 1) := dk_3 (dk_at dksX2_copy_0 22 rfl rfl)
theorem dX2_copy_23 : decode cX2_copy 23 = .ok (.istore_n 2, 1) := dk_61 (dk_at dksX2_copy_0 23 rfl rfl)
theorem dX2_copy_24 : decode cX2_copy 24 = .ok (.iload_n 2, 1) := dk_28 (dk_at dksX2_copy_1 0 rfl rfl)
theorem dX2_copy_25 : decode cX2_copy 25 = .ok (.iconst 3, 1) := dk_6 (dk_at dksX2_copy_1 1 rfl rfl)
theorem dX2_copy_26 : decode cX2_copy 26 = .ok (.if_icmp .ge 24, 3) := dk_162 0 24 (dk_at dksX2_copy_1 2 rfl rfl)
theorem dX2_copy_29 : decode cX2_copy 29 = .ok (.aload_n 1, 1) := dk_43 (dk_at dksX2_copy_1 5 rfl rfl)
theorem dX2_copy_30 : decode cX2_copy 30 = .ok (.getfield 28, 3) := dk_180 0 28 (dk_at dksX2_copy_1 6 rfl rfl)
theorem dX2_copy_33 : decode cX2_copy 33 = .ok (.iload_n 2, 1) := dk_28 (dk_at dksX2_copy_1 9 rfl rfl)
theorem dX2_copy_34 : decode cX2_copy 34 = .ok (.aload_n 0, 1) := dk_42 (dk_at dksX2_copy_1 10 rfl rfl)
theorem dX2_copy_35 : decode cX2_copy 35 = .ok (.getfield 28, 3) := dk_180 0 28 (dk_at dksX2_copy_1 11 rfl rfl)
theorem dX2_copy_38 : decode cX2_copy 38 = .ok (.iload_n 2, 1) := dk_28 (dk_at dksX2_copy_1 14 rfl rfl)
theorem dX2_copy_39 : decode cX2_copy 39 = .ok (.aaload, 1) := dk_50 (dk_at dksX2_copy_1 15 rfl rfl)
theorem dX2_copy_40 : decode cX2_copy 40 = .ok (.invokevirtual 50, 3) := dk_182 0 50 (dk_at dksX2_copy_1 16 rfl rfl)
theorem dX2_copy_43 : decode cX2_copy 43 = .ok (.aastore, 1) := dk_83 (dk_at dksX2_copy_1 19 rfl rfl)
theorem dX2_copy_44 : decode cX2_copy 44 = .ok (.iinc 2 1, 3) := dk_132 2 1 (dk_at dksX2_copy_1 20 rfl rfl)
theorem dX2_copy_47 : decode cX2_copy 47 = .ok (.goto (-23), 3) := dk_167 255 233 (dk_at dksX2_copy_2 0 rfl rfl)
theorem dX2_copy_50 : decode cX2_copy 50 = .ok (.aload_n 0, 1) := dk_42 (dk_at dksX2_copy_2 3 rfl rfl)
theorem dX2_copy_51 : decode cX2_copy 51 = .ok (.getfield 35, 3) := dk_180 0 35 (dk_at dksX2_copy_2 4 rfl rfl)
theorem dX2_copy_54 : decode cX2_copy 54 = .ok (.invokevirtual 53, 3) := dk_182 0 53 (dk_at dksX2_copy_2 7 rfl rfl)
theorem dX2_copy_57 : decode cX2_copy 57 = .ok (.astore_n 2, 1) := dk_77 (dk_at dksX2_copy_2 10 rfl rfl)
theorem dX2_copy_58 : decode cX2_copy 58 = .ok (.aload_n 2, 1) := dk_44 (dk_at dksX2_copy_2 11 rfl rfl)
theorem dX2_copy_59 : decode cX2_copy 59 = .ok (.invokeinterface 57 1, 5) := by decide +kernel
theorem dX2_copy_64 : decode cX2_copy 64 = .ok (.ifCond .eq 29, 3) := dk_153 0 29 (dk_at dksX2_copy_2 17 rfl rfl)
theorem dX2_copy_67 : decode cX2_copy 67 = .ok (.aload_n 2, 1) := dk_44 (dk_at dksX2_copy_2 20 rfl rfl)
theorem dX2_copy_68 : decode cX2_copy 68 = .ok (.invokeinterface 63 1, 5) := by decide +kernel
theorem dX2_copy_73 : decode cX2_copy 73 = .ok (.checkcast 66, 3) := dk_192 0 66 (dk_at dksX2_copy_3 5 rfl rfl)
theorem dX2_copy_76 : decode cX2_copy 76 = .ok (.astore_n 3, 1) := dk_78 (dk_at dksX2_copy_3 8 rfl rfl)
theorem dX2_copy_77 : decode cX2_copy 77 = .ok (.aload_n 1, 1) := dk_43 (dk_at dksX2_copy_3 9 rfl rfl)
theorem dX2_copy_78 : decode cX2_copy 78 = .ok (.getfield 35, 3) := dk_180 0 35 (dk_at dksX2_copy_3 10 rfl rfl)
theorem dX2_copy_81 : decode cX2_copy 81 = .ok (.aload_n 3, 1) := dk_45 (dk_at dksX2_copy_3 13 rfl rfl)
theorem dX2_copy_82 : decode cX2_copy 82 = .ok (.invokevirtual 68, 3) := dk_182 0 68 (dk_at dksX2_copy_3 14 rfl rfl)
theorem dX2_copy_85 : decode cX2_copy 85 = .ok (.invokevirtual 71, 3) := dk_182 0 71 (dk_at dksX2_copy_3 17 rfl rfl)
theorem dX2_copy_88 : decode cX2_copy 88 = .ok (.istore 4, 2) := dk_54 4 (dk_at dksX2_copy_3 20 rfl rfl)
theorem dX2_copy_90 : decode cX2_copy 90 = .ok (.goto (-32), 3) := dk_167 255 224 (dk_at dksX2_copy_4 0 rfl rfl)
theorem dX2_copy_93 : decode cX2_copy 93 = .ok (.aload_n 0, 1) := dk_42 (dk_at dksX2_copy_4 3 rfl rfl)
theorem dX2_copy_94 : decode cX2_copy 94 = .ok (.getfield 39, 3) := dk_180 0 39 (dk_at dksX2_copy_4 4 rfl rfl)
theorem dX2_copy_97 : decode cX2_copy 97 = .ok (.invokevirtual 53, 3) := dk_182 0 53 (dk_at dksX2_copy_4 7 rfl rfl)
theorem dX2_copy_100 : decode cX2_copy 100 = .ok (.astore_n 2, 1) := dk_77 (dk_at dksX2_copy_4 10 rfl rfl)
theorem dX2_copy_101 : decode cX2_copy 101 = .ok (.aload_n 2, 1) := dk_44 (dk_at dksX2_copy_4 11 rfl rfl)
theorem dX2_copy_102 : decode cX2_copy 102 = .ok (.invokeinterface 57 1, 5) := by decide +kernel
theorem dX2_copy_107 : decode cX2_copy 107 = .ok (.ifCond .eq 29, 3) := dk_153 0 29 (dk_at dksX2_copy_4 17 rfl rfl)
theorem dX2_copy_110 : decode cX2_copy 110 = .ok (.aload_n 2, 1) := dk_44 (dk_at dksX2_copy_4 20 rfl rfl)
theorem dX2_copy_111 : decode cX2_copy 111 = .ok (.invokeinterface 63 1, 5) := by decide +kernel
theorem dX2_copy_116 : decode cX2_copy 116 = .ok (.checkcast 75, 3) := dk_192 0 75 (dk_at dksX2_copy_5 5 rfl rfl)
theorem dX2_copy_119 : decode cX2_copy 119 = .ok (.astore_n 3, 1) := dk_78 (dk_at dksX2_copy_5 8 rfl rfl)
theorem dX2_copy_120 : decode cX2_copy 120 = .ok (.aload_n 1, 1) := dk_43 (dk_at dksX2_copy_5 9 rfl rfl)
theorem dX2_copy_121 : decode cX2_copy 121 = .ok (.getfield 39, 3) := dk_180 0 39 (dk_at dksX2_copy_5 10 rfl rfl)
theorem dX2_copy_124 : decode cX2_copy 124 = .ok (.aload_n 3, 1) := dk_45 (dk_at dksX2_copy_5 13 rfl rfl)
theorem dX2_copy_125 : decode cX2_copy 125 = .ok (.invokevirtual 77, 3) := dk_182 0 77 (dk_at dksX2_copy_5 14 rfl rfl)
theorem dX2_copy_128 : decode cX2_copy 128 = .ok (.invokevirtual 71, 3) := dk_182 0 71 (dk_at dksX2_copy_5 17 rfl rfl)
theorem dX2_copy_131 : decode cX2_copy 131 = .ok (.istore 4, 2) := dk_54 4 (dk_at dksX2_copy_5 20 rfl rfl)
theorem dX2_copy_133 : decode cX2_copy 133 = .ok (.goto (-32), 3) := dk_167 255 224 (dk_at dksX2_copy_6 0 rfl rfl)
theorem dX2_copy_136 : decode cX2_copy 136 = .ok (.aload_n 0, 1) := dk_42 (dk_at dksX2_copy_6 3 rfl rfl)
theorem dX2_copy_137 : decode cX2_copy 137 = .ok (.getfield 42, 3) := dk_180 0 42 (dk_at dksX2_copy_6 4 rfl rfl)
theorem dX2_copy_140 : decode cX2_copy 140 = .ok (.invokevirtual 53, 3) := dk_182 0 53 (dk_at dksX2_copy_6 7 rfl rfl)
theorem dX2_copy_143 : decode cX2_copy 143 = .ok (.astore_n 2, 1) := dk_77 (dk_at dksX2_copy_6 10 rfl rfl)
theorem dX2_copy_144 : decode cX2_copy 144 = .ok (.aload_n 2, 1) := dk_44 (dk_at dksX2_copy_6 11 rfl rfl)
theorem dX2_copy_145 : decode cX2_copy 145 = .ok (.invokeinterface 57 1, 5) := by decide +kernel
theorem dX2_copy_150 : decode cX2_copy 150 = .ok (.ifCond .eq 29, 3) := dk_153 0 29 (dk_at dksX2_copy_6 17 rfl rfl)
theorem dX2_copy_153 : decode cX2_copy 153 = .ok (.aload_n 2, 1) := dk_44 (dk_at dksX2_copy_6 20 rfl rfl)
theorem dX2_copy_154 : decode cX2_copy 154 = .ok (.invokeinterface 63 1, 5) := by decide +kernel
theorem dX2_copy_159 : decode cX2_copy 159 = .ok (.checkcast 80, 3) := dk_192 0 80 (dk_at dksX2_copy_7 5 rfl rfl)
theorem dX2_copy_162 : decode cX2_copy 162 = .ok (.astore_n 3, 1) := dk_78 (dk_at dksX2_copy_7 8 rfl rfl)
theorem dX2_copy_163 : decode cX2_copy 163 = .ok (.aload_n 1, 1) := dk_43 (dk_at dksX2_copy_7 9 rfl rfl)
theorem dX2_copy_164 : decode cX2_copy 164 = .ok (.getfield 42, 3) := dk_180 0 42 (dk_at dksX2_copy_7 10 rfl rfl)
theorem dX2_copy_167 : decode cX2_copy 167 = .ok (.aload_n 3, 1) := dk_45 (dk_at dksX2_copy_7 13 rfl rfl)
theorem dX2_copy_168 : decode cX2_copy 168 = .ok (.invokevirtual 82, 3) := dk_182 0 82 (dk_at dksX2_copy_7 14 rfl rfl)
theorem dX2_copy_171 : decode cX2_copy 171 = .ok (.invokevirtual 71, 3) := dk_182 0 71 (dk_at dksX2_copy_7 17 rfl rfl)
theorem dX2_copy_174 : decode cX2_copy 174 = .ok (.istore 4, 2) := dk_54 4 (dk_at dksX2_copy_7 20 rfl rfl)
theorem dX2_copy_176 : decode cX2_copy 176 = .ok (.goto (-32), 3) := dk_167 255 224 (dk_at dksX2_copy_8 0 rfl rfl)
theorem dX2_copy_179 : decode cX2_copy 179 = .ok (.aload_n 1, 1) := dk_43 (dk_at dksX2_copy_8 3 rfl rfl)
theorem dX2_copy_180 : decode cX2_copy 180 = .ok (.aload_n 0, 1) := dk_42 (dk_at dksX2_copy_8 4 rfl rfl)
theorem dX2_copy_181 : decode cX2_copy 181 = .ok (.getfield 85, 3) := dk_180 0 85 (dk_at dksX2_copy_8 5 rfl rfl)
theorem dX2_copy_184 : decode cX2_copy 184 = .ok (.ifnonnull 7, 3) := dk_199 0 7 (dk_at dksX2_copy_8 8 rfl rfl)
theorem dX2_copy_187 : decode cX2_copy 187 = .ok (.aconst_null, 1) := dk_1 (dk_at dksX2_copy_8 11 rfl rfl)
theorem dX2_copy_188 : decode cX2_copy 188 = .ok (.goto 13, 3) := dk_167 0 13 (dk_at dksX2_copy_8 12 rfl rfl)
theorem dX2_copy_191 : decode cX2_copy 191 = .ok (.aload_n 0, 1) := dk_42 (dk_at dksX2_copy_8 15 rfl rfl)
theorem dX2_copy_192 : decode cX2_copy 192 = .ok (.getfield 85, 3) := dk_180 0 85 (dk_at dksX2_copy_8 16 rfl rfl)
theorem dX2_copy_195 : decode cX2_copy 195 = .ok (.invokevirtual 89, 3) := dk_182 0 89 (dk_at dksX2_copy_8 19 rfl rfl)
theorem dX2_copy_198 : decode cX2_copy 198 = .ok (.checkcast 90, 3) := dk_192 0 90 (dk_at dksX2_copy_9 0 rfl rfl)
theorem dX2_copy_201 : decode cX2_copy 201 = .ok (.putfield 85, 3) := dk_181 0 85 (dk_at dksX2_copy_9 3 rfl rfl)
theorem dX2_copy_204 : decode cX2_copy 204 = .ok (.aload_n 1, 1) := dk_43 (dk_at dksX2_copy_9 6 rfl rfl)
theorem dX2_copy_205 : decode cX2_copy 205 = .ok (.aload_n 0, 1) := dk_42 (dk_at dksX2_copy_9 7 rfl rfl)
theorem dX2_copy_206 : decode cX2_copy 206 = .ok (.getfield 45, 3) := dk_180 0 45 (dk_at dksX2_copy_9 8 rfl rfl)
theorem dX2_copy_209 : decode cX2_copy 209 = .ok (.putfield 45, 3) := dk_181 0 45 (dk_at dksX2_copy_9 11 rfl rfl)
theorem dX2_copy_212 : decode cX2_copy 212 = .ok (.aload_n 1, 1) := dk_43 (dk_at dksX2_copy_9 14 rfl rfl)
theorem dX2_copy_213 : decode cX2_copy 213 = .ok (.aload_n 0, 1) := dk_42 (dk_at dksX2_copy_9 15 rfl rfl)
theorem dX2_copy_214 : decode cX2_copy 214 = .ok (.getfield 91, 3) := dk_180 0 91 (dk_at dksX2_copy_9 16 rfl rfl)
theorem dX2_copy_217 : decode cX2_copy 217 = .ok (.putfield 91, 3) := dk_181 0 91 (dk_at dksX2_copy_9 19 rfl rfl)
theorem dX2_copy_220 : decode cX2_copy 220 = .ok (.aload_n 1, 1) := dk_43 (dk_at dksX2_copy_9 22 rfl rfl)
theorem dX2_copy_221 : decode cX2_copy 221 = .ok (.aload_n 0, 1) := dk_42 (dk_at dksX2_copy_9 23 rfl rfl)
theorem dX2_copy_222 : decode cX2_copy 222 = .ok (.getfield 94, 3) := dk_180 0 94 (dk_at dksX2_copy_10 0 rfl rfl)
theorem dX2_copy_225 : decode cX2_copy 225 = .ok (.putfield 94, 3) := dk_181 0 94 (dk_at dksX2_copy_10 3 rfl rfl)
theorem dX2_copy_228 : decode cX2_copy 228 = .ok (.aload_n 1, 1) := dk_43 (dk_at dksX2_copy_10 6 rfl rfl)
theorem dX2_copy_229 : decode cX2_copy 229 = .ok (.areturn, 1) := dk_176 (dk_at dksX2_copy_10 7 rfl rfl)
abbrev cX2_grind : ByteArray := prog_6_method_10_code
def yX2_grind : MethodName := ⟨RX2, "grind", "(I[I)I"⟩
def dkwX2_grind_8 : List UInt8 := [180, 0, 173, 21, 4, 96, 181, 0, 173, 42, 180, 0, 35, 25, 6, 182, 0, 71, 172]
abbrev dktX2_grind_8 : List UInt8 := dkwX2_grind_8 ++ []
def dkwX2_grind_7 : List UInt8 := [132, 7, 1, 167, 255, 233, 45, 89, 180, 0, 142, 4, 100, 181, 0, 142, 45, 21, 5, 181, 0, 139, 45, 89]
abbrev dktX2_grind_7 : List UInt8 := dkwX2_grind_7 ++ dktX2_grind_8
def dkwX2_grind_6 : List UInt8 := [54, 7, 21, 7, 6, 162, 0, 23, 42, 180, 0, 20, 21, 7, 92, 46, 44, 21, 7, 46, 100, 79]
abbrev dktX2_grind_6 : List UInt8 := dkwX2_grind_6 ++ dktX2_grind_7
def dkwX2_grind_5 : List UInt8 := [182, 0, 166, 21, 4, 16, 9, 45, 180, 0, 142, 100, 21, 5, 44, 184, 0, 157, 183, 0, 170, 58, 6, 3]
abbrev dktX2_grind_5 : List UInt8 := dkwX2_grind_5 ++ dktX2_grind_6
def dkwX2_grind_4 : List UInt8 := [16, 9, 163, 0, 7, 4, 167, 0, 4, 3, 7, 21, 5, 184, 0, 97, 187, 0, 66, 89, 42, 180, 0, 35]
abbrev dktX2_grind_4 : List UInt8 := dkwX2_grind_4 ++ dktX2_grind_5
def dkwX2_grind_3 : List UInt8 := [158, 0, 7, 4, 167, 0, 4, 3, 6, 27, 184, 0, 97, 45, 21, 4, 182, 0, 153, 54, 5, 21, 5]
abbrev dktX2_grind_3 : List UInt8 := dkwX2_grind_3 ++ dktX2_grind_4
def dkwX2_grind_2 : List UInt8 := [3, 5, 42, 180, 0, 20, 21, 5, 46, 184, 0, 97, 132, 5, 1, 167, 255, 217, 45, 180, 0, 142]
abbrev dktX2_grind_2 : List UInt8 := dkwX2_grind_2 ++ dktX2_grind_3
def dkwX2_grind_1 : List UInt8 := [21, 5, 6, 162, 0, 39, 42, 180, 0, 20, 21, 5, 46, 44, 21, 5, 46, 161, 0, 7, 4, 167, 0, 4]
abbrev dktX2_grind_1 : List UInt8 := dkwX2_grind_1 ++ dktX2_grind_2
def dkwX2_grind_0 : List UInt8 := [42, 27, 182, 0, 135, 78, 44, 184, 0, 149, 54, 4, 42, 180, 0, 35, 4, 182, 0, 163, 3, 54, 5]
abbrev dktX2_grind_0 : List UInt8 := dkwX2_grind_0 ++ dktX2_grind_1
theorem dksX2_grind_0 : cX2_grind.data.toList.drop 0 = dktX2_grind_0 := by decide +kernel
theorem dksX2_grind_1 : cX2_grind.data.toList.drop 23 = dktX2_grind_1 := dk_seg dksX2_grind_0 23 rfl rfl
theorem dksX2_grind_2 : cX2_grind.data.toList.drop 47 = dktX2_grind_2 := dk_seg dksX2_grind_1 24 rfl rfl
theorem dksX2_grind_3 : cX2_grind.data.toList.drop 69 = dktX2_grind_3 := dk_seg dksX2_grind_2 22 rfl rfl
theorem dksX2_grind_4 : cX2_grind.data.toList.drop 92 = dktX2_grind_4 := dk_seg dksX2_grind_3 23 rfl rfl
theorem dksX2_grind_5 : cX2_grind.data.toList.drop 116 = dktX2_grind_5 := dk_seg dksX2_grind_4 24 rfl rfl
theorem dksX2_grind_6 : cX2_grind.data.toList.drop 140 = dktX2_grind_6 := dk_seg dksX2_grind_5 24 rfl rfl
theorem dksX2_grind_7 : cX2_grind.data.toList.drop 162 = dktX2_grind_7 := dk_seg dksX2_grind_6 22 rfl rfl
theorem dksX2_grind_8 : cX2_grind.data.toList.drop 186 = dktX2_grind_8 := dk_seg dksX2_grind_7 24 rfl rfl
theorem dX2_grind_0 : decode cX2_grind 0 = .ok (.aload_n 0, 1) := dk_42 (dk_at dksX2_grind_0 0 rfl rfl)
theorem dX2_grind_1 : decode cX2_grind 1 = .ok (.iload_n 1, 1) := dk_27 (dk_at dksX2_grind_0 1 rfl rfl)
theorem dX2_grind_2 : decode cX2_grind 2 = .ok (.invokevirtual 135, 3) := dk_182 0 135 (dk_at dksX2_grind_0 2 rfl rfl)
theorem dX2_grind_5 : decode cX2_grind 5 = .ok (.astore_n 3, 1) := dk_78 (dk_at dksX2_grind_0 5 rfl rfl)
theorem dX2_grind_6 : decode cX2_grind 6 = .ok (.aload_n 2, 1) := dk_44 (dk_at dksX2_grind_0 6 rfl rfl)
theorem dX2_grind_7 : decode cX2_grind 7 = .ok (.invokestatic 149, 3) := dk_184 0 149 (dk_at dksX2_grind_0 7 rfl rfl)
theorem dX2_grind_10 : decode cX2_grind 10 = .ok (.istore 4, 2) := dk_54 4 (dk_at dksX2_grind_0 10 rfl rfl)
theorem dX2_grind_12 : decode cX2_grind 12 = .ok (.aload_n 0, 1) := dk_42 (dk_at dksX2_grind_0 12 rfl rfl)
theorem dX2_grind_13 : decode cX2_grind 13 = .ok (.getfield 35, 3) := dk_180 0 35 (dk_at dksX2_grind_0 13 rfl rfl)
theorem dX2_grind_16 : decode cX2_grind 16 = .ok (.iconst 1, 1) := dk_4 (dk_at dksX2_grind_0 16 rfl rfl)
theorem dX2_grind_17 : decode cX2_grind 17 = .ok (.invokevirtual 163, 3) := dk_182 0 163 (dk_at dksX2_grind_0 17 rfl rfl)
theorem dX2_grind_20 : decode cX2_grind 20 = .ok (.iconst 0, 1) := dk_3 (dk_at dksX2_grind_0 20 rfl rfl)
theorem dX2_grind_21 : decode cX2_grind 21 = .ok (.istore 5, 2) := dk_54 5 (dk_at dksX2_grind_0 21 rfl rfl)
theorem dX2_grind_23 : decode cX2_grind 23 = .ok (.iload 5, 2) := dk_21 5 (dk_at dksX2_grind_1 0 rfl rfl)
theorem dX2_grind_25 : decode cX2_grind 25 = .ok (.iconst 3, 1) := dk_6 (dk_at dksX2_grind_1 2 rfl rfl)
theorem dX2_grind_26 : decode cX2_grind 26 = .ok (.if_icmp .ge 39, 3) := dk_162 0 39 (dk_at dksX2_grind_1 3 rfl rfl)
theorem dX2_grind_29 : decode cX2_grind 29 = .ok (.aload_n 0, 1) := dk_42 (dk_at dksX2_grind_1 6 rfl rfl)
theorem dX2_grind_30 : decode cX2_grind 30 = .ok (.getfield 20, 3) := dk_180 0 20 (dk_at dksX2_grind_1 7 rfl rfl)
theorem dX2_grind_33 : decode cX2_grind 33 = .ok (.iload 5, 2) := dk_21 5 (dk_at dksX2_grind_1 10 rfl rfl)
theorem dX2_grind_35 : decode cX2_grind 35 = .ok (.iaload, 1) := dk_46 (dk_at dksX2_grind_1 12 rfl rfl)
theorem dX2_grind_36 : decode cX2_grind 36 = .ok (.aload_n 2, 1) := dk_44 (dk_at dksX2_grind_1 13 rfl rfl)
theorem dX2_grind_37 : decode cX2_grind 37 = .ok (.iload 5, 2) := dk_21 5 (dk_at dksX2_grind_1 14 rfl rfl)
theorem dX2_grind_39 : decode cX2_grind 39 = .ok (.iaload, 1) := dk_46 (dk_at dksX2_grind_1 16 rfl rfl)
theorem dX2_grind_40 : decode cX2_grind 40 = .ok (.if_icmp .lt 7, 3) := dk_161 0 7 (dk_at dksX2_grind_1 17 rfl rfl)
theorem dX2_grind_43 : decode cX2_grind 43 = .ok (.iconst 1, 1) := dk_4 (dk_at dksX2_grind_1 20 rfl rfl)
theorem dX2_grind_44 : decode cX2_grind 44 = .ok (.goto 4, 3) := dk_167 0 4 (dk_at dksX2_grind_1 21 rfl rfl)
theorem dX2_grind_47 : decode cX2_grind 47 = .ok (.iconst 0, 1) := dk_3 (dk_at dksX2_grind_2 0 rfl rfl)
theorem dX2_grind_48 : decode cX2_grind 48 = .ok (.iconst 2, 1) := dk_5 (dk_at dksX2_grind_2 1 rfl rfl)
theorem dX2_grind_49 : decode cX2_grind 49 = .ok (.aload_n 0, 1) := dk_42 (dk_at dksX2_grind_2 2 rfl rfl)
theorem dX2_grind_50 : decode cX2_grind 50 = .ok (.getfield 20, 3) := dk_180 0 20 (dk_at dksX2_grind_2 3 rfl rfl)
theorem dX2_grind_53 : decode cX2_grind 53 = .ok (.iload 5, 2) := dk_21 5 (dk_at dksX2_grind_2 6 rfl rfl)
theorem dX2_grind_55 : decode cX2_grind 55 = .ok (.iaload, 1) := dk_46 (dk_at dksX2_grind_2 8 rfl rfl)
theorem dX2_grind_56 : decode cX2_grind 56 = .ok (.invokestatic 97, 3) := dk_184 0 97 (dk_at dksX2_grind_2 9 rfl rfl)
theorem dX2_grind_59 : decode cX2_grind 59 = .ok (.iinc 5 1, 3) := dk_132 5 1 (dk_at dksX2_grind_2 12 rfl rfl)
theorem dX2_grind_62 : decode cX2_grind 62 = .ok (.goto (-39), 3) := dk_167 255 217 (dk_at dksX2_grind_2 15 rfl rfl)
theorem dX2_grind_65 : decode cX2_grind 65 = .ok (.aload_n 3, 1) := dk_45 (dk_at dksX2_grind_2 18 rfl rfl)
theorem dX2_grind_66 : decode cX2_grind 66 = .ok (.getfield 142, 3) := dk_180 0 142 (dk_at dksX2_grind_2 19 rfl rfl)
theorem dX2_grind_69 : decode cX2_grind 69 = .ok (.ifCond .le 7, 3) := dk_158 0 7 (dk_at dksX2_grind_3 0 rfl rfl)
theorem dX2_grind_72 : decode cX2_grind 72 = .ok (.iconst 1, 1) := dk_4 (dk_at dksX2_grind_3 3 rfl rfl)
theorem dX2_grind_73 : decode cX2_grind 73 = .ok (.goto 4, 3) := dk_167 0 4 (dk_at dksX2_grind_3 4 rfl rfl)
theorem dX2_grind_76 : decode cX2_grind 76 = .ok (.iconst 0, 1) := dk_3 (dk_at dksX2_grind_3 7 rfl rfl)
theorem dX2_grind_77 : decode cX2_grind 77 = .ok (.iconst 3, 1) := dk_6 (dk_at dksX2_grind_3 8 rfl rfl)
theorem dX2_grind_78 : decode cX2_grind 78 = .ok (.iload_n 1, 1) := dk_27 (dk_at dksX2_grind_3 9 rfl rfl)
theorem dX2_grind_79 : decode cX2_grind 79 = .ok (.invokestatic 97, 3) := dk_184 0 97 (dk_at dksX2_grind_3 10 rfl rfl)
theorem dX2_grind_82 : decode cX2_grind 82 = .ok (.aload_n 3, 1) := dk_45 (dk_at dksX2_grind_3 13 rfl rfl)
theorem dX2_grind_83 : decode cX2_grind 83 = .ok (.iload 4, 2) := dk_21 4 (dk_at dksX2_grind_3 14 rfl rfl)
theorem dX2_grind_85 : decode cX2_grind 85 = .ok (.invokevirtual 153, 3) := dk_182 0 153 (dk_at dksX2_grind_3 16 rfl rfl)
theorem dX2_grind_88 : decode cX2_grind 88 = .ok (.istore 5, 2) := dk_54 5 (dk_at dksX2_grind_3 19 rfl rfl)
theorem dX2_grind_90 : decode cX2_grind 90 = .ok (.iload 5, 2) := dk_21 5 (dk_at dksX2_grind_3 21 rfl rfl)
theorem dX2_grind_92 : decode cX2_grind 92 = .ok (.bipush 9, 2) := dk_16 9 (dk_at dksX2_grind_4 0 rfl rfl)
theorem dX2_grind_94 : decode cX2_grind 94 = .ok (.if_icmp .gt 7, 3) := dk_163 0 7 (dk_at dksX2_grind_4 2 rfl rfl)
theorem dX2_grind_97 : decode cX2_grind 97 = .ok (.iconst 1, 1) := dk_4 (dk_at dksX2_grind_4 5 rfl rfl)
theorem dX2_grind_98 : decode cX2_grind 98 = .ok (.goto 4, 3) := dk_167 0 4 (dk_at dksX2_grind_4 6 rfl rfl)
theorem dX2_grind_101 : decode cX2_grind 101 = .ok (.iconst 0, 1) := dk_3 (dk_at dksX2_grind_4 9 rfl rfl)
theorem dX2_grind_102 : decode cX2_grind 102 = .ok (.iconst 4, 1) := dk_7 (dk_at dksX2_grind_4 10 rfl rfl)
theorem dX2_grind_103 : decode cX2_grind 103 = .ok (.iload 5, 2) := dk_21 5 (dk_at dksX2_grind_4 11 rfl rfl)
theorem dX2_grind_105 : decode cX2_grind 105 = .ok (.invokestatic 97, 3) := dk_184 0 97 (dk_at dksX2_grind_4 13 rfl rfl)
theorem dX2_grind_108 : decode cX2_grind 108 = .ok (.new 66, 3) := dk_187 0 66 (dk_at dksX2_grind_4 16 rfl rfl)
theorem dX2_grind_111 : decode cX2_grind 111 = .ok (.dup, 1) := dk_89 (dk_at dksX2_grind_4 19 rfl rfl)
theorem dX2_grind_112 : decode cX2_grind 112 = .ok (.aload_n 0, 1) := dk_42 (dk_at dksX2_grind_4 20 rfl rfl)
theorem dX2_grind_113 : decode cX2_grind 113 = .ok (.getfield 35, 3) := dk_180 0 35 (dk_at dksX2_grind_4 21 rfl rfl)
theorem dX2_grind_116 : decode cX2_grind 116 = .ok (.invokevirtual 166, 3) := dk_182 0 166 (dk_at dksX2_grind_5 0 rfl rfl)
theorem dX2_grind_119 : decode cX2_grind 119 = .ok (.iload 4, 2) := dk_21 4 (dk_at dksX2_grind_5 3 rfl rfl)
theorem dX2_grind_121 : decode cX2_grind 121 = .ok (.bipush 9, 2) := dk_16 9 (dk_at dksX2_grind_5 5 rfl rfl)
theorem dX2_grind_123 : decode cX2_grind 123 = .ok (.aload_n 3, 1) := dk_45 (dk_at dksX2_grind_5 7 rfl rfl)
theorem dX2_grind_124 : decode cX2_grind 124 = .ok (.getfield 142, 3) := dk_180 0 142 (dk_at dksX2_grind_5 8 rfl rfl)
theorem dX2_grind_127 : decode cX2_grind 127 = .ok (.isub, 1) := dk_100 (dk_at dksX2_grind_5 11 rfl rfl)
theorem dX2_grind_128 : decode cX2_grind 128 = .ok (.iload 5, 2) := dk_21 5 (dk_at dksX2_grind_5 12 rfl rfl)
theorem dX2_grind_130 : decode cX2_grind 130 = .ok (.aload_n 2, 1) := dk_44 (dk_at dksX2_grind_5 14 rfl rfl)
theorem dX2_grind_131 : decode cX2_grind 131 = .ok (.invokestatic 157, 3) := dk_184 0 157 (dk_at dksX2_grind_5 15 rfl rfl)
theorem dX2_grind_134 : decode cX2_grind 134 = .ok (.invokespecial 170, 3) := dk_183 0 170 (dk_at dksX2_grind_5 18 rfl rfl)
theorem dX2_grind_137 : decode cX2_grind 137 = .ok (.astore 6, 2) := dk_58 6 (dk_at dksX2_grind_5 21 rfl rfl)
theorem dX2_grind_139 : decode cX2_grind 139 = .ok (.iconst 0, 1) := dk_3 (dk_at dksX2_grind_5 23 rfl rfl)
theorem dX2_grind_140 : decode cX2_grind 140 = .ok (.istore 7, 2) := dk_54 7 (dk_at dksX2_grind_6 0 rfl rfl)
theorem dX2_grind_142 : decode cX2_grind 142 = .ok (.iload 7, 2) := dk_21 7 (dk_at dksX2_grind_6 2 rfl rfl)
theorem dX2_grind_144 : decode cX2_grind 144 = .ok (.iconst 3, 1) := dk_6 (dk_at dksX2_grind_6 4 rfl rfl)
theorem dX2_grind_145 : decode cX2_grind 145 = .ok (.if_icmp .ge 23, 3) := dk_162 0 23 (dk_at dksX2_grind_6 5 rfl rfl)
theorem dX2_grind_148 : decode cX2_grind 148 = .ok (.aload_n 0, 1) := dk_42 (dk_at dksX2_grind_6 8 rfl rfl)
theorem dX2_grind_149 : decode cX2_grind 149 = .ok (.getfield 20, 3) := dk_180 0 20 (dk_at dksX2_grind_6 9 rfl rfl)
theorem dX2_grind_152 : decode cX2_grind 152 = .ok (.iload 7, 2) := dk_21 7 (dk_at dksX2_grind_6 12 rfl rfl)
theorem dX2_grind_154 : decode cX2_grind 154 = .ok (.dup2, 1) := dk_92 (dk_at dksX2_grind_6 14 rfl rfl)
theorem dX2_grind_155 : decode cX2_grind 155 = .ok (.iaload, 1) := dk_46 (dk_at dksX2_grind_6 15 rfl rfl)
theorem dX2_grind_156 : decode cX2_grind 156 = .ok (.aload_n 2, 1) := dk_44 (dk_at dksX2_grind_6 16 rfl rfl)
theorem dX2_grind_157 : decode cX2_grind 157 = .ok (.iload 7, 2) := dk_21 7 (dk_at dksX2_grind_6 17 rfl rfl)
theorem dX2_grind_159 : decode cX2_grind 159 = .ok (.iaload, 1) := dk_46 (dk_at dksX2_grind_6 19 rfl rfl)
theorem dX2_grind_160 : decode cX2_grind 160 = .ok (.isub, 1) := dk_100 (dk_at dksX2_grind_6 20 rfl rfl)
theorem dX2_grind_161 : decode cX2_grind 161 = .ok (.iastore, 1) := dk_79 (dk_at dksX2_grind_6 21 rfl rfl)
theorem dX2_grind_162 : decode cX2_grind 162 = .ok (.iinc 7 1, 3) := dk_132 7 1 (dk_at dksX2_grind_7 0 rfl rfl)
theorem dX2_grind_165 : decode cX2_grind 165 = .ok (.goto (-23), 3) := dk_167 255 233 (dk_at dksX2_grind_7 3 rfl rfl)
theorem dX2_grind_168 : decode cX2_grind 168 = .ok (.aload_n 3, 1) := dk_45 (dk_at dksX2_grind_7 6 rfl rfl)
theorem dX2_grind_169 : decode cX2_grind 169 = .ok (.dup, 1) := dk_89 (dk_at dksX2_grind_7 7 rfl rfl)
theorem dX2_grind_170 : decode cX2_grind 170 = .ok (.getfield 142, 3) := dk_180 0 142 (dk_at dksX2_grind_7 8 rfl rfl)
theorem dX2_grind_173 : decode cX2_grind 173 = .ok (.iconst 1, 1) := dk_4 (dk_at dksX2_grind_7 11 rfl rfl)
theorem dX2_grind_174 : decode cX2_grind 174 = .ok (.isub, 1) := dk_100 (dk_at dksX2_grind_7 12 rfl rfl)
theorem dX2_grind_175 : decode cX2_grind 175 = .ok (.putfield 142, 3) := dk_181 0 142 (dk_at dksX2_grind_7 13 rfl rfl)
theorem dX2_grind_178 : decode cX2_grind 178 = .ok (.aload_n 3, 1) := dk_45 (dk_at dksX2_grind_7 16 rfl rfl)
theorem dX2_grind_179 : decode cX2_grind 179 = .ok (.iload 5, 2) := dk_21 5 (dk_at dksX2_grind_7 17 rfl rfl)
theorem dX2_grind_181 : decode cX2_grind 181 = .ok (.putfield 139, 3) := dk_181 0 139 (dk_at dksX2_grind_7 19 rfl rfl)
theorem dX2_grind_184 : decode cX2_grind 184 = .ok (.aload_n 3, 1) := dk_45 (dk_at dksX2_grind_7 22 rfl rfl)
theorem dX2_grind_185 : decode cX2_grind 185 = .ok (.dup, 1) := dk_89 (dk_at dksX2_grind_7 23 rfl rfl)
theorem dX2_grind_186 : decode cX2_grind 186 = .ok (.getfield 173, 3) := dk_180 0 173 (dk_at dksX2_grind_8 0 rfl rfl)
theorem dX2_grind_189 : decode cX2_grind 189 = .ok (.iload 4, 2) := dk_21 4 (dk_at dksX2_grind_8 3 rfl rfl)
theorem dX2_grind_191 : decode cX2_grind 191 = .ok (.iadd, 1) := dk_96 (dk_at dksX2_grind_8 5 rfl rfl)
theorem dX2_grind_192 : decode cX2_grind 192 = .ok (.putfield 173, 3) := dk_181 0 173 (dk_at dksX2_grind_8 6 rfl rfl)
theorem dX2_grind_195 : decode cX2_grind 195 = .ok (.aload_n 0, 1) := dk_42 (dk_at dksX2_grind_8 9 rfl rfl)
theorem dX2_grind_196 : decode cX2_grind 196 = .ok (.getfield 35, 3) := dk_180 0 35 (dk_at dksX2_grind_8 10 rfl rfl)
theorem dX2_grind_199 : decode cX2_grind 199 = .ok (.aload 6, 2) := dk_25 6 (dk_at dksX2_grind_8 13 rfl rfl)
theorem dX2_grind_201 : decode cX2_grind 201 = .ok (.invokevirtual 71, 3) := dk_182 0 71 (dk_at dksX2_grind_8 15 rfl rfl)
theorem dX2_grind_204 : decode cX2_grind 204 = .ok (.ireturn, 1) := dk_172 (dk_at dksX2_grind_8 18 rfl rfl)
abbrev cX2_quern : ByteArray := prog_6_method_6_code
def yX2_quern : MethodName := ⟨RX2, "quern", "(I)LMustardMill$Quern;"⟩
def dkwX2_quern_0 : List UInt8 := [27, 133, 9, 20, 0, 130, 184, 0, 111, 184, 0, 132, 42, 180, 0, 28, 27, 50, 176]
abbrev dktX2_quern_0 : List UInt8 := dkwX2_quern_0 ++ []
theorem dksX2_quern_0 : cX2_quern.data.toList.drop 0 = dktX2_quern_0 := by decide +kernel
theorem dX2_quern_0 : decode cX2_quern 0 = .ok (.iload_n 1, 1) := dk_27 (dk_at dksX2_quern_0 0 rfl rfl)
theorem dX2_quern_1 : decode cX2_quern 1 = .ok (.i2l, 1) := dk_133 (dk_at dksX2_quern_0 1 rfl rfl)
theorem dX2_quern_2 : decode cX2_quern 2 = .ok (.lconst 0, 1) := dk_9 (dk_at dksX2_quern_0 2 rfl rfl)
theorem dX2_quern_3 : decode cX2_quern 3 = .ok (.ldc2_w 130, 3) := dk_20 0 130 (dk_at dksX2_quern_0 3 rfl rfl)
theorem dX2_quern_6 : decode cX2_quern 6 = .ok (.invokestatic 111, 3) := dk_184 0 111 (dk_at dksX2_quern_0 6 rfl rfl)
theorem dX2_quern_9 : decode cX2_quern 9 = .ok (.invokestatic 132, 3) := dk_184 0 132 (dk_at dksX2_quern_0 9 rfl rfl)
theorem dX2_quern_12 : decode cX2_quern 12 = .ok (.aload_n 0, 1) := dk_42 (dk_at dksX2_quern_0 12 rfl rfl)
theorem dX2_quern_13 : decode cX2_quern 13 = .ok (.getfield 28, 3) := dk_180 0 28 (dk_at dksX2_quern_0 13 rfl rfl)
theorem dX2_quern_16 : decode cX2_quern 16 = .ok (.iload_n 1, 1) := dk_27 (dk_at dksX2_quern_0 16 rfl rfl)
theorem dX2_quern_17 : decode cX2_quern 17 = .ok (.aaload, 1) := dk_50 (dk_at dksX2_quern_0 17 rfl rfl)
theorem dX2_quern_18 : decode cX2_quern 18 = .ok (.areturn, 1) := dk_176 (dk_at dksX2_quern_0 18 rfl rfl)
abbrev cX2_sum : ByteArray := prog_6_method_8_code
def yX2_sum : MethodName := ⟨RX2, "sum", "([I)I"⟩
def dkwX2_sum_2 : List UInt8 := [20, 0, 147, 20, 0, 145, 184, 0, 111, 184, 0, 117, 27, 172]
abbrev dktX2_sum_2 : List UInt8 := dkwX2_sum_2 ++ []
def dkwX2_sum_1 : List UInt8 := [133, 9, 20, 0, 145, 184, 0, 111, 184, 0, 117, 27, 21, 5, 96, 60, 132, 4, 1, 167, 255, 223, 27, 133]
abbrev dktX2_sum_1 : List UInt8 := dkwX2_sum_1 ++ dktX2_sum_2
def dkwX2_sum_0 : List UInt8 := [3, 60, 42, 77, 44, 190, 62, 3, 54, 4, 21, 4, 29, 162, 0, 33, 44, 21, 4, 46, 54, 5, 21, 5]
abbrev dktX2_sum_0 : List UInt8 := dkwX2_sum_0 ++ dktX2_sum_1
theorem dksX2_sum_0 : cX2_sum.data.toList.drop 0 = dktX2_sum_0 := by decide +kernel
theorem dksX2_sum_1 : cX2_sum.data.toList.drop 24 = dktX2_sum_1 := dk_seg dksX2_sum_0 24 rfl rfl
theorem dksX2_sum_2 : cX2_sum.data.toList.drop 48 = dktX2_sum_2 := dk_seg dksX2_sum_1 24 rfl rfl
theorem dX2_sum_0 : decode cX2_sum 0 = .ok (.iconst 0, 1) := dk_3 (dk_at dksX2_sum_0 0 rfl rfl)
theorem dX2_sum_1 : decode cX2_sum 1 = .ok (.istore_n 1, 1) := dk_60 (dk_at dksX2_sum_0 1 rfl rfl)
theorem dX2_sum_2 : decode cX2_sum 2 = .ok (.aload_n 0, 1) := dk_42 (dk_at dksX2_sum_0 2 rfl rfl)
theorem dX2_sum_3 : decode cX2_sum 3 = .ok (.astore_n 2, 1) := dk_77 (dk_at dksX2_sum_0 3 rfl rfl)
theorem dX2_sum_4 : decode cX2_sum 4 = .ok (.aload_n 2, 1) := dk_44 (dk_at dksX2_sum_0 4 rfl rfl)
theorem dX2_sum_5 : decode cX2_sum 5 = .ok (.arraylength, 1) := dk_190 (dk_at dksX2_sum_0 5 rfl rfl)
theorem dX2_sum_6 : decode cX2_sum 6 = .ok (.istore_n 3, 1) := dk_62 (dk_at dksX2_sum_0 6 rfl rfl)
theorem dX2_sum_7 : decode cX2_sum 7 = .ok (.iconst 0, 1) := dk_3 (dk_at dksX2_sum_0 7 rfl rfl)
theorem dX2_sum_8 : decode cX2_sum 8 = .ok (.istore 4, 2) := dk_54 4 (dk_at dksX2_sum_0 8 rfl rfl)
theorem dX2_sum_10 : decode cX2_sum 10 = .ok (.iload 4, 2) := dk_21 4 (dk_at dksX2_sum_0 10 rfl rfl)
theorem dX2_sum_12 : decode cX2_sum 12 = .ok (.iload_n 3, 1) := dk_29 (dk_at dksX2_sum_0 12 rfl rfl)
theorem dX2_sum_13 : decode cX2_sum 13 = .ok (.if_icmp .ge 33, 3) := dk_162 0 33 (dk_at dksX2_sum_0 13 rfl rfl)
theorem dX2_sum_16 : decode cX2_sum 16 = .ok (.aload_n 2, 1) := dk_44 (dk_at dksX2_sum_0 16 rfl rfl)
theorem dX2_sum_17 : decode cX2_sum 17 = .ok (.iload 4, 2) := dk_21 4 (dk_at dksX2_sum_0 17 rfl rfl)
theorem dX2_sum_19 : decode cX2_sum 19 = .ok (.iaload, 1) := dk_46 (dk_at dksX2_sum_0 19 rfl rfl)
theorem dX2_sum_20 : decode cX2_sum 20 = .ok (.istore 5, 2) := dk_54 5 (dk_at dksX2_sum_0 20 rfl rfl)
theorem dX2_sum_22 : decode cX2_sum 22 = .ok (.iload 5, 2) := dk_21 5 (dk_at dksX2_sum_0 22 rfl rfl)
theorem dX2_sum_24 : decode cX2_sum 24 = .ok (.i2l, 1) := dk_133 (dk_at dksX2_sum_1 0 rfl rfl)
theorem dX2_sum_25 : decode cX2_sum 25 = .ok (.lconst 0, 1) := dk_9 (dk_at dksX2_sum_1 1 rfl rfl)
theorem dX2_sum_26 : decode cX2_sum 26 = .ok (.ldc2_w 145, 3) := dk_20 0 145 (dk_at dksX2_sum_1 2 rfl rfl)
theorem dX2_sum_29 : decode cX2_sum 29 = .ok (.invokestatic 111, 3) := dk_184 0 111 (dk_at dksX2_sum_1 5 rfl rfl)
theorem dX2_sum_32 : decode cX2_sum 32 = .ok (.invokestatic 117, 3) := dk_184 0 117 (dk_at dksX2_sum_1 8 rfl rfl)
theorem dX2_sum_35 : decode cX2_sum 35 = .ok (.iload_n 1, 1) := dk_27 (dk_at dksX2_sum_1 11 rfl rfl)
theorem dX2_sum_36 : decode cX2_sum 36 = .ok (.iload 5, 2) := dk_21 5 (dk_at dksX2_sum_1 12 rfl rfl)
theorem dX2_sum_38 : decode cX2_sum 38 = .ok (.iadd, 1) := dk_96 (dk_at dksX2_sum_1 14 rfl rfl)
theorem dX2_sum_39 : decode cX2_sum 39 = .ok (.istore_n 1, 1) := dk_60 (dk_at dksX2_sum_1 15 rfl rfl)
theorem dX2_sum_40 : decode cX2_sum 40 = .ok (.iinc 4 1, 3) := dk_132 4 1 (dk_at dksX2_sum_1 16 rfl rfl)
theorem dX2_sum_43 : decode cX2_sum 43 = .ok (.goto (-33), 3) := dk_167 255 223 (dk_at dksX2_sum_1 19 rfl rfl)
theorem dX2_sum_46 : decode cX2_sum 46 = .ok (.iload_n 1, 1) := dk_27 (dk_at dksX2_sum_1 22 rfl rfl)
theorem dX2_sum_47 : decode cX2_sum 47 = .ok (.i2l, 1) := dk_133 (dk_at dksX2_sum_1 23 rfl rfl)
theorem dX2_sum_48 : decode cX2_sum 48 = .ok (.ldc2_w 147, 3) := dk_20 0 147 (dk_at dksX2_sum_2 0 rfl rfl)
theorem dX2_sum_51 : decode cX2_sum 51 = .ok (.ldc2_w 145, 3) := dk_20 0 145 (dk_at dksX2_sum_2 3 rfl rfl)
theorem dX2_sum_54 : decode cX2_sum 54 = .ok (.invokestatic 111, 3) := dk_184 0 111 (dk_at dksX2_sum_2 6 rfl rfl)
theorem dX2_sum_57 : decode cX2_sum 57 = .ok (.invokestatic 117, 3) := dk_184 0 117 (dk_at dksX2_sum_2 9 rfl rfl)
theorem dX2_sum_60 : decode cX2_sum 60 = .ok (.iload_n 1, 1) := dk_27 (dk_at dksX2_sum_2 12 rfl rfl)
theorem dX2_sum_61 : decode cX2_sum 61 = .ok (.ireturn, 1) := dk_172 (dk_at dksX2_sum_2 13 rfl rfl)
abbrev cX2_dress : ByteArray := prog_6_method_7_code
def yX2_dress : MethodName := ⟨RX2, "dress", "(I)I"⟩
def dkwX2_dress_1 : List UInt8 := [184, 0, 97, 42, 8, 182, 0, 127, 44, 180, 0, 142, 62, 44, 16, 9, 181, 0, 142, 29, 172]
abbrev dktX2_dress_1 : List UInt8 := dkwX2_dress_1 ++ []
def dkwX2_dress_0 : List UInt8 := [42, 27, 182, 0, 135, 77, 44, 180, 0, 139, 154, 0, 7, 4, 167, 0, 4, 3, 16, 6, 44, 180, 0, 139]
abbrev dktX2_dress_0 : List UInt8 := dkwX2_dress_0 ++ dktX2_dress_1
theorem dksX2_dress_0 : cX2_dress.data.toList.drop 0 = dktX2_dress_0 := by decide +kernel
theorem dksX2_dress_1 : cX2_dress.data.toList.drop 24 = dktX2_dress_1 := dk_seg dksX2_dress_0 24 rfl rfl
theorem dX2_dress_0 : decode cX2_dress 0 = .ok (.aload_n 0, 1) := dk_42 (dk_at dksX2_dress_0 0 rfl rfl)
theorem dX2_dress_1 : decode cX2_dress 1 = .ok (.iload_n 1, 1) := dk_27 (dk_at dksX2_dress_0 1 rfl rfl)
theorem dX2_dress_2 : decode cX2_dress 2 = .ok (.invokevirtual 135, 3) := dk_182 0 135 (dk_at dksX2_dress_0 2 rfl rfl)
theorem dX2_dress_5 : decode cX2_dress 5 = .ok (.astore_n 2, 1) := dk_77 (dk_at dksX2_dress_0 5 rfl rfl)
theorem dX2_dress_6 : decode cX2_dress 6 = .ok (.aload_n 2, 1) := dk_44 (dk_at dksX2_dress_0 6 rfl rfl)
theorem dX2_dress_7 : decode cX2_dress 7 = .ok (.getfield 139, 3) := dk_180 0 139 (dk_at dksX2_dress_0 7 rfl rfl)
theorem dX2_dress_10 : decode cX2_dress 10 = .ok (.ifCond .ne 7, 3) := dk_154 0 7 (dk_at dksX2_dress_0 10 rfl rfl)
theorem dX2_dress_13 : decode cX2_dress 13 = .ok (.iconst 1, 1) := dk_4 (dk_at dksX2_dress_0 13 rfl rfl)
theorem dX2_dress_14 : decode cX2_dress 14 = .ok (.goto 4, 3) := dk_167 0 4 (dk_at dksX2_dress_0 14 rfl rfl)
theorem dX2_dress_17 : decode cX2_dress 17 = .ok (.iconst 0, 1) := dk_3 (dk_at dksX2_dress_0 17 rfl rfl)
theorem dX2_dress_18 : decode cX2_dress 18 = .ok (.bipush 6, 2) := dk_16 6 (dk_at dksX2_dress_0 18 rfl rfl)
theorem dX2_dress_20 : decode cX2_dress 20 = .ok (.aload_n 2, 1) := dk_44 (dk_at dksX2_dress_0 20 rfl rfl)
theorem dX2_dress_21 : decode cX2_dress 21 = .ok (.getfield 139, 3) := dk_180 0 139 (dk_at dksX2_dress_0 21 rfl rfl)
theorem dX2_dress_24 : decode cX2_dress 24 = .ok (.invokestatic 97, 3) := dk_184 0 97 (dk_at dksX2_dress_1 0 rfl rfl)
theorem dX2_dress_27 : decode cX2_dress 27 = .ok (.aload_n 0, 1) := dk_42 (dk_at dksX2_dress_1 3 rfl rfl)
theorem dX2_dress_28 : decode cX2_dress 28 = .ok (.iconst 5, 1) := dk_8 (dk_at dksX2_dress_1 4 rfl rfl)
theorem dX2_dress_29 : decode cX2_dress 29 = .ok (.invokevirtual 127, 3) := dk_182 0 127 (dk_at dksX2_dress_1 5 rfl rfl)
theorem dX2_dress_32 : decode cX2_dress 32 = .ok (.aload_n 2, 1) := dk_44 (dk_at dksX2_dress_1 8 rfl rfl)
theorem dX2_dress_33 : decode cX2_dress 33 = .ok (.getfield 142, 3) := dk_180 0 142 (dk_at dksX2_dress_1 9 rfl rfl)
theorem dX2_dress_36 : decode cX2_dress 36 = .ok (.istore_n 3, 1) := dk_62 (dk_at dksX2_dress_1 12 rfl rfl)
theorem dX2_dress_37 : decode cX2_dress 37 = .ok (.aload_n 2, 1) := dk_44 (dk_at dksX2_dress_1 13 rfl rfl)
theorem dX2_dress_38 : decode cX2_dress 38 = .ok (.bipush 9, 2) := dk_16 9 (dk_at dksX2_dress_1 14 rfl rfl)
theorem dX2_dress_40 : decode cX2_dress 40 = .ok (.putfield 142, 3) := dk_181 0 142 (dk_at dksX2_dress_1 16 rfl rfl)
theorem dX2_dress_43 : decode cX2_dress 43 = .ok (.iload_n 3, 1) := dk_29 (dk_at dksX2_dress_1 19 rfl rfl)
theorem dX2_dress_44 : decode cX2_dress 44 = .ok (.ireturn, 1) := dk_172 (dk_at dksX2_dress_1 20 rfl rfl)
abbrev cX2_pay : ByteArray := prog_6_method_3_code
def yX2_pay : MethodName := ⟨RX2, "pay", "(I)V"⟩
def dkwX2_pay_1 : List UInt8 := [89, 180, 0, 45, 27, 100, 181, 0, 45, 177]
abbrev dktX2_pay_1 : List UInt8 := dkwX2_pay_1 ++ []
def dkwX2_pay_0 : List UInt8 := [42, 180, 0, 45, 27, 161, 0, 7, 4, 167, 0, 4, 3, 8, 27, 42, 180, 0, 45, 100, 184, 0, 97, 42]
abbrev dktX2_pay_0 : List UInt8 := dkwX2_pay_0 ++ dktX2_pay_1
theorem dksX2_pay_0 : cX2_pay.data.toList.drop 0 = dktX2_pay_0 := by decide +kernel
theorem dksX2_pay_1 : cX2_pay.data.toList.drop 24 = dktX2_pay_1 := dk_seg dksX2_pay_0 24 rfl rfl
theorem dX2_pay_0 : decode cX2_pay 0 = .ok (.aload_n 0, 1) := dk_42 (dk_at dksX2_pay_0 0 rfl rfl)
theorem dX2_pay_1 : decode cX2_pay 1 = .ok (.getfield 45, 3) := dk_180 0 45 (dk_at dksX2_pay_0 1 rfl rfl)
theorem dX2_pay_4 : decode cX2_pay 4 = .ok (.iload_n 1, 1) := dk_27 (dk_at dksX2_pay_0 4 rfl rfl)
theorem dX2_pay_5 : decode cX2_pay 5 = .ok (.if_icmp .lt 7, 3) := dk_161 0 7 (dk_at dksX2_pay_0 5 rfl rfl)
theorem dX2_pay_8 : decode cX2_pay 8 = .ok (.iconst 1, 1) := dk_4 (dk_at dksX2_pay_0 8 rfl rfl)
theorem dX2_pay_9 : decode cX2_pay 9 = .ok (.goto 4, 3) := dk_167 0 4 (dk_at dksX2_pay_0 9 rfl rfl)
theorem dX2_pay_12 : decode cX2_pay 12 = .ok (.iconst 0, 1) := dk_3 (dk_at dksX2_pay_0 12 rfl rfl)
theorem dX2_pay_13 : decode cX2_pay 13 = .ok (.iconst 5, 1) := dk_8 (dk_at dksX2_pay_0 13 rfl rfl)
theorem dX2_pay_14 : decode cX2_pay 14 = .ok (.iload_n 1, 1) := dk_27 (dk_at dksX2_pay_0 14 rfl rfl)
theorem dX2_pay_15 : decode cX2_pay 15 = .ok (.aload_n 0, 1) := dk_42 (dk_at dksX2_pay_0 15 rfl rfl)
theorem dX2_pay_16 : decode cX2_pay 16 = .ok (.getfield 45, 3) := dk_180 0 45 (dk_at dksX2_pay_0 16 rfl rfl)
theorem dX2_pay_19 : decode cX2_pay 19 = .ok (.isub, 1) := dk_100 (dk_at dksX2_pay_0 19 rfl rfl)
theorem dX2_pay_20 : decode cX2_pay 20 = .ok (.invokestatic 97, 3) := dk_184 0 97 (dk_at dksX2_pay_0 20 rfl rfl)
theorem dX2_pay_23 : decode cX2_pay 23 = .ok (.aload_n 0, 1) := dk_42 (dk_at dksX2_pay_0 23 rfl rfl)
theorem dX2_pay_24 : decode cX2_pay 24 = .ok (.dup, 1) := dk_89 (dk_at dksX2_pay_1 0 rfl rfl)
theorem dX2_pay_25 : decode cX2_pay 25 = .ok (.getfield 45, 3) := dk_180 0 45 (dk_at dksX2_pay_1 1 rfl rfl)
theorem dX2_pay_28 : decode cX2_pay 28 = .ok (.iload_n 1, 1) := dk_27 (dk_at dksX2_pay_1 4 rfl rfl)
theorem dX2_pay_29 : decode cX2_pay 29 = .ok (.isub, 1) := dk_100 (dk_at dksX2_pay_1 5 rfl rfl)
theorem dX2_pay_30 : decode cX2_pay 30 = .ok (.putfield 45, 3) := dk_181 0 45 (dk_at dksX2_pay_1 6 rfl rfl)
theorem dX2_pay_33 : decode cX2_pay 33 = .ok (.return_, 1) := dk_177 (dk_at dksX2_pay_1 9 rfl rfl)
abbrev cX2_mix : ByteArray := prog_6_method_11_code
def yX2_mix : MethodName := ⟨RX2, "mix", "(II)I"⟩
def dkwX2_mix_3 : List UInt8 := [79, 45, 28, 181, 0, 187, 45, 4, 182, 0, 190, 45, 182, 0, 193, 172]
abbrev dktX2_mix_3 : List UInt8 := dkwX2_mix_3 ++ []
def dkwX2_mix_2 : List UInt8 := [4, 167, 0, 4, 3, 5, 42, 180, 0, 20, 6, 46, 184, 0, 97, 42, 180, 0, 20, 6, 92, 46, 28, 100]
abbrev dktX2_mix_2 : List UInt8 := dkwX2_mix_2 ++ dktX2_mix_3
def dkwX2_mix_1 : List UInt8 := [45, 3, 182, 0, 180, 16, 7, 45, 182, 0, 184, 184, 0, 97, 42, 180, 0, 20, 6, 46, 28, 161, 0, 7]
abbrev dktX2_mix_1 : List UInt8 := dkwX2_mix_1 ++ dktX2_mix_2
def dkwX2_mix_0 : List UInt8 := [42, 180, 0, 35, 27, 182, 0, 176, 192, 0, 66, 78, 28, 133, 10, 20, 0, 115, 184, 0, 111, 184, 0, 117]
abbrev dktX2_mix_0 : List UInt8 := dkwX2_mix_0 ++ dktX2_mix_1
theorem dksX2_mix_0 : cX2_mix.data.toList.drop 0 = dktX2_mix_0 := by decide +kernel
theorem dksX2_mix_1 : cX2_mix.data.toList.drop 24 = dktX2_mix_1 := dk_seg dksX2_mix_0 24 rfl rfl
theorem dksX2_mix_2 : cX2_mix.data.toList.drop 48 = dktX2_mix_2 := dk_seg dksX2_mix_1 24 rfl rfl
theorem dksX2_mix_3 : cX2_mix.data.toList.drop 72 = dktX2_mix_3 := dk_seg dksX2_mix_2 24 rfl rfl
theorem dX2_mix_0 : decode cX2_mix 0 = .ok (.aload_n 0, 1) := dk_42 (dk_at dksX2_mix_0 0 rfl rfl)
theorem dX2_mix_1 : decode cX2_mix 1 = .ok (.getfield 35, 3) := dk_180 0 35 (dk_at dksX2_mix_0 1 rfl rfl)
theorem dX2_mix_4 : decode cX2_mix 4 = .ok (.iload_n 1, 1) := dk_27 (dk_at dksX2_mix_0 4 rfl rfl)
theorem dX2_mix_5 : decode cX2_mix 5 = .ok (.invokevirtual 176, 3) := dk_182 0 176 (dk_at dksX2_mix_0 5 rfl rfl)
theorem dX2_mix_8 : decode cX2_mix 8 = .ok (.checkcast 66, 3) := dk_192 0 66 (dk_at dksX2_mix_0 8 rfl rfl)
theorem dX2_mix_11 : decode cX2_mix 11 = .ok (.astore_n 3, 1) := dk_78 (dk_at dksX2_mix_0 11 rfl rfl)
theorem dX2_mix_12 : decode cX2_mix 12 = .ok (.iload_n 2, 1) := dk_28 (dk_at dksX2_mix_0 12 rfl rfl)
theorem dX2_mix_13 : decode cX2_mix 13 = .ok (.i2l, 1) := dk_133 (dk_at dksX2_mix_0 13 rfl rfl)
theorem dX2_mix_14 : decode cX2_mix 14 = .ok (.lconst 1, 1) := dk_10 (dk_at dksX2_mix_0 14 rfl rfl)
theorem dX2_mix_15 : decode cX2_mix 15 = .ok (.ldc2_w 115, 3) := dk_20 0 115 (dk_at dksX2_mix_0 15 rfl rfl)
theorem dX2_mix_18 : decode cX2_mix 18 = .ok (.invokestatic 111, 3) := dk_184 0 111 (dk_at dksX2_mix_0 18 rfl rfl)
theorem dX2_mix_21 : decode cX2_mix 21 = .ok (.invokestatic 117, 3) := dk_184 0 117 (dk_at dksX2_mix_0 21 rfl rfl)
theorem dX2_mix_24 : decode cX2_mix 24 = .ok (.aload_n 3, 1) := dk_45 (dk_at dksX2_mix_1 0 rfl rfl)
theorem dX2_mix_25 : decode cX2_mix 25 = .ok (.iconst 0, 1) := dk_3 (dk_at dksX2_mix_1 1 rfl rfl)
theorem dX2_mix_26 : decode cX2_mix 26 = .ok (.invokevirtual 180, 3) := dk_182 0 180 (dk_at dksX2_mix_1 2 rfl rfl)
theorem dX2_mix_29 : decode cX2_mix 29 = .ok (.bipush 7, 2) := dk_16 7 (dk_at dksX2_mix_1 5 rfl rfl)
theorem dX2_mix_31 : decode cX2_mix 31 = .ok (.aload_n 3, 1) := dk_45 (dk_at dksX2_mix_1 7 rfl rfl)
theorem dX2_mix_32 : decode cX2_mix 32 = .ok (.invokevirtual 184, 3) := dk_182 0 184 (dk_at dksX2_mix_1 8 rfl rfl)
theorem dX2_mix_35 : decode cX2_mix 35 = .ok (.invokestatic 97, 3) := dk_184 0 97 (dk_at dksX2_mix_1 11 rfl rfl)
theorem dX2_mix_38 : decode cX2_mix 38 = .ok (.aload_n 0, 1) := dk_42 (dk_at dksX2_mix_1 14 rfl rfl)
theorem dX2_mix_39 : decode cX2_mix 39 = .ok (.getfield 20, 3) := dk_180 0 20 (dk_at dksX2_mix_1 15 rfl rfl)
theorem dX2_mix_42 : decode cX2_mix 42 = .ok (.iconst 3, 1) := dk_6 (dk_at dksX2_mix_1 18 rfl rfl)
theorem dX2_mix_43 : decode cX2_mix 43 = .ok (.iaload, 1) := dk_46 (dk_at dksX2_mix_1 19 rfl rfl)
theorem dX2_mix_44 : decode cX2_mix 44 = .ok (.iload_n 2, 1) := dk_28 (dk_at dksX2_mix_1 20 rfl rfl)
theorem dX2_mix_45 : decode cX2_mix 45 = .ok (.if_icmp .lt 7, 3) := dk_161 0 7 (dk_at dksX2_mix_1 21 rfl rfl)
theorem dX2_mix_48 : decode cX2_mix 48 = .ok (.iconst 1, 1) := dk_4 (dk_at dksX2_mix_2 0 rfl rfl)
theorem dX2_mix_49 : decode cX2_mix 49 = .ok (.goto 4, 3) := dk_167 0 4 (dk_at dksX2_mix_2 1 rfl rfl)
theorem dX2_mix_52 : decode cX2_mix 52 = .ok (.iconst 0, 1) := dk_3 (dk_at dksX2_mix_2 4 rfl rfl)
theorem dX2_mix_53 : decode cX2_mix 53 = .ok (.iconst 2, 1) := dk_5 (dk_at dksX2_mix_2 5 rfl rfl)
theorem dX2_mix_54 : decode cX2_mix 54 = .ok (.aload_n 0, 1) := dk_42 (dk_at dksX2_mix_2 6 rfl rfl)
theorem dX2_mix_55 : decode cX2_mix 55 = .ok (.getfield 20, 3) := dk_180 0 20 (dk_at dksX2_mix_2 7 rfl rfl)
theorem dX2_mix_58 : decode cX2_mix 58 = .ok (.iconst 3, 1) := dk_6 (dk_at dksX2_mix_2 10 rfl rfl)
theorem dX2_mix_59 : decode cX2_mix 59 = .ok (.iaload, 1) := dk_46 (dk_at dksX2_mix_2 11 rfl rfl)
theorem dX2_mix_60 : decode cX2_mix 60 = .ok (.invokestatic 97, 3) := dk_184 0 97 (dk_at dksX2_mix_2 12 rfl rfl)
theorem dX2_mix_63 : decode cX2_mix 63 = .ok (.aload_n 0, 1) := dk_42 (dk_at dksX2_mix_2 15 rfl rfl)
theorem dX2_mix_64 : decode cX2_mix 64 = .ok (.getfield 20, 3) := dk_180 0 20 (dk_at dksX2_mix_2 16 rfl rfl)
theorem dX2_mix_67 : decode cX2_mix 67 = .ok (.iconst 3, 1) := dk_6 (dk_at dksX2_mix_2 19 rfl rfl)
theorem dX2_mix_68 : decode cX2_mix 68 = .ok (.dup2, 1) := dk_92 (dk_at dksX2_mix_2 20 rfl rfl)
theorem dX2_mix_69 : decode cX2_mix 69 = .ok (.iaload, 1) := dk_46 (dk_at dksX2_mix_2 21 rfl rfl)
theorem dX2_mix_70 : decode cX2_mix 70 = .ok (.iload_n 2, 1) := dk_28 (dk_at dksX2_mix_2 22 rfl rfl)
theorem dX2_mix_71 : decode cX2_mix 71 = .ok (.isub, 1) := dk_100 (dk_at dksX2_mix_2 23 rfl rfl)
theorem dX2_mix_72 : decode cX2_mix 72 = .ok (.iastore, 1) := dk_79 (dk_at dksX2_mix_3 0 rfl rfl)
theorem dX2_mix_73 : decode cX2_mix 73 = .ok (.aload_n 3, 1) := dk_45 (dk_at dksX2_mix_3 1 rfl rfl)
theorem dX2_mix_74 : decode cX2_mix 74 = .ok (.iload_n 2, 1) := dk_28 (dk_at dksX2_mix_3 2 rfl rfl)
theorem dX2_mix_75 : decode cX2_mix 75 = .ok (.putfield 187, 3) := dk_181 0 187 (dk_at dksX2_mix_3 3 rfl rfl)
theorem dX2_mix_78 : decode cX2_mix 78 = .ok (.aload_n 3, 1) := dk_45 (dk_at dksX2_mix_3 6 rfl rfl)
theorem dX2_mix_79 : decode cX2_mix 79 = .ok (.iconst 1, 1) := dk_4 (dk_at dksX2_mix_3 7 rfl rfl)
theorem dX2_mix_80 : decode cX2_mix 80 = .ok (.invokevirtual 190, 3) := dk_182 0 190 (dk_at dksX2_mix_3 8 rfl rfl)
theorem dX2_mix_83 : decode cX2_mix 83 = .ok (.aload_n 3, 1) := dk_45 (dk_at dksX2_mix_3 11 rfl rfl)
theorem dX2_mix_84 : decode cX2_mix 84 = .ok (.invokevirtual 193, 3) := dk_182 0 193 (dk_at dksX2_mix_3 12 rfl rfl)
theorem dX2_mix_87 : decode cX2_mix 87 = .ok (.ireturn, 1) := dk_172 (dk_at dksX2_mix_3 15 rfl rfl)
abbrev cX2_fill : ByteArray := prog_6_method_12_code
def yX2_fill : MethodName := ⟨RX2, "fill", "(II)I"⟩
def dkwX2_fill_8 : List UInt8 := [21, 4, 172]
abbrev dktX2_fill_8 : List UInt8 := dkwX2_fill_8 ++ []
def dkwX2_fill_7 : List UInt8 := [180, 0, 204, 28, 96, 181, 0, 204, 45, 45, 180, 0, 198, 154, 0, 7, 5, 167, 0, 4, 4, 182, 0, 190]
abbrev dktX2_fill_7 : List UInt8 := dkwX2_fill_7 ++ dktX2_fill_8
def dkwX2_fill_6 : List UInt8 := [180, 0, 20, 7, 92, 46, 28, 100, 79, 45, 89, 180, 0, 198, 28, 16, 10, 104, 100, 181, 0, 198, 45, 89]
abbrev dktX2_fill_6 : List UInt8 := dkwX2_fill_6 ++ dktX2_fill_7
def dkwX2_fill_5 : List UInt8 := [180, 0, 39, 182, 0, 166, 45, 183, 0, 201, 182, 0, 71, 54, 4, 132, 5, 1, 167, 255, 223, 42]
abbrev dktX2_fill_5 : List UInt8 := dkwX2_fill_5 ++ dktX2_fill_6
def dkwX2_fill_4 : List UInt8 := [184, 0, 97, 2, 54, 4, 3, 54, 5, 21, 5, 28, 162, 0, 33, 42, 180, 0, 39, 187, 0, 75, 89, 42]
abbrev dktX2_fill_4 : List UInt8 := dkwX2_fill_4 ++ dktX2_fill_5
def dkwX2_fill_3 : List UInt8 := [42, 180, 0, 20, 7, 46, 28, 161, 0, 7, 4, 167, 0, 4, 3, 5, 42, 180, 0, 20, 7, 46]
abbrev dktX2_fill_3 : List UInt8 := dkwX2_fill_3 ++ dktX2_fill_4
def dkwX2_fill_2 : List UInt8 := [161, 0, 7, 4, 167, 0, 4, 3, 5, 45, 180, 0, 198, 184, 0, 97, 42, 180, 0, 39, 28, 182, 0, 163]
abbrev dktX2_fill_2 : List UInt8 := dkwX2_fill_2 ++ dktX2_fill_3
def dkwX2_fill_1 : List UInt8 := [45, 4, 182, 0, 180, 16, 7, 45, 182, 0, 184, 184, 0, 97, 45, 180, 0, 198, 28, 16, 10, 104]
abbrev dktX2_fill_1 : List UInt8 := dkwX2_fill_1 ++ dktX2_fill_2
def dkwX2_fill_0 : List UInt8 := [42, 180, 0, 35, 27, 182, 0, 176, 192, 0, 66, 78, 28, 133, 10, 20, 0, 196, 184, 0, 111, 184, 0, 117]
abbrev dktX2_fill_0 : List UInt8 := dkwX2_fill_0 ++ dktX2_fill_1
theorem dksX2_fill_0 : cX2_fill.data.toList.drop 0 = dktX2_fill_0 := by decide +kernel
theorem dksX2_fill_1 : cX2_fill.data.toList.drop 24 = dktX2_fill_1 := dk_seg dksX2_fill_0 24 rfl rfl
theorem dksX2_fill_2 : cX2_fill.data.toList.drop 46 = dktX2_fill_2 := dk_seg dksX2_fill_1 22 rfl rfl
theorem dksX2_fill_3 : cX2_fill.data.toList.drop 70 = dktX2_fill_3 := dk_seg dksX2_fill_2 24 rfl rfl
theorem dksX2_fill_4 : cX2_fill.data.toList.drop 92 = dktX2_fill_4 := dk_seg dksX2_fill_3 22 rfl rfl
theorem dksX2_fill_5 : cX2_fill.data.toList.drop 116 = dktX2_fill_5 := dk_seg dksX2_fill_4 24 rfl rfl
theorem dksX2_fill_6 : cX2_fill.data.toList.drop 138 = dktX2_fill_6 := dk_seg dksX2_fill_5 22 rfl rfl
theorem dksX2_fill_7 : cX2_fill.data.toList.drop 162 = dktX2_fill_7 := dk_seg dksX2_fill_6 24 rfl rfl
theorem dksX2_fill_8 : cX2_fill.data.toList.drop 186 = dktX2_fill_8 := dk_seg dksX2_fill_7 24 rfl rfl
theorem dX2_fill_0 : decode cX2_fill 0 = .ok (.aload_n 0, 1) := dk_42 (dk_at dksX2_fill_0 0 rfl rfl)
theorem dX2_fill_1 : decode cX2_fill 1 = .ok (.getfield 35, 3) := dk_180 0 35 (dk_at dksX2_fill_0 1 rfl rfl)
theorem dX2_fill_4 : decode cX2_fill 4 = .ok (.iload_n 1, 1) := dk_27 (dk_at dksX2_fill_0 4 rfl rfl)
theorem dX2_fill_5 : decode cX2_fill 5 = .ok (.invokevirtual 176, 3) := dk_182 0 176 (dk_at dksX2_fill_0 5 rfl rfl)
theorem dX2_fill_8 : decode cX2_fill 8 = .ok (.checkcast 66, 3) := dk_192 0 66 (dk_at dksX2_fill_0 8 rfl rfl)
theorem dX2_fill_11 : decode cX2_fill 11 = .ok (.astore_n 3, 1) := dk_78 (dk_at dksX2_fill_0 11 rfl rfl)
theorem dX2_fill_12 : decode cX2_fill 12 = .ok (.iload_n 2, 1) := dk_28 (dk_at dksX2_fill_0 12 rfl rfl)
theorem dX2_fill_13 : decode cX2_fill 13 = .ok (.i2l, 1) := dk_133 (dk_at dksX2_fill_0 13 rfl rfl)
theorem dX2_fill_14 : decode cX2_fill 14 = .ok (.lconst 1, 1) := dk_10 (dk_at dksX2_fill_0 14 rfl rfl)
theorem dX2_fill_15 : decode cX2_fill 15 = .ok (.ldc2_w 196, 3) := dk_20 0 196 (dk_at dksX2_fill_0 15 rfl rfl)
theorem dX2_fill_18 : decode cX2_fill 18 = .ok (.invokestatic 111, 3) := dk_184 0 111 (dk_at dksX2_fill_0 18 rfl rfl)
theorem dX2_fill_21 : decode cX2_fill 21 = .ok (.invokestatic 117, 3) := dk_184 0 117 (dk_at dksX2_fill_0 21 rfl rfl)
theorem dX2_fill_24 : decode cX2_fill 24 = .ok (.aload_n 3, 1) := dk_45 (dk_at dksX2_fill_1 0 rfl rfl)
theorem dX2_fill_25 : decode cX2_fill 25 = .ok (.iconst 1, 1) := dk_4 (dk_at dksX2_fill_1 1 rfl rfl)
theorem dX2_fill_26 : decode cX2_fill 26 = .ok (.invokevirtual 180, 3) := dk_182 0 180 (dk_at dksX2_fill_1 2 rfl rfl)
theorem dX2_fill_29 : decode cX2_fill 29 = .ok (.bipush 7, 2) := dk_16 7 (dk_at dksX2_fill_1 5 rfl rfl)
theorem dX2_fill_31 : decode cX2_fill 31 = .ok (.aload_n 3, 1) := dk_45 (dk_at dksX2_fill_1 7 rfl rfl)
theorem dX2_fill_32 : decode cX2_fill 32 = .ok (.invokevirtual 184, 3) := dk_182 0 184 (dk_at dksX2_fill_1 8 rfl rfl)
theorem dX2_fill_35 : decode cX2_fill 35 = .ok (.invokestatic 97, 3) := dk_184 0 97 (dk_at dksX2_fill_1 11 rfl rfl)
theorem dX2_fill_38 : decode cX2_fill 38 = .ok (.aload_n 3, 1) := dk_45 (dk_at dksX2_fill_1 14 rfl rfl)
theorem dX2_fill_39 : decode cX2_fill 39 = .ok (.getfield 198, 3) := dk_180 0 198 (dk_at dksX2_fill_1 15 rfl rfl)
theorem dX2_fill_42 : decode cX2_fill 42 = .ok (.iload_n 2, 1) := dk_28 (dk_at dksX2_fill_1 18 rfl rfl)
theorem dX2_fill_43 : decode cX2_fill 43 = .ok (.bipush 10, 2) := dk_16 10 (dk_at dksX2_fill_1 19 rfl rfl)
theorem dX2_fill_45 : decode cX2_fill 45 = .ok (.imul, 1) := dk_104 (dk_at dksX2_fill_1 21 rfl rfl)
theorem dX2_fill_46 : decode cX2_fill 46 = .ok (.if_icmp .lt 7, 3) := dk_161 0 7 (dk_at dksX2_fill_2 0 rfl rfl)
theorem dX2_fill_49 : decode cX2_fill 49 = .ok (.iconst 1, 1) := dk_4 (dk_at dksX2_fill_2 3 rfl rfl)
theorem dX2_fill_50 : decode cX2_fill 50 = .ok (.goto 4, 3) := dk_167 0 4 (dk_at dksX2_fill_2 4 rfl rfl)
theorem dX2_fill_53 : decode cX2_fill 53 = .ok (.iconst 0, 1) := dk_3 (dk_at dksX2_fill_2 7 rfl rfl)
theorem dX2_fill_54 : decode cX2_fill 54 = .ok (.iconst 2, 1) := dk_5 (dk_at dksX2_fill_2 8 rfl rfl)
theorem dX2_fill_55 : decode cX2_fill 55 = .ok (.aload_n 3, 1) := dk_45 (dk_at dksX2_fill_2 9 rfl rfl)
theorem dX2_fill_56 : decode cX2_fill 56 = .ok (.getfield 198, 3) := dk_180 0 198 (dk_at dksX2_fill_2 10 rfl rfl)
theorem dX2_fill_59 : decode cX2_fill 59 = .ok (.invokestatic 97, 3) := dk_184 0 97 (dk_at dksX2_fill_2 13 rfl rfl)
theorem dX2_fill_62 : decode cX2_fill 62 = .ok (.aload_n 0, 1) := dk_42 (dk_at dksX2_fill_2 16 rfl rfl)
theorem dX2_fill_63 : decode cX2_fill 63 = .ok (.getfield 39, 3) := dk_180 0 39 (dk_at dksX2_fill_2 17 rfl rfl)
theorem dX2_fill_66 : decode cX2_fill 66 = .ok (.iload_n 2, 1) := dk_28 (dk_at dksX2_fill_2 20 rfl rfl)
theorem dX2_fill_67 : decode cX2_fill 67 = .ok (.invokevirtual 163, 3) := dk_182 0 163 (dk_at dksX2_fill_2 21 rfl rfl)
theorem dX2_fill_70 : decode cX2_fill 70 = .ok (.aload_n 0, 1) := dk_42 (dk_at dksX2_fill_3 0 rfl rfl)
theorem dX2_fill_71 : decode cX2_fill 71 = .ok (.getfield 20, 3) := dk_180 0 20 (dk_at dksX2_fill_3 1 rfl rfl)
theorem dX2_fill_74 : decode cX2_fill 74 = .ok (.iconst 4, 1) := dk_7 (dk_at dksX2_fill_3 4 rfl rfl)
theorem dX2_fill_75 : decode cX2_fill 75 = .ok (.iaload, 1) := dk_46 (dk_at dksX2_fill_3 5 rfl rfl)
theorem dX2_fill_76 : decode cX2_fill 76 = .ok (.iload_n 2, 1) := dk_28 (dk_at dksX2_fill_3 6 rfl rfl)
theorem dX2_fill_77 : decode cX2_fill 77 = .ok (.if_icmp .lt 7, 3) := dk_161 0 7 (dk_at dksX2_fill_3 7 rfl rfl)
theorem dX2_fill_80 : decode cX2_fill 80 = .ok (.iconst 1, 1) := dk_4 (dk_at dksX2_fill_3 10 rfl rfl)
theorem dX2_fill_81 : decode cX2_fill 81 = .ok (.goto 4, 3) := dk_167 0 4 (dk_at dksX2_fill_3 11 rfl rfl)
theorem dX2_fill_84 : decode cX2_fill 84 = .ok (.iconst 0, 1) := dk_3 (dk_at dksX2_fill_3 14 rfl rfl)
theorem dX2_fill_85 : decode cX2_fill 85 = .ok (.iconst 2, 1) := dk_5 (dk_at dksX2_fill_3 15 rfl rfl)
theorem dX2_fill_86 : decode cX2_fill 86 = .ok (.aload_n 0, 1) := dk_42 (dk_at dksX2_fill_3 16 rfl rfl)
theorem dX2_fill_87 : decode cX2_fill 87 = .ok (.getfield 20, 3) := dk_180 0 20 (dk_at dksX2_fill_3 17 rfl rfl)
theorem dX2_fill_90 : decode cX2_fill 90 = .ok (.iconst 4, 1) := dk_7 (dk_at dksX2_fill_3 20 rfl rfl)
theorem dX2_fill_91 : decode cX2_fill 91 = .ok (.iaload, 1) := dk_46 (dk_at dksX2_fill_3 21 rfl rfl)
theorem dX2_fill_92 : decode cX2_fill 92 = .ok (.invokestatic 97, 3) := dk_184 0 97 (dk_at dksX2_fill_4 0 rfl rfl)
theorem dX2_fill_95 : decode cX2_fill 95 = .ok (.iconst (-1), 1) := dk_2 (dk_at dksX2_fill_4 3 rfl rfl)
theorem dX2_fill_96 : decode cX2_fill 96 = .ok (.istore 4, 2) := dk_54 4 (dk_at dksX2_fill_4 4 rfl rfl)
theorem dX2_fill_98 : decode cX2_fill 98 = .ok (.iconst 0, 1) := dk_3 (dk_at dksX2_fill_4 6 rfl rfl)
theorem dX2_fill_99 : decode cX2_fill 99 = .ok (.istore 5, 2) := dk_54 5 (dk_at dksX2_fill_4 7 rfl rfl)
theorem dX2_fill_101 : decode cX2_fill 101 = .ok (.iload 5, 2) := dk_21 5 (dk_at dksX2_fill_4 9 rfl rfl)
theorem dX2_fill_103 : decode cX2_fill 103 = .ok (.iload_n 2, 1) := dk_28 (dk_at dksX2_fill_4 11 rfl rfl)
theorem dX2_fill_104 : decode cX2_fill 104 = .ok (.if_icmp .ge 33, 3) := dk_162 0 33 (dk_at dksX2_fill_4 12 rfl rfl)
theorem dX2_fill_107 : decode cX2_fill 107 = .ok (.aload_n 0, 1) := dk_42 (dk_at dksX2_fill_4 15 rfl rfl)
theorem dX2_fill_108 : decode cX2_fill 108 = .ok (.getfield 39, 3) := dk_180 0 39 (dk_at dksX2_fill_4 16 rfl rfl)
theorem dX2_fill_111 : decode cX2_fill 111 = .ok (.new 75, 3) := dk_187 0 75 (dk_at dksX2_fill_4 19 rfl rfl)
theorem dX2_fill_114 : decode cX2_fill 114 = .ok (.dup, 1) := dk_89 (dk_at dksX2_fill_4 22 rfl rfl)
theorem dX2_fill_115 : decode cX2_fill 115 = .ok (.aload_n 0, 1) := dk_42 (dk_at dksX2_fill_4 23 rfl rfl)
theorem dX2_fill_116 : decode cX2_fill 116 = .ok (.getfield 39, 3) := dk_180 0 39 (dk_at dksX2_fill_5 0 rfl rfl)
theorem dX2_fill_119 : decode cX2_fill 119 = .ok (.invokevirtual 166, 3) := dk_182 0 166 (dk_at dksX2_fill_5 3 rfl rfl)
theorem dX2_fill_122 : decode cX2_fill 122 = .ok (.aload_n 3, 1) := dk_45 (dk_at dksX2_fill_5 6 rfl rfl)
theorem dX2_fill_123 : decode cX2_fill 123 = .ok (.invokespecial 201, 3) := dk_183 0 201 (dk_at dksX2_fill_5 7 rfl rfl)
theorem dX2_fill_126 : decode cX2_fill 126 = .ok (.invokevirtual 71, 3) := dk_182 0 71 (dk_at dksX2_fill_5 10 rfl rfl)
theorem dX2_fill_129 : decode cX2_fill 129 = .ok (.istore 4, 2) := dk_54 4 (dk_at dksX2_fill_5 13 rfl rfl)
theorem dX2_fill_131 : decode cX2_fill 131 = .ok (.iinc 5 1, 3) := dk_132 5 1 (dk_at dksX2_fill_5 15 rfl rfl)
theorem dX2_fill_134 : decode cX2_fill 134 = .ok (.goto (-33), 3) := dk_167 255 223 (dk_at dksX2_fill_5 18 rfl rfl)
theorem dX2_fill_137 : decode cX2_fill 137 = .ok (.aload_n 0, 1) := dk_42 (dk_at dksX2_fill_5 21 rfl rfl)
theorem dX2_fill_138 : decode cX2_fill 138 = .ok (.getfield 20, 3) := dk_180 0 20 (dk_at dksX2_fill_6 0 rfl rfl)
theorem dX2_fill_141 : decode cX2_fill 141 = .ok (.iconst 4, 1) := dk_7 (dk_at dksX2_fill_6 3 rfl rfl)
theorem dX2_fill_142 : decode cX2_fill 142 = .ok (.dup2, 1) := dk_92 (dk_at dksX2_fill_6 4 rfl rfl)
theorem dX2_fill_143 : decode cX2_fill 143 = .ok (.iaload, 1) := dk_46 (dk_at dksX2_fill_6 5 rfl rfl)
theorem dX2_fill_144 : decode cX2_fill 144 = .ok (.iload_n 2, 1) := dk_28 (dk_at dksX2_fill_6 6 rfl rfl)
theorem dX2_fill_145 : decode cX2_fill 145 = .ok (.isub, 1) := dk_100 (dk_at dksX2_fill_6 7 rfl rfl)
theorem dX2_fill_146 : decode cX2_fill 146 = .ok (.iastore, 1) := dk_79 (dk_at dksX2_fill_6 8 rfl rfl)
theorem dX2_fill_147 : decode cX2_fill 147 = .ok (.aload_n 3, 1) := dk_45 (dk_at dksX2_fill_6 9 rfl rfl)
theorem dX2_fill_148 : decode cX2_fill 148 = .ok (.dup, 1) := dk_89 (dk_at dksX2_fill_6 10 rfl rfl)
theorem dX2_fill_149 : decode cX2_fill 149 = .ok (.getfield 198, 3) := dk_180 0 198 (dk_at dksX2_fill_6 11 rfl rfl)
theorem dX2_fill_152 : decode cX2_fill 152 = .ok (.iload_n 2, 1) := dk_28 (dk_at dksX2_fill_6 14 rfl rfl)
theorem dX2_fill_153 : decode cX2_fill 153 = .ok (.bipush 10, 2) := dk_16 10 (dk_at dksX2_fill_6 15 rfl rfl)
theorem dX2_fill_155 : decode cX2_fill 155 = .ok (.imul, 1) := dk_104 (dk_at dksX2_fill_6 17 rfl rfl)
theorem dX2_fill_156 : decode cX2_fill 156 = .ok (.isub, 1) := dk_100 (dk_at dksX2_fill_6 18 rfl rfl)
theorem dX2_fill_157 : decode cX2_fill 157 = .ok (.putfield 198, 3) := dk_181 0 198 (dk_at dksX2_fill_6 19 rfl rfl)
theorem dX2_fill_160 : decode cX2_fill 160 = .ok (.aload_n 3, 1) := dk_45 (dk_at dksX2_fill_6 22 rfl rfl)
theorem dX2_fill_161 : decode cX2_fill 161 = .ok (.dup, 1) := dk_89 (dk_at dksX2_fill_6 23 rfl rfl)
theorem dX2_fill_162 : decode cX2_fill 162 = .ok (.getfield 204, 3) := dk_180 0 204 (dk_at dksX2_fill_7 0 rfl rfl)
theorem dX2_fill_165 : decode cX2_fill 165 = .ok (.iload_n 2, 1) := dk_28 (dk_at dksX2_fill_7 3 rfl rfl)
theorem dX2_fill_166 : decode cX2_fill 166 = .ok (.iadd, 1) := dk_96 (dk_at dksX2_fill_7 4 rfl rfl)
theorem dX2_fill_167 : decode cX2_fill 167 = .ok (.putfield 204, 3) := dk_181 0 204 (dk_at dksX2_fill_7 5 rfl rfl)
theorem dX2_fill_170 : decode cX2_fill 170 = .ok (.aload_n 3, 1) := dk_45 (dk_at dksX2_fill_7 8 rfl rfl)
theorem dX2_fill_171 : decode cX2_fill 171 = .ok (.aload_n 3, 1) := dk_45 (dk_at dksX2_fill_7 9 rfl rfl)
theorem dX2_fill_172 : decode cX2_fill 172 = .ok (.getfield 198, 3) := dk_180 0 198 (dk_at dksX2_fill_7 10 rfl rfl)
theorem dX2_fill_175 : decode cX2_fill 175 = .ok (.ifCond .ne 7, 3) := dk_154 0 7 (dk_at dksX2_fill_7 13 rfl rfl)
theorem dX2_fill_178 : decode cX2_fill 178 = .ok (.iconst 2, 1) := dk_5 (dk_at dksX2_fill_7 16 rfl rfl)
theorem dX2_fill_179 : decode cX2_fill 179 = .ok (.goto 4, 3) := dk_167 0 4 (dk_at dksX2_fill_7 17 rfl rfl)
theorem dX2_fill_182 : decode cX2_fill 182 = .ok (.iconst 1, 1) := dk_4 (dk_at dksX2_fill_7 20 rfl rfl)
theorem dX2_fill_183 : decode cX2_fill 183 = .ok (.invokevirtual 190, 3) := dk_182 0 190 (dk_at dksX2_fill_7 21 rfl rfl)
theorem dX2_fill_186 : decode cX2_fill 186 = .ok (.iload 4, 2) := dk_21 4 (dk_at dksX2_fill_8 0 rfl rfl)
theorem dX2_fill_188 : decode cX2_fill 188 = .ok (.ireturn, 1) := dk_172 (dk_at dksX2_fill_8 2 rfl rfl)
abbrev cX2_open : ByteArray := prog_6_method_14_code
def yX2_open : MethodName := ⟨RX2, "open", "(I)I"⟩
def dkwX2_open_0 : List UInt8 := [42, 27, 182, 0, 208, 77, 44, 4, 182, 0, 212, 44, 182, 0, 213, 172]
abbrev dktX2_open_0 : List UInt8 := dkwX2_open_0 ++ []
theorem dksX2_open_0 : cX2_open.data.toList.drop 0 = dktX2_open_0 := by decide +kernel
theorem dX2_open_0 : decode cX2_open 0 = .ok (.aload_n 0, 1) := dk_42 (dk_at dksX2_open_0 0 rfl rfl)
theorem dX2_open_1 : decode cX2_open 1 = .ok (.iload_n 1, 1) := dk_27 (dk_at dksX2_open_0 1 rfl rfl)
theorem dX2_open_2 : decode cX2_open 2 = .ok (.invokevirtual 208, 3) := dk_182 0 208 (dk_at dksX2_open_0 2 rfl rfl)
theorem dX2_open_5 : decode cX2_open 5 = .ok (.astore_n 2, 1) := dk_77 (dk_at dksX2_open_0 5 rfl rfl)
theorem dX2_open_6 : decode cX2_open 6 = .ok (.aload_n 2, 1) := dk_44 (dk_at dksX2_open_0 6 rfl rfl)
theorem dX2_open_7 : decode cX2_open 7 = .ok (.iconst 1, 1) := dk_4 (dk_at dksX2_open_0 7 rfl rfl)
theorem dX2_open_8 : decode cX2_open 8 = .ok (.invokevirtual 212, 3) := dk_182 0 212 (dk_at dksX2_open_0 8 rfl rfl)
theorem dX2_open_11 : decode cX2_open 11 = .ok (.aload_n 2, 1) := dk_44 (dk_at dksX2_open_0 11 rfl rfl)
theorem dX2_open_12 : decode cX2_open 12 = .ok (.invokevirtual 213, 3) := dk_182 0 213 (dk_at dksX2_open_0 12 rfl rfl)
theorem dX2_open_15 : decode cX2_open 15 = .ok (.ireturn, 1) := dk_172 (dk_at dksX2_open_0 15 rfl rfl)
abbrev cX2_resting : ByteArray := prog_6_method_13_code
def yX2_resting : MethodName := ⟨RX2, "resting", "(I)LMustardMill$Jar;"⟩
def dkwX2_resting_1 : List UInt8 := [184, 0, 97, 44, 176]
abbrev dktX2_resting_1 : List UInt8 := dkwX2_resting_1 ++ []
def dkwX2_resting_0 : List UInt8 := [42, 180, 0, 39, 27, 182, 0, 176, 192, 0, 75, 77, 44, 3, 182, 0, 206, 16, 8, 44, 182, 0, 207]
abbrev dktX2_resting_0 : List UInt8 := dkwX2_resting_0 ++ dktX2_resting_1
theorem dksX2_resting_0 : cX2_resting.data.toList.drop 0 = dktX2_resting_0 := by decide +kernel
theorem dksX2_resting_1 : cX2_resting.data.toList.drop 23 = dktX2_resting_1 := dk_seg dksX2_resting_0 23 rfl rfl
theorem dX2_resting_0 : decode cX2_resting 0 = .ok (.aload_n 0, 1) := dk_42 (dk_at dksX2_resting_0 0 rfl rfl)
theorem dX2_resting_1 : decode cX2_resting 1 = .ok (.getfield 39, 3) := dk_180 0 39 (dk_at dksX2_resting_0 1 rfl rfl)
theorem dX2_resting_4 : decode cX2_resting 4 = .ok (.iload_n 1, 1) := dk_27 (dk_at dksX2_resting_0 4 rfl rfl)
theorem dX2_resting_5 : decode cX2_resting 5 = .ok (.invokevirtual 176, 3) := dk_182 0 176 (dk_at dksX2_resting_0 5 rfl rfl)
theorem dX2_resting_8 : decode cX2_resting 8 = .ok (.checkcast 75, 3) := dk_192 0 75 (dk_at dksX2_resting_0 8 rfl rfl)
theorem dX2_resting_11 : decode cX2_resting 11 = .ok (.astore_n 2, 1) := dk_77 (dk_at dksX2_resting_0 11 rfl rfl)
theorem dX2_resting_12 : decode cX2_resting 12 = .ok (.aload_n 2, 1) := dk_44 (dk_at dksX2_resting_0 12 rfl rfl)
theorem dX2_resting_13 : decode cX2_resting 13 = .ok (.iconst 0, 1) := dk_3 (dk_at dksX2_resting_0 13 rfl rfl)
theorem dX2_resting_14 : decode cX2_resting 14 = .ok (.invokevirtual 206, 3) := dk_182 0 206 (dk_at dksX2_resting_0 14 rfl rfl)
theorem dX2_resting_17 : decode cX2_resting 17 = .ok (.bipush 8, 2) := dk_16 8 (dk_at dksX2_resting_0 17 rfl rfl)
theorem dX2_resting_19 : decode cX2_resting 19 = .ok (.aload_n 2, 1) := dk_44 (dk_at dksX2_resting_0 19 rfl rfl)
theorem dX2_resting_20 : decode cX2_resting 20 = .ok (.invokevirtual 207, 3) := dk_182 0 207 (dk_at dksX2_resting_0 20 rfl rfl)
theorem dX2_resting_23 : decode cX2_resting 23 = .ok (.invokestatic 97, 3) := dk_184 0 97 (dk_at dksX2_resting_1 0 rfl rfl)
theorem dX2_resting_26 : decode cX2_resting 26 = .ok (.aload_n 2, 1) := dk_44 (dk_at dksX2_resting_1 3 rfl rfl)
theorem dX2_resting_27 : decode cX2_resting 27 = .ok (.areturn, 1) := dk_176 (dk_at dksX2_resting_1 4 rfl rfl)
abbrev cX2_sell : ByteArray := prog_6_method_16_code
def yX2_sell : MethodName := ⟨RX2, "sell", "(I)I"⟩
def dkwX2_sell_1 : List UInt8 := [182, 0, 213, 6, 108, 182, 0, 224, 172]
abbrev dktX2_sell_1 : List UInt8 := dkwX2_sell_1 ++ []
def dkwX2_sell_0 : List UInt8 := [42, 27, 182, 0, 208, 77, 44, 182, 0, 218, 16, 9, 44, 182, 0, 221, 184, 0, 97, 42, 44, 44]
abbrev dktX2_sell_0 : List UInt8 := dkwX2_sell_0 ++ dktX2_sell_1
theorem dksX2_sell_0 : cX2_sell.data.toList.drop 0 = dktX2_sell_0 := by decide +kernel
theorem dksX2_sell_1 : cX2_sell.data.toList.drop 22 = dktX2_sell_1 := dk_seg dksX2_sell_0 22 rfl rfl
theorem dX2_sell_0 : decode cX2_sell 0 = .ok (.aload_n 0, 1) := dk_42 (dk_at dksX2_sell_0 0 rfl rfl)
theorem dX2_sell_1 : decode cX2_sell 1 = .ok (.iload_n 1, 1) := dk_27 (dk_at dksX2_sell_0 1 rfl rfl)
theorem dX2_sell_2 : decode cX2_sell 2 = .ok (.invokevirtual 208, 3) := dk_182 0 208 (dk_at dksX2_sell_0 2 rfl rfl)
theorem dX2_sell_5 : decode cX2_sell 5 = .ok (.astore_n 2, 1) := dk_77 (dk_at dksX2_sell_0 5 rfl rfl)
theorem dX2_sell_6 : decode cX2_sell 6 = .ok (.aload_n 2, 1) := dk_44 (dk_at dksX2_sell_0 6 rfl rfl)
theorem dX2_sell_7 : decode cX2_sell 7 = .ok (.invokevirtual 218, 3) := dk_182 0 218 (dk_at dksX2_sell_0 7 rfl rfl)
theorem dX2_sell_10 : decode cX2_sell 10 = .ok (.bipush 9, 2) := dk_16 9 (dk_at dksX2_sell_0 10 rfl rfl)
theorem dX2_sell_12 : decode cX2_sell 12 = .ok (.aload_n 2, 1) := dk_44 (dk_at dksX2_sell_0 12 rfl rfl)
theorem dX2_sell_13 : decode cX2_sell 13 = .ok (.invokevirtual 221, 3) := dk_182 0 221 (dk_at dksX2_sell_0 13 rfl rfl)
theorem dX2_sell_16 : decode cX2_sell 16 = .ok (.invokestatic 97, 3) := dk_184 0 97 (dk_at dksX2_sell_0 16 rfl rfl)
theorem dX2_sell_19 : decode cX2_sell 19 = .ok (.aload_n 0, 1) := dk_42 (dk_at dksX2_sell_0 19 rfl rfl)
theorem dX2_sell_20 : decode cX2_sell 20 = .ok (.aload_n 2, 1) := dk_44 (dk_at dksX2_sell_0 20 rfl rfl)
theorem dX2_sell_21 : decode cX2_sell 21 = .ok (.aload_n 2, 1) := dk_44 (dk_at dksX2_sell_0 21 rfl rfl)
theorem dX2_sell_22 : decode cX2_sell 22 = .ok (.invokevirtual 213, 3) := dk_182 0 213 (dk_at dksX2_sell_1 0 rfl rfl)
theorem dX2_sell_25 : decode cX2_sell 25 = .ok (.iconst 3, 1) := dk_6 (dk_at dksX2_sell_1 3 rfl rfl)
theorem dX2_sell_26 : decode cX2_sell 26 = .ok (.idiv, 1) := dk_108 (dk_at dksX2_sell_1 4 rfl rfl)
theorem dX2_sell_27 : decode cX2_sell 27 = .ok (.invokevirtual 224, 3) := dk_182 0 224 (dk_at dksX2_sell_1 5 rfl rfl)
theorem dX2_sell_30 : decode cX2_sell 30 = .ok (.ireturn, 1) := dk_172 (dk_at dksX2_sell_1 8 rfl rfl)
abbrev cX2_sold : ByteArray := prog_6_method_15_code
def yX2_sold : MethodName := ⟨RX2, "sold", "(LMustardMill$Jar;I)I"⟩
def dkwX2_sold_0 : List UInt8 := [43, 5, 182, 0, 212, 42, 28, 182, 0, 216, 28, 172]
abbrev dktX2_sold_0 : List UInt8 := dkwX2_sold_0 ++ []
theorem dksX2_sold_0 : cX2_sold.data.toList.drop 0 = dktX2_sold_0 := by decide +kernel
theorem dX2_sold_0 : decode cX2_sold 0 = .ok (.aload_n 1, 1) := dk_43 (dk_at dksX2_sold_0 0 rfl rfl)
theorem dX2_sold_1 : decode cX2_sold 1 = .ok (.iconst 2, 1) := dk_5 (dk_at dksX2_sold_0 1 rfl rfl)
theorem dX2_sold_2 : decode cX2_sold 2 = .ok (.invokevirtual 212, 3) := dk_182 0 212 (dk_at dksX2_sold_0 2 rfl rfl)
theorem dX2_sold_5 : decode cX2_sold 5 = .ok (.aload_n 0, 1) := dk_42 (dk_at dksX2_sold_0 5 rfl rfl)
theorem dX2_sold_6 : decode cX2_sold 6 = .ok (.iload_n 2, 1) := dk_28 (dk_at dksX2_sold_0 6 rfl rfl)
theorem dX2_sold_7 : decode cX2_sold 7 = .ok (.invokevirtual 216, 3) := dk_182 0 216 (dk_at dksX2_sold_0 7 rfl rfl)
theorem dX2_sold_10 : decode cX2_sold 10 = .ok (.iload_n 2, 1) := dk_28 (dk_at dksX2_sold_0 10 rfl rfl)
theorem dX2_sold_11 : decode cX2_sold 11 = .ok (.ireturn, 1) := dk_172 (dk_at dksX2_sold_0 11 rfl rfl)
abbrev cX2_get : ByteArray := prog_6_method_4_code
def yX2_get : MethodName := ⟨RX2, "get", "(I)V"⟩
def dkwX2_get_1 : List UInt8 := [181, 0, 45, 177]
abbrev dktX2_get_1 : List UInt8 := dkwX2_get_1 ++ []
def dkwX2_get_0 : List UInt8 := [42, 89, 180, 0, 91, 27, 96, 181, 0, 91, 42, 17, 39, 15, 42, 180, 0, 45, 27, 96, 184, 0, 103]
abbrev dktX2_get_0 : List UInt8 := dkwX2_get_0 ++ dktX2_get_1
theorem dksX2_get_0 : cX2_get.data.toList.drop 0 = dktX2_get_0 := by decide +kernel
theorem dksX2_get_1 : cX2_get.data.toList.drop 23 = dktX2_get_1 := dk_seg dksX2_get_0 23 rfl rfl
theorem dX2_get_0 : decode cX2_get 0 = .ok (.aload_n 0, 1) := dk_42 (dk_at dksX2_get_0 0 rfl rfl)
theorem dX2_get_1 : decode cX2_get 1 = .ok (.dup, 1) := dk_89 (dk_at dksX2_get_0 1 rfl rfl)
theorem dX2_get_2 : decode cX2_get 2 = .ok (.getfield 91, 3) := dk_180 0 91 (dk_at dksX2_get_0 2 rfl rfl)
theorem dX2_get_5 : decode cX2_get 5 = .ok (.iload_n 1, 1) := dk_27 (dk_at dksX2_get_0 5 rfl rfl)
theorem dX2_get_6 : decode cX2_get 6 = .ok (.iadd, 1) := dk_96 (dk_at dksX2_get_0 6 rfl rfl)
theorem dX2_get_7 : decode cX2_get 7 = .ok (.putfield 91, 3) := dk_181 0 91 (dk_at dksX2_get_0 7 rfl rfl)
theorem dX2_get_10 : decode cX2_get 10 = .ok (.aload_n 0, 1) := dk_42 (dk_at dksX2_get_0 10 rfl rfl)
theorem dX2_get_11 : decode cX2_get 11 = .ok (.sipush 9999, 3) := dk_17 39 15 (dk_at dksX2_get_0 11 rfl rfl)
theorem dX2_get_14 : decode cX2_get 14 = .ok (.aload_n 0, 1) := dk_42 (dk_at dksX2_get_0 14 rfl rfl)
theorem dX2_get_15 : decode cX2_get 15 = .ok (.getfield 45, 3) := dk_180 0 45 (dk_at dksX2_get_0 15 rfl rfl)
theorem dX2_get_18 : decode cX2_get 18 = .ok (.iload_n 1, 1) := dk_27 (dk_at dksX2_get_0 18 rfl rfl)
theorem dX2_get_19 : decode cX2_get 19 = .ok (.iadd, 1) := dk_96 (dk_at dksX2_get_0 19 rfl rfl)
theorem dX2_get_20 : decode cX2_get 20 = .ok (.invokestatic 103, 3) := dk_184 0 103 (dk_at dksX2_get_0 20 rfl rfl)
theorem dX2_get_23 : decode cX2_get 23 = .ok (.putfield 45, 3) := dk_181 0 45 (dk_at dksX2_get_1 0 rfl rfl)
theorem dX2_get_26 : decode cX2_get 26 = .ok (.return_, 1) := dk_177 (dk_at dksX2_get_1 3 rfl rfl)
abbrev cX2_serve : ByteArray := prog_6_method_22_code
def yX2_serve : MethodName := ⟨RX2, "serve", "(I)I"⟩
def dkwX2_serve_3 : List UInt8 := [45, 182, 1, 6, 181, 1, 9, 44, 180, 1, 9, 172]
abbrev dktX2_serve_3 : List UInt8 := dkwX2_serve_3 ++ []
def dkwX2_serve_2 : List UInt8 := [184, 0, 97, 42, 45, 45, 182, 0, 213, 5, 108, 5, 96, 182, 0, 224, 54, 4, 44, 4, 182, 1, 5, 44]
abbrev dktX2_serve_2 : List UInt8 := dkwX2_serve_2 ++ dktX2_serve_3
def dkwX2_serve_1 : List UInt8 := [44, 182, 0, 251, 78, 45, 198, 0, 7, 4, 167, 0, 4, 3, 16, 11, 42, 180, 0, 39, 3, 184, 0, 255]
abbrev dktX2_serve_1 : List UInt8 := dkwX2_serve_1 ++ dktX2_serve_2
def dkwX2_serve_0 : List UInt8 := [42, 180, 0, 42, 27, 182, 0, 176, 192, 0, 80, 77, 44, 3, 182, 0, 250, 16, 10, 27, 184, 0, 97, 42]
abbrev dktX2_serve_0 : List UInt8 := dkwX2_serve_0 ++ dktX2_serve_1
theorem dksX2_serve_0 : cX2_serve.data.toList.drop 0 = dktX2_serve_0 := by decide +kernel
theorem dksX2_serve_1 : cX2_serve.data.toList.drop 24 = dktX2_serve_1 := dk_seg dksX2_serve_0 24 rfl rfl
theorem dksX2_serve_2 : cX2_serve.data.toList.drop 48 = dktX2_serve_2 := dk_seg dksX2_serve_1 24 rfl rfl
theorem dksX2_serve_3 : cX2_serve.data.toList.drop 72 = dktX2_serve_3 := dk_seg dksX2_serve_2 24 rfl rfl
theorem dX2_serve_0 : decode cX2_serve 0 = .ok (.aload_n 0, 1) := dk_42 (dk_at dksX2_serve_0 0 rfl rfl)
theorem dX2_serve_1 : decode cX2_serve 1 = .ok (.getfield 42, 3) := dk_180 0 42 (dk_at dksX2_serve_0 1 rfl rfl)
theorem dX2_serve_4 : decode cX2_serve 4 = .ok (.iload_n 1, 1) := dk_27 (dk_at dksX2_serve_0 4 rfl rfl)
theorem dX2_serve_5 : decode cX2_serve 5 = .ok (.invokevirtual 176, 3) := dk_182 0 176 (dk_at dksX2_serve_0 5 rfl rfl)
theorem dX2_serve_8 : decode cX2_serve 8 = .ok (.checkcast 80, 3) := dk_192 0 80 (dk_at dksX2_serve_0 8 rfl rfl)
theorem dX2_serve_11 : decode cX2_serve 11 = .ok (.astore_n 2, 1) := dk_77 (dk_at dksX2_serve_0 11 rfl rfl)
theorem dX2_serve_12 : decode cX2_serve 12 = .ok (.aload_n 2, 1) := dk_44 (dk_at dksX2_serve_0 12 rfl rfl)
theorem dX2_serve_13 : decode cX2_serve 13 = .ok (.iconst 0, 1) := dk_3 (dk_at dksX2_serve_0 13 rfl rfl)
theorem dX2_serve_14 : decode cX2_serve 14 = .ok (.invokevirtual 250, 3) := dk_182 0 250 (dk_at dksX2_serve_0 14 rfl rfl)
theorem dX2_serve_17 : decode cX2_serve 17 = .ok (.bipush 10, 2) := dk_16 10 (dk_at dksX2_serve_0 17 rfl rfl)
theorem dX2_serve_19 : decode cX2_serve 19 = .ok (.iload_n 1, 1) := dk_27 (dk_at dksX2_serve_0 19 rfl rfl)
theorem dX2_serve_20 : decode cX2_serve 20 = .ok (.invokestatic 97, 3) := dk_184 0 97 (dk_at dksX2_serve_0 20 rfl rfl)
theorem dX2_serve_23 : decode cX2_serve 23 = .ok (.aload_n 0, 1) := dk_42 (dk_at dksX2_serve_0 23 rfl rfl)
theorem dX2_serve_24 : decode cX2_serve 24 = .ok (.aload_n 2, 1) := dk_44 (dk_at dksX2_serve_1 0 rfl rfl)
theorem dX2_serve_25 : decode cX2_serve 25 = .ok (.invokevirtual 251, 3) := dk_182 0 251 (dk_at dksX2_serve_1 1 rfl rfl)
theorem dX2_serve_28 : decode cX2_serve 28 = .ok (.astore_n 3, 1) := dk_78 (dk_at dksX2_serve_1 4 rfl rfl)
theorem dX2_serve_29 : decode cX2_serve 29 = .ok (.aload_n 3, 1) := dk_45 (dk_at dksX2_serve_1 5 rfl rfl)
theorem dX2_serve_30 : decode cX2_serve 30 = .ok (.ifnull 7, 3) := dk_198 0 7 (dk_at dksX2_serve_1 6 rfl rfl)
theorem dX2_serve_33 : decode cX2_serve 33 = .ok (.iconst 1, 1) := dk_4 (dk_at dksX2_serve_1 9 rfl rfl)
theorem dX2_serve_34 : decode cX2_serve 34 = .ok (.goto 4, 3) := dk_167 0 4 (dk_at dksX2_serve_1 10 rfl rfl)
theorem dX2_serve_37 : decode cX2_serve 37 = .ok (.iconst 0, 1) := dk_3 (dk_at dksX2_serve_1 13 rfl rfl)
theorem dX2_serve_38 : decode cX2_serve 38 = .ok (.bipush 11, 2) := dk_16 11 (dk_at dksX2_serve_1 14 rfl rfl)
theorem dX2_serve_40 : decode cX2_serve 40 = .ok (.aload_n 0, 1) := dk_42 (dk_at dksX2_serve_1 16 rfl rfl)
theorem dX2_serve_41 : decode cX2_serve 41 = .ok (.getfield 39, 3) := dk_180 0 39 (dk_at dksX2_serve_1 17 rfl rfl)
theorem dX2_serve_44 : decode cX2_serve 44 = .ok (.iconst 0, 1) := dk_3 (dk_at dksX2_serve_1 20 rfl rfl)
theorem dX2_serve_45 : decode cX2_serve 45 = .ok (.invokestatic 255, 3) := dk_184 0 255 (dk_at dksX2_serve_1 21 rfl rfl)
theorem dX2_serve_48 : decode cX2_serve 48 = .ok (.invokestatic 97, 3) := dk_184 0 97 (dk_at dksX2_serve_2 0 rfl rfl)
theorem dX2_serve_51 : decode cX2_serve 51 = .ok (.aload_n 0, 1) := dk_42 (dk_at dksX2_serve_2 3 rfl rfl)
theorem dX2_serve_52 : decode cX2_serve 52 = .ok (.aload_n 3, 1) := dk_45 (dk_at dksX2_serve_2 4 rfl rfl)
theorem dX2_serve_53 : decode cX2_serve 53 = .ok (.aload_n 3, 1) := dk_45 (dk_at dksX2_serve_2 5 rfl rfl)
theorem dX2_serve_54 : decode cX2_serve 54 = .ok (.invokevirtual 213, 3) := dk_182 0 213 (dk_at dksX2_serve_2 6 rfl rfl)
theorem dX2_serve_57 : decode cX2_serve 57 = .ok (.iconst 2, 1) := dk_5 (dk_at dksX2_serve_2 9 rfl rfl)
theorem dX2_serve_58 : decode cX2_serve 58 = .ok (.idiv, 1) := dk_108 (dk_at dksX2_serve_2 10 rfl rfl)
theorem dX2_serve_59 : decode cX2_serve 59 = .ok (.iconst 2, 1) := dk_5 (dk_at dksX2_serve_2 11 rfl rfl)
theorem dX2_serve_60 : decode cX2_serve 60 = .ok (.iadd, 1) := dk_96 (dk_at dksX2_serve_2 12 rfl rfl)
theorem dX2_serve_61 : decode cX2_serve 61 = .ok (.invokevirtual 224, 3) := dk_182 0 224 (dk_at dksX2_serve_2 13 rfl rfl)
theorem dX2_serve_64 : decode cX2_serve 64 = .ok (.istore 4, 2) := dk_54 4 (dk_at dksX2_serve_2 16 rfl rfl)
theorem dX2_serve_66 : decode cX2_serve 66 = .ok (.aload_n 2, 1) := dk_44 (dk_at dksX2_serve_2 18 rfl rfl)
theorem dX2_serve_67 : decode cX2_serve 67 = .ok (.iconst 1, 1) := dk_4 (dk_at dksX2_serve_2 19 rfl rfl)
theorem dX2_serve_68 : decode cX2_serve 68 = .ok (.invokevirtual 261, 3) := dk_182 1 5 (dk_at dksX2_serve_2 20 rfl rfl)
theorem dX2_serve_71 : decode cX2_serve 71 = .ok (.aload_n 2, 1) := dk_44 (dk_at dksX2_serve_2 23 rfl rfl)
theorem dX2_serve_72 : decode cX2_serve 72 = .ok (.aload_n 3, 1) := dk_45 (dk_at dksX2_serve_3 0 rfl rfl)
theorem dX2_serve_73 : decode cX2_serve 73 = .ok (.invokevirtual 262, 3) := dk_182 1 6 (dk_at dksX2_serve_3 1 rfl rfl)
theorem dX2_serve_76 : decode cX2_serve 76 = .ok (.putfield 265, 3) := dk_181 1 9 (dk_at dksX2_serve_3 4 rfl rfl)
theorem dX2_serve_79 : decode cX2_serve 79 = .ok (.aload_n 2, 1) := dk_44 (dk_at dksX2_serve_3 7 rfl rfl)
theorem dX2_serve_80 : decode cX2_serve 80 = .ok (.getfield 265, 3) := dk_180 1 9 (dk_at dksX2_serve_3 8 rfl rfl)
theorem dX2_serve_83 : decode cX2_serve 83 = .ok (.ireturn, 1) := dk_172 (dk_at dksX2_serve_3 11 rfl rfl)
abbrev cX2_jarFor : ByteArray := prog_6_method_21_code
def yX2_jarFor : MethodName := ⟨RX2, "jarFor", "(LMustardMill$Wish;)LMustardMill$Jar;"⟩
def dkwX2_jarFor_2 : List UInt8 := [25, 4, 180, 0, 247, 44, 180, 0, 247, 164, 0, 8, 25, 4, 167, 0, 4, 44, 77, 167, 255, 204, 44, 176]
abbrev dktX2_jarFor_2 : List UInt8 := dkwX2_jarFor_2 ++ []
def dkwX2_jarFor_1 : List UInt8 := [185, 0, 63, 1, 0, 192, 0, 75, 58, 4, 43, 25, 4, 182, 0, 243, 153, 0, 24, 44, 198, 0, 15]
abbrev dktX2_jarFor_1 : List UInt8 := dkwX2_jarFor_1 ++ dktX2_jarFor_2
def dkwX2_jarFor_0 : List UInt8 := [1, 77, 42, 180, 0, 39, 182, 0, 53, 78, 45, 185, 0, 57, 1, 0, 153, 0, 49, 45]
abbrev dktX2_jarFor_0 : List UInt8 := dkwX2_jarFor_0 ++ dktX2_jarFor_1
theorem dksX2_jarFor_0 : cX2_jarFor.data.toList.drop 0 = dktX2_jarFor_0 := by decide +kernel
theorem dksX2_jarFor_1 : cX2_jarFor.data.toList.drop 20 = dktX2_jarFor_1 := dk_seg dksX2_jarFor_0 20 rfl rfl
theorem dksX2_jarFor_2 : cX2_jarFor.data.toList.drop 43 = dktX2_jarFor_2 := dk_seg dksX2_jarFor_1 23 rfl rfl
theorem dX2_jarFor_0 : decode cX2_jarFor 0 = .ok (.aconst_null, 1) := dk_1 (dk_at dksX2_jarFor_0 0 rfl rfl)
theorem dX2_jarFor_1 : decode cX2_jarFor 1 = .ok (.astore_n 2, 1) := dk_77 (dk_at dksX2_jarFor_0 1 rfl rfl)
theorem dX2_jarFor_2 : decode cX2_jarFor 2 = .ok (.aload_n 0, 1) := dk_42 (dk_at dksX2_jarFor_0 2 rfl rfl)
theorem dX2_jarFor_3 : decode cX2_jarFor 3 = .ok (.getfield 39, 3) := dk_180 0 39 (dk_at dksX2_jarFor_0 3 rfl rfl)
theorem dX2_jarFor_6 : decode cX2_jarFor 6 = .ok (.invokevirtual 53, 3) := dk_182 0 53 (dk_at dksX2_jarFor_0 6 rfl rfl)
theorem dX2_jarFor_9 : decode cX2_jarFor 9 = .ok (.astore_n 3, 1) := dk_78 (dk_at dksX2_jarFor_0 9 rfl rfl)
theorem dX2_jarFor_10 : decode cX2_jarFor 10 = .ok (.aload_n 3, 1) := dk_45 (dk_at dksX2_jarFor_0 10 rfl rfl)
theorem dX2_jarFor_11 : decode cX2_jarFor 11 = .ok (.invokeinterface 57 1, 5) := by decide +kernel
theorem dX2_jarFor_16 : decode cX2_jarFor 16 = .ok (.ifCond .eq 49, 3) := dk_153 0 49 (dk_at dksX2_jarFor_0 16 rfl rfl)
theorem dX2_jarFor_19 : decode cX2_jarFor 19 = .ok (.aload_n 3, 1) := dk_45 (dk_at dksX2_jarFor_0 19 rfl rfl)
theorem dX2_jarFor_20 : decode cX2_jarFor 20 = .ok (.invokeinterface 63 1, 5) := by decide +kernel
theorem dX2_jarFor_25 : decode cX2_jarFor 25 = .ok (.checkcast 75, 3) := dk_192 0 75 (dk_at dksX2_jarFor_1 5 rfl rfl)
theorem dX2_jarFor_28 : decode cX2_jarFor 28 = .ok (.astore 4, 2) := dk_58 4 (dk_at dksX2_jarFor_1 8 rfl rfl)
theorem dX2_jarFor_30 : decode cX2_jarFor 30 = .ok (.aload_n 1, 1) := dk_43 (dk_at dksX2_jarFor_1 10 rfl rfl)
theorem dX2_jarFor_31 : decode cX2_jarFor 31 = .ok (.aload 4, 2) := dk_25 4 (dk_at dksX2_jarFor_1 11 rfl rfl)
theorem dX2_jarFor_33 : decode cX2_jarFor 33 = .ok (.invokevirtual 243, 3) := dk_182 0 243 (dk_at dksX2_jarFor_1 13 rfl rfl)
theorem dX2_jarFor_36 : decode cX2_jarFor 36 = .ok (.ifCond .eq 24, 3) := dk_153 0 24 (dk_at dksX2_jarFor_1 16 rfl rfl)
theorem dX2_jarFor_39 : decode cX2_jarFor 39 = .ok (.aload_n 2, 1) := dk_44 (dk_at dksX2_jarFor_1 19 rfl rfl)
theorem dX2_jarFor_40 : decode cX2_jarFor 40 = .ok (.ifnull 15, 3) := dk_198 0 15 (dk_at dksX2_jarFor_1 20 rfl rfl)
theorem dX2_jarFor_43 : decode cX2_jarFor 43 = .ok (.aload 4, 2) := dk_25 4 (dk_at dksX2_jarFor_2 0 rfl rfl)
theorem dX2_jarFor_45 : decode cX2_jarFor 45 = .ok (.getfield 247, 3) := dk_180 0 247 (dk_at dksX2_jarFor_2 2 rfl rfl)
theorem dX2_jarFor_48 : decode cX2_jarFor 48 = .ok (.aload_n 2, 1) := dk_44 (dk_at dksX2_jarFor_2 5 rfl rfl)
theorem dX2_jarFor_49 : decode cX2_jarFor 49 = .ok (.getfield 247, 3) := dk_180 0 247 (dk_at dksX2_jarFor_2 6 rfl rfl)
theorem dX2_jarFor_52 : decode cX2_jarFor 52 = .ok (.if_icmp .le 8, 3) := dk_164 0 8 (dk_at dksX2_jarFor_2 9 rfl rfl)
theorem dX2_jarFor_55 : decode cX2_jarFor 55 = .ok (.aload 4, 2) := dk_25 4 (dk_at dksX2_jarFor_2 12 rfl rfl)
theorem dX2_jarFor_57 : decode cX2_jarFor 57 = .ok (.goto 4, 3) := dk_167 0 4 (dk_at dksX2_jarFor_2 14 rfl rfl)
theorem dX2_jarFor_60 : decode cX2_jarFor 60 = .ok (.aload_n 2, 1) := dk_44 (dk_at dksX2_jarFor_2 17 rfl rfl)
theorem dX2_jarFor_61 : decode cX2_jarFor 61 = .ok (.astore_n 2, 1) := dk_77 (dk_at dksX2_jarFor_2 18 rfl rfl)
theorem dX2_jarFor_62 : decode cX2_jarFor 62 = .ok (.goto (-52), 3) := dk_167 255 204 (dk_at dksX2_jarFor_2 19 rfl rfl)
theorem dX2_jarFor_65 : decode cX2_jarFor 65 = .ok (.aload_n 2, 1) := dk_44 (dk_at dksX2_jarFor_2 22 rfl rfl)
theorem dX2_jarFor_66 : decode cX2_jarFor 66 = .ok (.areturn, 1) := dk_176 (dk_at dksX2_jarFor_2 23 rfl rfl)
abbrev cX2_rest : ByteArray := prog_6_method_24_code
def yX2_rest : MethodName := ⟨RX2, "rest", "(I)I"⟩
def dkwX2_rest_1 : List UInt8 := [182, 1, 20, 96, 61, 132, 3, 1, 167, 255, 241, 28, 172]
abbrev dktX2_rest_1 : List UInt8 := dkwX2_rest_1 ++ []
def dkwX2_rest_0 : List UInt8 := [27, 133, 10, 20, 1, 18, 184, 0, 111, 184, 0, 117, 3, 61, 3, 62, 29, 27, 162, 0, 16, 28, 42]
abbrev dktX2_rest_0 : List UInt8 := dkwX2_rest_0 ++ dktX2_rest_1
theorem dksX2_rest_0 : cX2_rest.data.toList.drop 0 = dktX2_rest_0 := by decide +kernel
theorem dksX2_rest_1 : cX2_rest.data.toList.drop 23 = dktX2_rest_1 := dk_seg dksX2_rest_0 23 rfl rfl
theorem dX2_rest_0 : decode cX2_rest 0 = .ok (.iload_n 1, 1) := dk_27 (dk_at dksX2_rest_0 0 rfl rfl)
theorem dX2_rest_1 : decode cX2_rest 1 = .ok (.i2l, 1) := dk_133 (dk_at dksX2_rest_0 1 rfl rfl)
theorem dX2_rest_2 : decode cX2_rest 2 = .ok (.lconst 1, 1) := dk_10 (dk_at dksX2_rest_0 2 rfl rfl)
theorem dX2_rest_3 : decode cX2_rest 3 = .ok (.ldc2_w 274, 3) := dk_20 1 18 (dk_at dksX2_rest_0 3 rfl rfl)
theorem dX2_rest_6 : decode cX2_rest 6 = .ok (.invokestatic 111, 3) := dk_184 0 111 (dk_at dksX2_rest_0 6 rfl rfl)
theorem dX2_rest_9 : decode cX2_rest 9 = .ok (.invokestatic 117, 3) := dk_184 0 117 (dk_at dksX2_rest_0 9 rfl rfl)
theorem dX2_rest_12 : decode cX2_rest 12 = .ok (.iconst 0, 1) := dk_3 (dk_at dksX2_rest_0 12 rfl rfl)
theorem dX2_rest_13 : decode cX2_rest 13 = .ok (.istore_n 2, 1) := dk_61 (dk_at dksX2_rest_0 13 rfl rfl)
theorem dX2_rest_14 : decode cX2_rest 14 = .ok (.iconst 0, 1) := dk_3 (dk_at dksX2_rest_0 14 rfl rfl)
theorem dX2_rest_15 : decode cX2_rest 15 = .ok (.istore_n 3, 1) := dk_62 (dk_at dksX2_rest_0 15 rfl rfl)
theorem dX2_rest_16 : decode cX2_rest 16 = .ok (.iload_n 3, 1) := dk_29 (dk_at dksX2_rest_0 16 rfl rfl)
theorem dX2_rest_17 : decode cX2_rest 17 = .ok (.iload_n 1, 1) := dk_27 (dk_at dksX2_rest_0 17 rfl rfl)
theorem dX2_rest_18 : decode cX2_rest 18 = .ok (.if_icmp .ge 16, 3) := dk_162 0 16 (dk_at dksX2_rest_0 18 rfl rfl)
theorem dX2_rest_21 : decode cX2_rest 21 = .ok (.iload_n 2, 1) := dk_28 (dk_at dksX2_rest_0 21 rfl rfl)
theorem dX2_rest_22 : decode cX2_rest 22 = .ok (.aload_n 0, 1) := dk_42 (dk_at dksX2_rest_0 22 rfl rfl)
theorem dX2_rest_23 : decode cX2_rest 23 = .ok (.invokevirtual 276, 3) := dk_182 1 20 (dk_at dksX2_rest_1 0 rfl rfl)
theorem dX2_rest_26 : decode cX2_rest 26 = .ok (.iadd, 1) := dk_96 (dk_at dksX2_rest_1 3 rfl rfl)
theorem dX2_rest_27 : decode cX2_rest 27 = .ok (.istore_n 2, 1) := dk_61 (dk_at dksX2_rest_1 4 rfl rfl)
theorem dX2_rest_28 : decode cX2_rest 28 = .ok (.iinc 3 1, 3) := dk_132 3 1 (dk_at dksX2_rest_1 5 rfl rfl)
theorem dX2_rest_31 : decode cX2_rest 31 = .ok (.goto (-15), 3) := dk_167 255 241 (dk_at dksX2_rest_1 8 rfl rfl)
theorem dX2_rest_34 : decode cX2_rest 34 = .ok (.iload_n 2, 1) := dk_28 (dk_at dksX2_rest_1 11 rfl rfl)
theorem dX2_rest_35 : decode cX2_rest 35 = .ok (.ireturn, 1) := dk_172 (dk_at dksX2_rest_1 12 rfl rfl)
abbrev cX2_dayGoes : ByteArray := prog_6_method_23_code
def yX2_dayGoes : MethodName := ⟨RX2, "dayGoes", "()I"⟩
def dkwX2_dayGoes_4 : List UInt8 := [180, 0, 94, 4, 96, 181, 0, 94, 27, 172]
abbrev dktX2_dayGoes_4 : List UInt8 := dkwX2_dayGoes_4 ++ []
def dkwX2_dayGoes_3 : List UInt8 := [192, 0, 75, 78, 27, 45, 182, 1, 15, 153, 0, 7, 4, 167, 0, 4, 3, 96, 60, 167, 255, 222, 42, 89]
abbrev dktX2_dayGoes_3 : List UInt8 := dkwX2_dayGoes_3 ++ dktX2_dayGoes_4
def dkwX2_dayGoes_2 : List UInt8 := [42, 180, 0, 39, 182, 0, 53, 77, 44, 185, 0, 57, 1, 0, 153, 0, 31, 44, 185, 0, 63, 1, 0]
abbrev dktX2_dayGoes_2 : List UInt8 := dkwX2_dayGoes_2 ++ dktX2_dayGoes_3
def dkwX2_dayGoes_1 : List UInt8 := [58, 5, 25, 5, 3, 25, 5, 180, 0, 139, 6, 100, 184, 1, 12, 181, 0, 139, 132, 4, 1, 167, 255, 225]
abbrev dktX2_dayGoes_1 : List UInt8 := dkwX2_dayGoes_1 ++ dktX2_dayGoes_2
def dkwX2_dayGoes_0 : List UInt8 := [3, 60, 42, 180, 0, 28, 77, 44, 190, 62, 3, 54, 4, 21, 4, 29, 162, 0, 31, 44, 21, 4, 50]
abbrev dktX2_dayGoes_0 : List UInt8 := dkwX2_dayGoes_0 ++ dktX2_dayGoes_1
theorem dksX2_dayGoes_0 : cX2_dayGoes.data.toList.drop 0 = dktX2_dayGoes_0 := by decide +kernel
theorem dksX2_dayGoes_1 : cX2_dayGoes.data.toList.drop 23 = dktX2_dayGoes_1 := dk_seg dksX2_dayGoes_0 23 rfl rfl
theorem dksX2_dayGoes_2 : cX2_dayGoes.data.toList.drop 47 = dktX2_dayGoes_2 := dk_seg dksX2_dayGoes_1 24 rfl rfl
theorem dksX2_dayGoes_3 : cX2_dayGoes.data.toList.drop 70 = dktX2_dayGoes_3 := dk_seg dksX2_dayGoes_2 23 rfl rfl
theorem dksX2_dayGoes_4 : cX2_dayGoes.data.toList.drop 94 = dktX2_dayGoes_4 := dk_seg dksX2_dayGoes_3 24 rfl rfl
theorem dX2_dayGoes_0 : decode cX2_dayGoes 0 = .ok (.iconst 0, 1) := dk_3 (dk_at dksX2_dayGoes_0 0 rfl rfl)
theorem dX2_dayGoes_1 : decode cX2_dayGoes 1 = .ok (.istore_n 1, 1) := dk_60 (dk_at dksX2_dayGoes_0 1 rfl rfl)
theorem dX2_dayGoes_2 : decode cX2_dayGoes 2 = .ok (.aload_n 0, 1) := dk_42 (dk_at dksX2_dayGoes_0 2 rfl rfl)
theorem dX2_dayGoes_3 : decode cX2_dayGoes 3 = .ok (.getfield 28, 3) := dk_180 0 28 (dk_at dksX2_dayGoes_0 3 rfl rfl)
theorem dX2_dayGoes_6 : decode cX2_dayGoes 6 = .ok (.astore_n 2, 1) := dk_77 (dk_at dksX2_dayGoes_0 6 rfl rfl)
theorem dX2_dayGoes_7 : decode cX2_dayGoes 7 = .ok (.aload_n 2, 1) := dk_44 (dk_at dksX2_dayGoes_0 7 rfl rfl)
theorem dX2_dayGoes_8 : decode cX2_dayGoes 8 = .ok (.arraylength, 1) := dk_190 (dk_at dksX2_dayGoes_0 8 rfl rfl)
theorem dX2_dayGoes_9 : decode cX2_dayGoes 9 = .ok (.istore_n 3, 1) := dk_62 (dk_at dksX2_dayGoes_0 9 rfl rfl)
theorem dX2_dayGoes_10 : decode cX2_dayGoes 10 = .ok (.iconst 0, 1) := dk_3 (dk_at dksX2_dayGoes_0 10 rfl rfl)
theorem dX2_dayGoes_11 : decode cX2_dayGoes 11 = .ok (.istore 4, 2) := dk_54 4 (dk_at dksX2_dayGoes_0 11 rfl rfl)
theorem dX2_dayGoes_13 : decode cX2_dayGoes 13 = .ok (.iload 4, 2) := dk_21 4 (dk_at dksX2_dayGoes_0 13 rfl rfl)
theorem dX2_dayGoes_15 : decode cX2_dayGoes 15 = .ok (.iload_n 3, 1) := dk_29 (dk_at dksX2_dayGoes_0 15 rfl rfl)
theorem dX2_dayGoes_16 : decode cX2_dayGoes 16 = .ok (.if_icmp .ge 31, 3) := dk_162 0 31 (dk_at dksX2_dayGoes_0 16 rfl rfl)
theorem dX2_dayGoes_19 : decode cX2_dayGoes 19 = .ok (.aload_n 2, 1) := dk_44 (dk_at dksX2_dayGoes_0 19 rfl rfl)
theorem dX2_dayGoes_20 : decode cX2_dayGoes 20 = .ok (.iload 4, 2) := dk_21 4 (dk_at dksX2_dayGoes_0 20 rfl rfl)
theorem dX2_dayGoes_22 : decode cX2_dayGoes 22 = .ok (.aaload, 1) := dk_50 (dk_at dksX2_dayGoes_0 22 rfl rfl)
theorem dX2_dayGoes_23 : decode cX2_dayGoes 23 = .ok (.astore 5, 2) := dk_58 5 (dk_at dksX2_dayGoes_1 0 rfl rfl)
theorem dX2_dayGoes_25 : decode cX2_dayGoes 25 = .ok (.aload 5, 2) := dk_25 5 (dk_at dksX2_dayGoes_1 2 rfl rfl)
theorem dX2_dayGoes_27 : decode cX2_dayGoes 27 = .ok (.iconst 0, 1) := dk_3 (dk_at dksX2_dayGoes_1 4 rfl rfl)
theorem dX2_dayGoes_28 : decode cX2_dayGoes 28 = .ok (.aload 5, 2) := dk_25 5 (dk_at dksX2_dayGoes_1 5 rfl rfl)
theorem dX2_dayGoes_30 : decode cX2_dayGoes 30 = .ok (.getfield 139, 3) := dk_180 0 139 (dk_at dksX2_dayGoes_1 7 rfl rfl)
theorem dX2_dayGoes_33 : decode cX2_dayGoes 33 = .ok (.iconst 3, 1) := dk_6 (dk_at dksX2_dayGoes_1 10 rfl rfl)
theorem dX2_dayGoes_34 : decode cX2_dayGoes 34 = .ok (.isub, 1) := dk_100 (dk_at dksX2_dayGoes_1 11 rfl rfl)
theorem dX2_dayGoes_35 : decode cX2_dayGoes 35 = .ok (.invokestatic 268, 3) := dk_184 1 12 (dk_at dksX2_dayGoes_1 12 rfl rfl)
theorem dX2_dayGoes_38 : decode cX2_dayGoes 38 = .ok (.putfield 139, 3) := dk_181 0 139 (dk_at dksX2_dayGoes_1 15 rfl rfl)
theorem dX2_dayGoes_41 : decode cX2_dayGoes 41 = .ok (.iinc 4 1, 3) := dk_132 4 1 (dk_at dksX2_dayGoes_1 18 rfl rfl)
theorem dX2_dayGoes_44 : decode cX2_dayGoes 44 = .ok (.goto (-31), 3) := dk_167 255 225 (dk_at dksX2_dayGoes_1 21 rfl rfl)
theorem dX2_dayGoes_47 : decode cX2_dayGoes 47 = .ok (.aload_n 0, 1) := dk_42 (dk_at dksX2_dayGoes_2 0 rfl rfl)
theorem dX2_dayGoes_48 : decode cX2_dayGoes 48 = .ok (.getfield 39, 3) := dk_180 0 39 (dk_at dksX2_dayGoes_2 1 rfl rfl)
theorem dX2_dayGoes_51 : decode cX2_dayGoes 51 = .ok (.invokevirtual 53, 3) := dk_182 0 53 (dk_at dksX2_dayGoes_2 4 rfl rfl)
theorem dX2_dayGoes_54 : decode cX2_dayGoes 54 = .ok (.astore_n 2, 1) := dk_77 (dk_at dksX2_dayGoes_2 7 rfl rfl)
theorem dX2_dayGoes_55 : decode cX2_dayGoes 55 = .ok (.aload_n 2, 1) := dk_44 (dk_at dksX2_dayGoes_2 8 rfl rfl)
theorem dX2_dayGoes_56 : decode cX2_dayGoes 56 = .ok (.invokeinterface 57 1, 5) := by decide +kernel
theorem dX2_dayGoes_61 : decode cX2_dayGoes 61 = .ok (.ifCond .eq 31, 3) := dk_153 0 31 (dk_at dksX2_dayGoes_2 14 rfl rfl)
theorem dX2_dayGoes_64 : decode cX2_dayGoes 64 = .ok (.aload_n 2, 1) := dk_44 (dk_at dksX2_dayGoes_2 17 rfl rfl)
theorem dX2_dayGoes_65 : decode cX2_dayGoes 65 = .ok (.invokeinterface 63 1, 5) := by decide +kernel
theorem dX2_dayGoes_70 : decode cX2_dayGoes 70 = .ok (.checkcast 75, 3) := dk_192 0 75 (dk_at dksX2_dayGoes_3 0 rfl rfl)
theorem dX2_dayGoes_73 : decode cX2_dayGoes 73 = .ok (.astore_n 3, 1) := dk_78 (dk_at dksX2_dayGoes_3 3 rfl rfl)
theorem dX2_dayGoes_74 : decode cX2_dayGoes 74 = .ok (.iload_n 1, 1) := dk_27 (dk_at dksX2_dayGoes_3 4 rfl rfl)
theorem dX2_dayGoes_75 : decode cX2_dayGoes 75 = .ok (.aload_n 3, 1) := dk_45 (dk_at dksX2_dayGoes_3 5 rfl rfl)
theorem dX2_dayGoes_76 : decode cX2_dayGoes 76 = .ok (.invokevirtual 271, 3) := dk_182 1 15 (dk_at dksX2_dayGoes_3 6 rfl rfl)
theorem dX2_dayGoes_79 : decode cX2_dayGoes 79 = .ok (.ifCond .eq 7, 3) := dk_153 0 7 (dk_at dksX2_dayGoes_3 9 rfl rfl)
theorem dX2_dayGoes_82 : decode cX2_dayGoes 82 = .ok (.iconst 1, 1) := dk_4 (dk_at dksX2_dayGoes_3 12 rfl rfl)
theorem dX2_dayGoes_83 : decode cX2_dayGoes 83 = .ok (.goto 4, 3) := dk_167 0 4 (dk_at dksX2_dayGoes_3 13 rfl rfl)
theorem dX2_dayGoes_86 : decode cX2_dayGoes 86 = .ok (.iconst 0, 1) := dk_3 (dk_at dksX2_dayGoes_3 16 rfl rfl)
theorem dX2_dayGoes_87 : decode cX2_dayGoes 87 = .ok (.iadd, 1) := dk_96 (dk_at dksX2_dayGoes_3 17 rfl rfl)
theorem dX2_dayGoes_88 : decode cX2_dayGoes 88 = .ok (.istore_n 1, 1) := dk_60 (dk_at dksX2_dayGoes_3 18 rfl rfl)
theorem dX2_dayGoes_89 : decode cX2_dayGoes 89 = .ok (.goto (-34), 3) := dk_167 255 222 (dk_at dksX2_dayGoes_3 19 rfl rfl)
theorem dX2_dayGoes_92 : decode cX2_dayGoes 92 = .ok (.aload_n 0, 1) := dk_42 (dk_at dksX2_dayGoes_3 22 rfl rfl)
theorem dX2_dayGoes_93 : decode cX2_dayGoes 93 = .ok (.dup, 1) := dk_89 (dk_at dksX2_dayGoes_3 23 rfl rfl)
theorem dX2_dayGoes_94 : decode cX2_dayGoes 94 = .ok (.getfield 94, 3) := dk_180 0 94 (dk_at dksX2_dayGoes_4 0 rfl rfl)
theorem dX2_dayGoes_97 : decode cX2_dayGoes 97 = .ok (.iconst 1, 1) := dk_4 (dk_at dksX2_dayGoes_4 3 rfl rfl)
theorem dX2_dayGoes_98 : decode cX2_dayGoes 98 = .ok (.iadd, 1) := dk_96 (dk_at dksX2_dayGoes_4 4 rfl rfl)
theorem dX2_dayGoes_99 : decode cX2_dayGoes 99 = .ok (.putfield 94, 3) := dk_181 0 94 (dk_at dksX2_dayGoes_4 5 rfl rfl)
theorem dX2_dayGoes_102 : decode cX2_dayGoes 102 = .ok (.iload_n 1, 1) := dk_27 (dk_at dksX2_dayGoes_4 8 rfl rfl)
theorem dX2_dayGoes_103 : decode cX2_dayGoes 103 = .ok (.ireturn, 1) := dk_172 (dk_at dksX2_dayGoes_4 9 rfl rfl)
abbrev cX2_buy : ByteArray := prog_6_method_5_code
def yX2_buy : MethodName := ⟨RX2, "buy", "(II)I"⟩
def dkwX2_buy_4 : List UInt8 := [27, 21, 4, 79, 21, 4, 172]
abbrev dktX2_buy_4 : List UInt8 := dkwX2_buy_4 ++ []
def dkwX2_buy_3 : List UInt8 := [167, 0, 4, 3, 4, 29, 184, 0, 97, 42, 28, 178, 0, 124, 27, 46, 104, 182, 0, 127, 42, 180, 0, 20]
abbrev dktX2_buy_3 : List UInt8 := dkwX2_buy_3 ++ dktX2_buy_4
def dkwX2_buy_2 : List UInt8 := [180, 0, 20, 27, 46, 28, 178, 0, 121, 27, 46, 104, 96, 54, 4, 21, 4, 29, 163, 0, 7, 4]
abbrev dktX2_buy_2 : List UInt8 := dkwX2_buy_2 ++ dktX2_buy_3
def dkwX2_buy_1 : List UInt8 := [4, 167, 0, 4, 3, 184, 0, 117, 27, 6, 162, 0, 9, 17, 1, 244, 167, 0, 5, 16, 99, 62, 42]
abbrev dktX2_buy_1 : List UInt8 := dkwX2_buy_1 ++ dktX2_buy_2
def dkwX2_buy_0 : List UInt8 := [27, 133, 9, 20, 0, 109, 184, 0, 111, 153, 0, 19, 28, 133, 10, 20, 0, 115, 184, 0, 111, 153, 0, 7]
abbrev dktX2_buy_0 : List UInt8 := dkwX2_buy_0 ++ dktX2_buy_1
theorem dksX2_buy_0 : cX2_buy.data.toList.drop 0 = dktX2_buy_0 := by decide +kernel
theorem dksX2_buy_1 : cX2_buy.data.toList.drop 24 = dktX2_buy_1 := dk_seg dksX2_buy_0 24 rfl rfl
theorem dksX2_buy_2 : cX2_buy.data.toList.drop 47 = dktX2_buy_2 := dk_seg dksX2_buy_1 23 rfl rfl
theorem dksX2_buy_3 : cX2_buy.data.toList.drop 69 = dktX2_buy_3 := dk_seg dksX2_buy_2 22 rfl rfl
theorem dksX2_buy_4 : cX2_buy.data.toList.drop 93 = dktX2_buy_4 := dk_seg dksX2_buy_3 24 rfl rfl
theorem dX2_buy_0 : decode cX2_buy 0 = .ok (.iload_n 1, 1) := dk_27 (dk_at dksX2_buy_0 0 rfl rfl)
theorem dX2_buy_1 : decode cX2_buy 1 = .ok (.i2l, 1) := dk_133 (dk_at dksX2_buy_0 1 rfl rfl)
theorem dX2_buy_2 : decode cX2_buy 2 = .ok (.lconst 0, 1) := dk_9 (dk_at dksX2_buy_0 2 rfl rfl)
theorem dX2_buy_3 : decode cX2_buy 3 = .ok (.ldc2_w 109, 3) := dk_20 0 109 (dk_at dksX2_buy_0 3 rfl rfl)
theorem dX2_buy_6 : decode cX2_buy 6 = .ok (.invokestatic 111, 3) := dk_184 0 111 (dk_at dksX2_buy_0 6 rfl rfl)
theorem dX2_buy_9 : decode cX2_buy 9 = .ok (.ifCond .eq 19, 3) := dk_153 0 19 (dk_at dksX2_buy_0 9 rfl rfl)
theorem dX2_buy_12 : decode cX2_buy 12 = .ok (.iload_n 2, 1) := dk_28 (dk_at dksX2_buy_0 12 rfl rfl)
theorem dX2_buy_13 : decode cX2_buy 13 = .ok (.i2l, 1) := dk_133 (dk_at dksX2_buy_0 13 rfl rfl)
theorem dX2_buy_14 : decode cX2_buy 14 = .ok (.lconst 1, 1) := dk_10 (dk_at dksX2_buy_0 14 rfl rfl)
theorem dX2_buy_15 : decode cX2_buy 15 = .ok (.ldc2_w 115, 3) := dk_20 0 115 (dk_at dksX2_buy_0 15 rfl rfl)
theorem dX2_buy_18 : decode cX2_buy 18 = .ok (.invokestatic 111, 3) := dk_184 0 111 (dk_at dksX2_buy_0 18 rfl rfl)
theorem dX2_buy_21 : decode cX2_buy 21 = .ok (.ifCond .eq 7, 3) := dk_153 0 7 (dk_at dksX2_buy_0 21 rfl rfl)
theorem dX2_buy_24 : decode cX2_buy 24 = .ok (.iconst 1, 1) := dk_4 (dk_at dksX2_buy_1 0 rfl rfl)
theorem dX2_buy_25 : decode cX2_buy 25 = .ok (.goto 4, 3) := dk_167 0 4 (dk_at dksX2_buy_1 1 rfl rfl)
theorem dX2_buy_28 : decode cX2_buy 28 = .ok (.iconst 0, 1) := dk_3 (dk_at dksX2_buy_1 4 rfl rfl)
theorem dX2_buy_29 : decode cX2_buy 29 = .ok (.invokestatic 117, 3) := dk_184 0 117 (dk_at dksX2_buy_1 5 rfl rfl)
theorem dX2_buy_32 : decode cX2_buy 32 = .ok (.iload_n 1, 1) := dk_27 (dk_at dksX2_buy_1 8 rfl rfl)
theorem dX2_buy_33 : decode cX2_buy 33 = .ok (.iconst 3, 1) := dk_6 (dk_at dksX2_buy_1 9 rfl rfl)
theorem dX2_buy_34 : decode cX2_buy 34 = .ok (.if_icmp .ge 9, 3) := dk_162 0 9 (dk_at dksX2_buy_1 10 rfl rfl)
theorem dX2_buy_37 : decode cX2_buy 37 = .ok (.sipush 500, 3) := dk_17 1 244 (dk_at dksX2_buy_1 13 rfl rfl)
theorem dX2_buy_40 : decode cX2_buy 40 = .ok (.goto 5, 3) := dk_167 0 5 (dk_at dksX2_buy_1 16 rfl rfl)
theorem dX2_buy_43 : decode cX2_buy 43 = .ok (.bipush 99, 2) := dk_16 99 (dk_at dksX2_buy_1 19 rfl rfl)
theorem dX2_buy_45 : decode cX2_buy 45 = .ok (.istore_n 3, 1) := dk_62 (dk_at dksX2_buy_1 21 rfl rfl)
theorem dX2_buy_46 : decode cX2_buy 46 = .ok (.aload_n 0, 1) := dk_42 (dk_at dksX2_buy_1 22 rfl rfl)
theorem dX2_buy_47 : decode cX2_buy 47 = .ok (.getfield 20, 3) := dk_180 0 20 (dk_at dksX2_buy_2 0 rfl rfl)
theorem dX2_buy_50 : decode cX2_buy 50 = .ok (.iload_n 1, 1) := dk_27 (dk_at dksX2_buy_2 3 rfl rfl)
theorem dX2_buy_51 : decode cX2_buy 51 = .ok (.iaload, 1) := dk_46 (dk_at dksX2_buy_2 4 rfl rfl)
theorem dX2_buy_52 : decode cX2_buy 52 = .ok (.iload_n 2, 1) := dk_28 (dk_at dksX2_buy_2 5 rfl rfl)
theorem dX2_buy_53 : decode cX2_buy 53 = .ok (.getstatic 121, 3) := dk_178 0 121 (dk_at dksX2_buy_2 6 rfl rfl)
theorem dX2_buy_56 : decode cX2_buy 56 = .ok (.iload_n 1, 1) := dk_27 (dk_at dksX2_buy_2 9 rfl rfl)
theorem dX2_buy_57 : decode cX2_buy 57 = .ok (.iaload, 1) := dk_46 (dk_at dksX2_buy_2 10 rfl rfl)
theorem dX2_buy_58 : decode cX2_buy 58 = .ok (.imul, 1) := dk_104 (dk_at dksX2_buy_2 11 rfl rfl)
theorem dX2_buy_59 : decode cX2_buy 59 = .ok (.iadd, 1) := dk_96 (dk_at dksX2_buy_2 12 rfl rfl)
theorem dX2_buy_60 : decode cX2_buy 60 = .ok (.istore 4, 2) := dk_54 4 (dk_at dksX2_buy_2 13 rfl rfl)
theorem dX2_buy_62 : decode cX2_buy 62 = .ok (.iload 4, 2) := dk_21 4 (dk_at dksX2_buy_2 15 rfl rfl)
theorem dX2_buy_64 : decode cX2_buy 64 = .ok (.iload_n 3, 1) := dk_29 (dk_at dksX2_buy_2 17 rfl rfl)
theorem dX2_buy_65 : decode cX2_buy 65 = .ok (.if_icmp .gt 7, 3) := dk_163 0 7 (dk_at dksX2_buy_2 18 rfl rfl)
theorem dX2_buy_68 : decode cX2_buy 68 = .ok (.iconst 1, 1) := dk_4 (dk_at dksX2_buy_2 21 rfl rfl)
theorem dX2_buy_69 : decode cX2_buy 69 = .ok (.goto 4, 3) := dk_167 0 4 (dk_at dksX2_buy_3 0 rfl rfl)
theorem dX2_buy_72 : decode cX2_buy 72 = .ok (.iconst 0, 1) := dk_3 (dk_at dksX2_buy_3 3 rfl rfl)
theorem dX2_buy_73 : decode cX2_buy 73 = .ok (.iconst 1, 1) := dk_4 (dk_at dksX2_buy_3 4 rfl rfl)
theorem dX2_buy_74 : decode cX2_buy 74 = .ok (.iload_n 3, 1) := dk_29 (dk_at dksX2_buy_3 5 rfl rfl)
theorem dX2_buy_75 : decode cX2_buy 75 = .ok (.invokestatic 97, 3) := dk_184 0 97 (dk_at dksX2_buy_3 6 rfl rfl)
theorem dX2_buy_78 : decode cX2_buy 78 = .ok (.aload_n 0, 1) := dk_42 (dk_at dksX2_buy_3 9 rfl rfl)
theorem dX2_buy_79 : decode cX2_buy 79 = .ok (.iload_n 2, 1) := dk_28 (dk_at dksX2_buy_3 10 rfl rfl)
theorem dX2_buy_80 : decode cX2_buy 80 = .ok (.getstatic 124, 3) := dk_178 0 124 (dk_at dksX2_buy_3 11 rfl rfl)
theorem dX2_buy_83 : decode cX2_buy 83 = .ok (.iload_n 1, 1) := dk_27 (dk_at dksX2_buy_3 14 rfl rfl)
theorem dX2_buy_84 : decode cX2_buy 84 = .ok (.iaload, 1) := dk_46 (dk_at dksX2_buy_3 15 rfl rfl)
theorem dX2_buy_85 : decode cX2_buy 85 = .ok (.imul, 1) := dk_104 (dk_at dksX2_buy_3 16 rfl rfl)
theorem dX2_buy_86 : decode cX2_buy 86 = .ok (.invokevirtual 127, 3) := dk_182 0 127 (dk_at dksX2_buy_3 17 rfl rfl)
theorem dX2_buy_89 : decode cX2_buy 89 = .ok (.aload_n 0, 1) := dk_42 (dk_at dksX2_buy_3 20 rfl rfl)
theorem dX2_buy_90 : decode cX2_buy 90 = .ok (.getfield 20, 3) := dk_180 0 20 (dk_at dksX2_buy_3 21 rfl rfl)
theorem dX2_buy_93 : decode cX2_buy 93 = .ok (.iload_n 1, 1) := dk_27 (dk_at dksX2_buy_4 0 rfl rfl)
theorem dX2_buy_94 : decode cX2_buy 94 = .ok (.iload 4, 2) := dk_21 4 (dk_at dksX2_buy_4 1 rfl rfl)
theorem dX2_buy_96 : decode cX2_buy 96 = .ok (.iastore, 1) := dk_79 (dk_at dksX2_buy_4 3 rfl rfl)
theorem dX2_buy_97 : decode cX2_buy 97 = .ok (.iload 4, 2) := dk_21 4 (dk_at dksX2_buy_4 4 rfl rfl)
theorem dX2_buy_99 : decode cX2_buy 99 = .ok (.ireturn, 1) := dk_172 (dk_at dksX2_buy_4 6 rfl rfl)
abbrev cX2_order : ByteArray := prog_6_method_20_code
def yX2_order : MethodName := ⟨RX2, "order", "(II)I"⟩
def dkwX2_order_2 : List UInt8 := [183, 0, 240, 182, 0, 71, 172]
abbrev dktX2_order_2 : List UInt8 := dkwX2_order_2 ++ []
def dkwX2_order_1 : List UInt8 := [180, 0, 42, 4, 182, 0, 163, 42, 180, 0, 42, 187, 0, 80, 89, 42, 180, 0, 42, 182, 0, 166, 27, 28]
abbrev dktX2_order_1 : List UInt8 := dkwX2_order_1 ++ dktX2_order_2
def dkwX2_order_0 : List UInt8 := [27, 155, 0, 18, 28, 16, 30, 163, 0, 12, 27, 28, 163, 0, 7, 4, 167, 0, 4, 3, 184, 0, 117, 42]
abbrev dktX2_order_0 : List UInt8 := dkwX2_order_0 ++ dktX2_order_1
theorem dksX2_order_0 : cX2_order.data.toList.drop 0 = dktX2_order_0 := by decide +kernel
theorem dksX2_order_1 : cX2_order.data.toList.drop 24 = dktX2_order_1 := dk_seg dksX2_order_0 24 rfl rfl
theorem dksX2_order_2 : cX2_order.data.toList.drop 48 = dktX2_order_2 := dk_seg dksX2_order_1 24 rfl rfl
theorem dX2_order_0 : decode cX2_order 0 = .ok (.iload_n 1, 1) := dk_27 (dk_at dksX2_order_0 0 rfl rfl)
theorem dX2_order_1 : decode cX2_order 1 = .ok (.ifCond .lt 18, 3) := dk_155 0 18 (dk_at dksX2_order_0 1 rfl rfl)
theorem dX2_order_4 : decode cX2_order 4 = .ok (.iload_n 2, 1) := dk_28 (dk_at dksX2_order_0 4 rfl rfl)
theorem dX2_order_5 : decode cX2_order 5 = .ok (.bipush 30, 2) := dk_16 30 (dk_at dksX2_order_0 5 rfl rfl)
theorem dX2_order_7 : decode cX2_order 7 = .ok (.if_icmp .gt 12, 3) := dk_163 0 12 (dk_at dksX2_order_0 7 rfl rfl)
theorem dX2_order_10 : decode cX2_order 10 = .ok (.iload_n 1, 1) := dk_27 (dk_at dksX2_order_0 10 rfl rfl)
theorem dX2_order_11 : decode cX2_order 11 = .ok (.iload_n 2, 1) := dk_28 (dk_at dksX2_order_0 11 rfl rfl)
theorem dX2_order_12 : decode cX2_order 12 = .ok (.if_icmp .gt 7, 3) := dk_163 0 7 (dk_at dksX2_order_0 12 rfl rfl)
theorem dX2_order_15 : decode cX2_order 15 = .ok (.iconst 1, 1) := dk_4 (dk_at dksX2_order_0 15 rfl rfl)
theorem dX2_order_16 : decode cX2_order 16 = .ok (.goto 4, 3) := dk_167 0 4 (dk_at dksX2_order_0 16 rfl rfl)
theorem dX2_order_19 : decode cX2_order 19 = .ok (.iconst 0, 1) := dk_3 (dk_at dksX2_order_0 19 rfl rfl)
theorem dX2_order_20 : decode cX2_order 20 = .ok (.invokestatic 117, 3) := dk_184 0 117 (dk_at dksX2_order_0 20 rfl rfl)
theorem dX2_order_23 : decode cX2_order 23 = .ok (.aload_n 0, 1) := dk_42 (dk_at dksX2_order_0 23 rfl rfl)
theorem dX2_order_24 : decode cX2_order 24 = .ok (.getfield 42, 3) := dk_180 0 42 (dk_at dksX2_order_1 0 rfl rfl)
theorem dX2_order_27 : decode cX2_order 27 = .ok (.iconst 1, 1) := dk_4 (dk_at dksX2_order_1 3 rfl rfl)
theorem dX2_order_28 : decode cX2_order 28 = .ok (.invokevirtual 163, 3) := dk_182 0 163 (dk_at dksX2_order_1 4 rfl rfl)
theorem dX2_order_31 : decode cX2_order 31 = .ok (.aload_n 0, 1) := dk_42 (dk_at dksX2_order_1 7 rfl rfl)
theorem dX2_order_32 : decode cX2_order 32 = .ok (.getfield 42, 3) := dk_180 0 42 (dk_at dksX2_order_1 8 rfl rfl)
theorem dX2_order_35 : decode cX2_order 35 = .ok (.new 80, 3) := dk_187 0 80 (dk_at dksX2_order_1 11 rfl rfl)
theorem dX2_order_38 : decode cX2_order 38 = .ok (.dup, 1) := dk_89 (dk_at dksX2_order_1 14 rfl rfl)
theorem dX2_order_39 : decode cX2_order 39 = .ok (.aload_n 0, 1) := dk_42 (dk_at dksX2_order_1 15 rfl rfl)
theorem dX2_order_40 : decode cX2_order 40 = .ok (.getfield 42, 3) := dk_180 0 42 (dk_at dksX2_order_1 16 rfl rfl)
theorem dX2_order_43 : decode cX2_order 43 = .ok (.invokevirtual 166, 3) := dk_182 0 166 (dk_at dksX2_order_1 19 rfl rfl)
theorem dX2_order_46 : decode cX2_order 46 = .ok (.iload_n 1, 1) := dk_27 (dk_at dksX2_order_1 22 rfl rfl)
theorem dX2_order_47 : decode cX2_order 47 = .ok (.iload_n 2, 1) := dk_28 (dk_at dksX2_order_1 23 rfl rfl)
theorem dX2_order_48 : decode cX2_order 48 = .ok (.invokespecial 240, 3) := dk_183 0 240 (dk_at dksX2_order_2 0 rfl rfl)
theorem dX2_order_51 : decode cX2_order 51 = .ok (.invokevirtual 71, 3) := dk_182 0 71 (dk_at dksX2_order_2 3 rfl rfl)
theorem dX2_order_54 : decode cX2_order 54 = .ok (.ireturn, 1) := dk_172 (dk_at dksX2_order_2 6 rfl rfl)
abbrev cX2_takeTray : ByteArray := prog_6_method_27_code
def yX2_takeTray : MethodName := ⟨RX2, "takeTray", "(I)I"⟩
def dkwX2_takeTray_1 : List UInt8 := [189, 0, 66, 167, 0, 7, 7, 189, 0, 75, 181, 0, 85, 28, 172]
abbrev dktX2_takeTray_1 : List UInt8 := dkwX2_takeTray_1 ++ []
def dkwX2_takeTray_0 : List UInt8 := [27, 133, 9, 10, 184, 0, 111, 184, 0, 117, 42, 180, 0, 85, 184, 1, 27, 61, 42, 27, 154, 0, 10, 7]
abbrev dktX2_takeTray_0 : List UInt8 := dkwX2_takeTray_0 ++ dktX2_takeTray_1
theorem dksX2_takeTray_0 : cX2_takeTray.data.toList.drop 0 = dktX2_takeTray_0 := by decide +kernel
theorem dksX2_takeTray_1 : cX2_takeTray.data.toList.drop 24 = dktX2_takeTray_1 := dk_seg dksX2_takeTray_0 24 rfl rfl
theorem dX2_takeTray_0 : decode cX2_takeTray 0 = .ok (.iload_n 1, 1) := dk_27 (dk_at dksX2_takeTray_0 0 rfl rfl)
theorem dX2_takeTray_1 : decode cX2_takeTray 1 = .ok (.i2l, 1) := dk_133 (dk_at dksX2_takeTray_0 1 rfl rfl)
theorem dX2_takeTray_2 : decode cX2_takeTray 2 = .ok (.lconst 0, 1) := dk_9 (dk_at dksX2_takeTray_0 2 rfl rfl)
theorem dX2_takeTray_3 : decode cX2_takeTray 3 = .ok (.lconst 1, 1) := dk_10 (dk_at dksX2_takeTray_0 3 rfl rfl)
theorem dX2_takeTray_4 : decode cX2_takeTray 4 = .ok (.invokestatic 111, 3) := dk_184 0 111 (dk_at dksX2_takeTray_0 4 rfl rfl)
theorem dX2_takeTray_7 : decode cX2_takeTray 7 = .ok (.invokestatic 117, 3) := dk_184 0 117 (dk_at dksX2_takeTray_0 7 rfl rfl)
theorem dX2_takeTray_10 : decode cX2_takeTray 10 = .ok (.aload_n 0, 1) := dk_42 (dk_at dksX2_takeTray_0 10 rfl rfl)
theorem dX2_takeTray_11 : decode cX2_takeTray 11 = .ok (.getfield 85, 3) := dk_180 0 85 (dk_at dksX2_takeTray_0 11 rfl rfl)
theorem dX2_takeTray_14 : decode cX2_takeTray 14 = .ok (.invokestatic 283, 3) := dk_184 1 27 (dk_at dksX2_takeTray_0 14 rfl rfl)
theorem dX2_takeTray_17 : decode cX2_takeTray 17 = .ok (.istore_n 2, 1) := dk_61 (dk_at dksX2_takeTray_0 17 rfl rfl)
theorem dX2_takeTray_18 : decode cX2_takeTray 18 = .ok (.aload_n 0, 1) := dk_42 (dk_at dksX2_takeTray_0 18 rfl rfl)
theorem dX2_takeTray_19 : decode cX2_takeTray 19 = .ok (.iload_n 1, 1) := dk_27 (dk_at dksX2_takeTray_0 19 rfl rfl)
theorem dX2_takeTray_20 : decode cX2_takeTray 20 = .ok (.ifCond .ne 10, 3) := dk_154 0 10 (dk_at dksX2_takeTray_0 20 rfl rfl)
theorem dX2_takeTray_23 : decode cX2_takeTray 23 = .ok (.iconst 4, 1) := dk_7 (dk_at dksX2_takeTray_0 23 rfl rfl)
theorem dX2_takeTray_24 : decode cX2_takeTray 24 = .ok (.anewarray 66, 3) := dk_189 0 66 (dk_at dksX2_takeTray_1 0 rfl rfl)
theorem dX2_takeTray_27 : decode cX2_takeTray 27 = .ok (.goto 7, 3) := dk_167 0 7 (dk_at dksX2_takeTray_1 3 rfl rfl)
theorem dX2_takeTray_30 : decode cX2_takeTray 30 = .ok (.iconst 4, 1) := dk_7 (dk_at dksX2_takeTray_1 6 rfl rfl)
theorem dX2_takeTray_31 : decode cX2_takeTray 31 = .ok (.anewarray 75, 3) := dk_189 0 75 (dk_at dksX2_takeTray_1 7 rfl rfl)
theorem dX2_takeTray_34 : decode cX2_takeTray 34 = .ok (.putfield 85, 3) := dk_181 0 85 (dk_at dksX2_takeTray_1 10 rfl rfl)
theorem dX2_takeTray_37 : decode cX2_takeTray 37 = .ok (.iload_n 2, 1) := dk_28 (dk_at dksX2_takeTray_1 13 rfl rfl)
theorem dX2_takeTray_38 : decode cX2_takeTray 38 = .ok (.ireturn, 1) := dk_172 (dk_at dksX2_takeTray_1 14 rfl rfl)
abbrev cX2_onTray : ByteArray := prog_6_method_26_code
def yX2_onTray : MethodName := ⟨RX2, "onTray", "([LMustardMill$Thing;)I"⟩
def dkwX2_onTray_1 : List UInt8 := [4, 96, 60, 132, 2, 1, 167, 255, 230, 27, 172]
abbrev dktX2_onTray_1 : List UInt8 := dkwX2_onTray_1 ++ []
def dkwX2_onTray_0 : List UInt8 := [3, 60, 3, 61, 42, 198, 0, 28, 28, 7, 162, 0, 23, 27, 42, 28, 50, 199, 0, 7, 3, 167, 0, 4]
abbrev dktX2_onTray_0 : List UInt8 := dkwX2_onTray_0 ++ dktX2_onTray_1
theorem dksX2_onTray_0 : cX2_onTray.data.toList.drop 0 = dktX2_onTray_0 := by decide +kernel
theorem dksX2_onTray_1 : cX2_onTray.data.toList.drop 24 = dktX2_onTray_1 := dk_seg dksX2_onTray_0 24 rfl rfl
theorem dX2_onTray_0 : decode cX2_onTray 0 = .ok (.iconst 0, 1) := dk_3 (dk_at dksX2_onTray_0 0 rfl rfl)
theorem dX2_onTray_1 : decode cX2_onTray 1 = .ok (.istore_n 1, 1) := dk_60 (dk_at dksX2_onTray_0 1 rfl rfl)
theorem dX2_onTray_2 : decode cX2_onTray 2 = .ok (.iconst 0, 1) := dk_3 (dk_at dksX2_onTray_0 2 rfl rfl)
theorem dX2_onTray_3 : decode cX2_onTray 3 = .ok (.istore_n 2, 1) := dk_61 (dk_at dksX2_onTray_0 3 rfl rfl)
theorem dX2_onTray_4 : decode cX2_onTray 4 = .ok (.aload_n 0, 1) := dk_42 (dk_at dksX2_onTray_0 4 rfl rfl)
theorem dX2_onTray_5 : decode cX2_onTray 5 = .ok (.ifnull 28, 3) := dk_198 0 28 (dk_at dksX2_onTray_0 5 rfl rfl)
theorem dX2_onTray_8 : decode cX2_onTray 8 = .ok (.iload_n 2, 1) := dk_28 (dk_at dksX2_onTray_0 8 rfl rfl)
theorem dX2_onTray_9 : decode cX2_onTray 9 = .ok (.iconst 4, 1) := dk_7 (dk_at dksX2_onTray_0 9 rfl rfl)
theorem dX2_onTray_10 : decode cX2_onTray 10 = .ok (.if_icmp .ge 23, 3) := dk_162 0 23 (dk_at dksX2_onTray_0 10 rfl rfl)
theorem dX2_onTray_13 : decode cX2_onTray 13 = .ok (.iload_n 1, 1) := dk_27 (dk_at dksX2_onTray_0 13 rfl rfl)
theorem dX2_onTray_14 : decode cX2_onTray 14 = .ok (.aload_n 0, 1) := dk_42 (dk_at dksX2_onTray_0 14 rfl rfl)
theorem dX2_onTray_15 : decode cX2_onTray 15 = .ok (.iload_n 2, 1) := dk_28 (dk_at dksX2_onTray_0 15 rfl rfl)
theorem dX2_onTray_16 : decode cX2_onTray 16 = .ok (.aaload, 1) := dk_50 (dk_at dksX2_onTray_0 16 rfl rfl)
theorem dX2_onTray_17 : decode cX2_onTray 17 = .ok (.ifnonnull 7, 3) := dk_199 0 7 (dk_at dksX2_onTray_0 17 rfl rfl)
theorem dX2_onTray_20 : decode cX2_onTray 20 = .ok (.iconst 0, 1) := dk_3 (dk_at dksX2_onTray_0 20 rfl rfl)
theorem dX2_onTray_21 : decode cX2_onTray 21 = .ok (.goto 4, 3) := dk_167 0 4 (dk_at dksX2_onTray_0 21 rfl rfl)
theorem dX2_onTray_24 : decode cX2_onTray 24 = .ok (.iconst 1, 1) := dk_4 (dk_at dksX2_onTray_1 0 rfl rfl)
theorem dX2_onTray_25 : decode cX2_onTray 25 = .ok (.iadd, 1) := dk_96 (dk_at dksX2_onTray_1 1 rfl rfl)
theorem dX2_onTray_26 : decode cX2_onTray 26 = .ok (.istore_n 1, 1) := dk_60 (dk_at dksX2_onTray_1 2 rfl rfl)
theorem dX2_onTray_27 : decode cX2_onTray 27 = .ok (.iinc 2 1, 3) := dk_132 2 1 (dk_at dksX2_onTray_1 3 rfl rfl)
theorem dX2_onTray_30 : decode cX2_onTray 30 = .ok (.goto (-26), 3) := dk_167 255 230 (dk_at dksX2_onTray_1 6 rfl rfl)
theorem dX2_onTray_33 : decode cX2_onTray 33 = .ok (.iload_n 1, 1) := dk_27 (dk_at dksX2_onTray_1 9 rfl rfl)
theorem dX2_onTray_34 : decode cX2_onTray 34 = .ok (.ireturn, 1) := dk_172 (dk_at dksX2_onTray_1 10 rfl rfl)
abbrev cX2_lay : ByteArray := prog_6_method_30_code
def yX2_lay : MethodName := ⟨RX2, "lay", "(III)I"⟩
def dkwX2_lay_8 : List UInt8 := [83, 42, 180, 0, 85, 184, 1, 27, 172]
abbrev dktX2_lay_8 : List UInt8 := dkwX2_lay_8 ++ []
def dkwX2_lay_7 : List UInt8 := [183, 1, 43, 191, 42, 180, 0, 85, 27, 25, 5, 83, 42, 29, 182, 1, 46, 42, 180, 0, 85, 27, 25, 4]
abbrev dktX2_lay_7 : List UInt8 := dkwX2_lay_7 ++ dktX2_lay_8
def dkwX2_lay_6 : List UInt8 := [180, 0, 85, 27, 25, 4, 83, 167, 0, 19, 58, 6, 187, 0, 98, 89, 16, 12, 42, 182, 1, 40]
abbrev dktX2_lay_6 : List UInt8 := dkwX2_lay_6 ++ dktX2_lay_7
def dkwX2_lay_5 : List UInt8 := [198, 0, 7, 4, 167, 0, 4, 3, 16, 12, 2, 184, 0, 97, 42, 180, 0, 85, 27, 50, 58, 5, 42]
abbrev dktX2_lay_5 : List UInt8 := dkwX2_lay_5 ++ dktX2_lay_6
def dkwX2_lay_4 : List UInt8 := [180, 0, 35, 29, 182, 0, 176, 167, 0, 11, 42, 180, 0, 39, 29, 182, 0, 176, 58, 4, 42, 180, 0, 85]
abbrev dktX2_lay_4 : List UInt8 := dkwX2_lay_4 ++ dktX2_lay_5
def dkwX2_lay_3 : List UInt8 := [167, 0, 4, 3, 184, 0, 132, 28, 133, 9, 10, 184, 0, 111, 184, 0, 117, 28, 154, 0, 14, 42]
abbrev dktX2_lay_3 : List UInt8 := dkwX2_lay_3 ++ dktX2_lay_4
def dkwX2_lay_2 : List UInt8 := [160, 0, 22, 29, 133, 9, 42, 180, 0, 39, 182, 0, 166, 4, 100, 133, 184, 0, 111, 153, 0, 7, 4]
abbrev dktX2_lay_2 : List UInt8 := dkwX2_lay_2 ++ dktX2_lay_3
def dkwX2_lay_1 : List UInt8 := [182, 0, 166, 4, 100, 133, 184, 0, 111, 153, 0, 7, 4, 167, 0, 4, 3, 184, 0, 132, 28, 4]
abbrev dktX2_lay_1 : List UInt8 := dkwX2_lay_1 ++ dktX2_lay_2
def dkwX2_lay_0 : List UInt8 := [27, 133, 9, 20, 1, 36, 184, 0, 111, 184, 0, 132, 28, 154, 0, 22, 29, 133, 9, 42, 180, 0, 35]
abbrev dktX2_lay_0 : List UInt8 := dkwX2_lay_0 ++ dktX2_lay_1
theorem dksX2_lay_0 : cX2_lay.data.toList.drop 0 = dktX2_lay_0 := by decide +kernel
theorem dksX2_lay_1 : cX2_lay.data.toList.drop 23 = dktX2_lay_1 := dk_seg dksX2_lay_0 23 rfl rfl
theorem dksX2_lay_2 : cX2_lay.data.toList.drop 45 = dktX2_lay_2 := dk_seg dksX2_lay_1 22 rfl rfl
theorem dksX2_lay_3 : cX2_lay.data.toList.drop 68 = dktX2_lay_3 := dk_seg dksX2_lay_2 23 rfl rfl
theorem dksX2_lay_4 : cX2_lay.data.toList.drop 90 = dktX2_lay_4 := dk_seg dksX2_lay_3 22 rfl rfl
theorem dksX2_lay_5 : cX2_lay.data.toList.drop 114 = dktX2_lay_5 := dk_seg dksX2_lay_4 24 rfl rfl
theorem dksX2_lay_6 : cX2_lay.data.toList.drop 137 = dktX2_lay_6 := dk_seg dksX2_lay_5 23 rfl rfl
theorem dksX2_lay_7 : cX2_lay.data.toList.drop 159 = dktX2_lay_7 := dk_seg dksX2_lay_6 22 rfl rfl
theorem dksX2_lay_8 : cX2_lay.data.toList.drop 183 = dktX2_lay_8 := dk_seg dksX2_lay_7 24 rfl rfl
theorem dX2_lay_0 : decode cX2_lay 0 = .ok (.iload_n 1, 1) := dk_27 (dk_at dksX2_lay_0 0 rfl rfl)
theorem dX2_lay_1 : decode cX2_lay 1 = .ok (.i2l, 1) := dk_133 (dk_at dksX2_lay_0 1 rfl rfl)
theorem dX2_lay_2 : decode cX2_lay 2 = .ok (.lconst 0, 1) := dk_9 (dk_at dksX2_lay_0 2 rfl rfl)
theorem dX2_lay_3 : decode cX2_lay 3 = .ok (.ldc2_w 292, 3) := dk_20 1 36 (dk_at dksX2_lay_0 3 rfl rfl)
theorem dX2_lay_6 : decode cX2_lay 6 = .ok (.invokestatic 111, 3) := dk_184 0 111 (dk_at dksX2_lay_0 6 rfl rfl)
theorem dX2_lay_9 : decode cX2_lay 9 = .ok (.invokestatic 132, 3) := dk_184 0 132 (dk_at dksX2_lay_0 9 rfl rfl)
theorem dX2_lay_12 : decode cX2_lay 12 = .ok (.iload_n 2, 1) := dk_28 (dk_at dksX2_lay_0 12 rfl rfl)
theorem dX2_lay_13 : decode cX2_lay 13 = .ok (.ifCond .ne 22, 3) := dk_154 0 22 (dk_at dksX2_lay_0 13 rfl rfl)
theorem dX2_lay_16 : decode cX2_lay 16 = .ok (.iload_n 3, 1) := dk_29 (dk_at dksX2_lay_0 16 rfl rfl)
theorem dX2_lay_17 : decode cX2_lay 17 = .ok (.i2l, 1) := dk_133 (dk_at dksX2_lay_0 17 rfl rfl)
theorem dX2_lay_18 : decode cX2_lay 18 = .ok (.lconst 0, 1) := dk_9 (dk_at dksX2_lay_0 18 rfl rfl)
theorem dX2_lay_19 : decode cX2_lay 19 = .ok (.aload_n 0, 1) := dk_42 (dk_at dksX2_lay_0 19 rfl rfl)
theorem dX2_lay_20 : decode cX2_lay 20 = .ok (.getfield 35, 3) := dk_180 0 35 (dk_at dksX2_lay_0 20 rfl rfl)
theorem dX2_lay_23 : decode cX2_lay 23 = .ok (.invokevirtual 166, 3) := dk_182 0 166 (dk_at dksX2_lay_1 0 rfl rfl)
theorem dX2_lay_26 : decode cX2_lay 26 = .ok (.iconst 1, 1) := dk_4 (dk_at dksX2_lay_1 3 rfl rfl)
theorem dX2_lay_27 : decode cX2_lay 27 = .ok (.isub, 1) := dk_100 (dk_at dksX2_lay_1 4 rfl rfl)
theorem dX2_lay_28 : decode cX2_lay 28 = .ok (.i2l, 1) := dk_133 (dk_at dksX2_lay_1 5 rfl rfl)
theorem dX2_lay_29 : decode cX2_lay 29 = .ok (.invokestatic 111, 3) := dk_184 0 111 (dk_at dksX2_lay_1 6 rfl rfl)
theorem dX2_lay_32 : decode cX2_lay 32 = .ok (.ifCond .eq 7, 3) := dk_153 0 7 (dk_at dksX2_lay_1 9 rfl rfl)
theorem dX2_lay_35 : decode cX2_lay 35 = .ok (.iconst 1, 1) := dk_4 (dk_at dksX2_lay_1 12 rfl rfl)
theorem dX2_lay_36 : decode cX2_lay 36 = .ok (.goto 4, 3) := dk_167 0 4 (dk_at dksX2_lay_1 13 rfl rfl)
theorem dX2_lay_39 : decode cX2_lay 39 = .ok (.iconst 0, 1) := dk_3 (dk_at dksX2_lay_1 16 rfl rfl)
theorem dX2_lay_40 : decode cX2_lay 40 = .ok (.invokestatic 132, 3) := dk_184 0 132 (dk_at dksX2_lay_1 17 rfl rfl)
theorem dX2_lay_43 : decode cX2_lay 43 = .ok (.iload_n 2, 1) := dk_28 (dk_at dksX2_lay_1 20 rfl rfl)
theorem dX2_lay_44 : decode cX2_lay 44 = .ok (.iconst 1, 1) := dk_4 (dk_at dksX2_lay_1 21 rfl rfl)
theorem dX2_lay_45 : decode cX2_lay 45 = .ok (.if_icmp .ne 22, 3) := dk_160 0 22 (dk_at dksX2_lay_2 0 rfl rfl)
theorem dX2_lay_48 : decode cX2_lay 48 = .ok (.iload_n 3, 1) := dk_29 (dk_at dksX2_lay_2 3 rfl rfl)
theorem dX2_lay_49 : decode cX2_lay 49 = .ok (.i2l, 1) := dk_133 (dk_at dksX2_lay_2 4 rfl rfl)
theorem dX2_lay_50 : decode cX2_lay 50 = .ok (.lconst 0, 1) := dk_9 (dk_at dksX2_lay_2 5 rfl rfl)
theorem dX2_lay_51 : decode cX2_lay 51 = .ok (.aload_n 0, 1) := dk_42 (dk_at dksX2_lay_2 6 rfl rfl)
theorem dX2_lay_52 : decode cX2_lay 52 = .ok (.getfield 39, 3) := dk_180 0 39 (dk_at dksX2_lay_2 7 rfl rfl)
theorem dX2_lay_55 : decode cX2_lay 55 = .ok (.invokevirtual 166, 3) := dk_182 0 166 (dk_at dksX2_lay_2 10 rfl rfl)
theorem dX2_lay_58 : decode cX2_lay 58 = .ok (.iconst 1, 1) := dk_4 (dk_at dksX2_lay_2 13 rfl rfl)
theorem dX2_lay_59 : decode cX2_lay 59 = .ok (.isub, 1) := dk_100 (dk_at dksX2_lay_2 14 rfl rfl)
theorem dX2_lay_60 : decode cX2_lay 60 = .ok (.i2l, 1) := dk_133 (dk_at dksX2_lay_2 15 rfl rfl)
theorem dX2_lay_61 : decode cX2_lay 61 = .ok (.invokestatic 111, 3) := dk_184 0 111 (dk_at dksX2_lay_2 16 rfl rfl)
theorem dX2_lay_64 : decode cX2_lay 64 = .ok (.ifCond .eq 7, 3) := dk_153 0 7 (dk_at dksX2_lay_2 19 rfl rfl)
theorem dX2_lay_67 : decode cX2_lay 67 = .ok (.iconst 1, 1) := dk_4 (dk_at dksX2_lay_2 22 rfl rfl)
theorem dX2_lay_68 : decode cX2_lay 68 = .ok (.goto 4, 3) := dk_167 0 4 (dk_at dksX2_lay_3 0 rfl rfl)
theorem dX2_lay_71 : decode cX2_lay 71 = .ok (.iconst 0, 1) := dk_3 (dk_at dksX2_lay_3 3 rfl rfl)
theorem dX2_lay_72 : decode cX2_lay 72 = .ok (.invokestatic 132, 3) := dk_184 0 132 (dk_at dksX2_lay_3 4 rfl rfl)
theorem dX2_lay_75 : decode cX2_lay 75 = .ok (.iload_n 2, 1) := dk_28 (dk_at dksX2_lay_3 7 rfl rfl)
theorem dX2_lay_76 : decode cX2_lay 76 = .ok (.i2l, 1) := dk_133 (dk_at dksX2_lay_3 8 rfl rfl)
theorem dX2_lay_77 : decode cX2_lay 77 = .ok (.lconst 0, 1) := dk_9 (dk_at dksX2_lay_3 9 rfl rfl)
theorem dX2_lay_78 : decode cX2_lay 78 = .ok (.lconst 1, 1) := dk_10 (dk_at dksX2_lay_3 10 rfl rfl)
theorem dX2_lay_79 : decode cX2_lay 79 = .ok (.invokestatic 111, 3) := dk_184 0 111 (dk_at dksX2_lay_3 11 rfl rfl)
theorem dX2_lay_82 : decode cX2_lay 82 = .ok (.invokestatic 117, 3) := dk_184 0 117 (dk_at dksX2_lay_3 14 rfl rfl)
theorem dX2_lay_85 : decode cX2_lay 85 = .ok (.iload_n 2, 1) := dk_28 (dk_at dksX2_lay_3 17 rfl rfl)
theorem dX2_lay_86 : decode cX2_lay 86 = .ok (.ifCond .ne 14, 3) := dk_154 0 14 (dk_at dksX2_lay_3 18 rfl rfl)
theorem dX2_lay_89 : decode cX2_lay 89 = .ok (.aload_n 0, 1) := dk_42 (dk_at dksX2_lay_3 21 rfl rfl)
theorem dX2_lay_90 : decode cX2_lay 90 = .ok (.getfield 35, 3) := dk_180 0 35 (dk_at dksX2_lay_4 0 rfl rfl)
theorem dX2_lay_93 : decode cX2_lay 93 = .ok (.iload_n 3, 1) := dk_29 (dk_at dksX2_lay_4 3 rfl rfl)
theorem dX2_lay_94 : decode cX2_lay 94 = .ok (.invokevirtual 176, 3) := dk_182 0 176 (dk_at dksX2_lay_4 4 rfl rfl)
theorem dX2_lay_97 : decode cX2_lay 97 = .ok (.goto 11, 3) := dk_167 0 11 (dk_at dksX2_lay_4 7 rfl rfl)
theorem dX2_lay_100 : decode cX2_lay 100 = .ok (.aload_n 0, 1) := dk_42 (dk_at dksX2_lay_4 10 rfl rfl)
theorem dX2_lay_101 : decode cX2_lay 101 = .ok (.getfield 39, 3) := dk_180 0 39 (dk_at dksX2_lay_4 11 rfl rfl)
theorem dX2_lay_104 : decode cX2_lay 104 = .ok (.iload_n 3, 1) := dk_29 (dk_at dksX2_lay_4 14 rfl rfl)
theorem dX2_lay_105 : decode cX2_lay 105 = .ok (.invokevirtual 176, 3) := dk_182 0 176 (dk_at dksX2_lay_4 15 rfl rfl)
theorem dX2_lay_108 : decode cX2_lay 108 = .ok (.astore 4, 2) := dk_58 4 (dk_at dksX2_lay_4 18 rfl rfl)
theorem dX2_lay_110 : decode cX2_lay 110 = .ok (.aload_n 0, 1) := dk_42 (dk_at dksX2_lay_4 20 rfl rfl)
theorem dX2_lay_111 : decode cX2_lay 111 = .ok (.getfield 85, 3) := dk_180 0 85 (dk_at dksX2_lay_4 21 rfl rfl)
theorem dX2_lay_114 : decode cX2_lay 114 = .ok (.ifnull 7, 3) := dk_198 0 7 (dk_at dksX2_lay_5 0 rfl rfl)
theorem dX2_lay_117 : decode cX2_lay 117 = .ok (.iconst 1, 1) := dk_4 (dk_at dksX2_lay_5 3 rfl rfl)
theorem dX2_lay_118 : decode cX2_lay 118 = .ok (.goto 4, 3) := dk_167 0 4 (dk_at dksX2_lay_5 4 rfl rfl)
theorem dX2_lay_121 : decode cX2_lay 121 = .ok (.iconst 0, 1) := dk_3 (dk_at dksX2_lay_5 7 rfl rfl)
theorem dX2_lay_122 : decode cX2_lay 122 = .ok (.bipush 12, 2) := dk_16 12 (dk_at dksX2_lay_5 8 rfl rfl)
theorem dX2_lay_124 : decode cX2_lay 124 = .ok (.iconst (-1), 1) := dk_2 (dk_at dksX2_lay_5 10 rfl rfl)
theorem dX2_lay_125 : decode cX2_lay 125 = .ok (.invokestatic 97, 3) := dk_184 0 97 (dk_at dksX2_lay_5 11 rfl rfl)
theorem dX2_lay_128 : decode cX2_lay 128 = .ok (.aload_n 0, 1) := dk_42 (dk_at dksX2_lay_5 14 rfl rfl)
theorem dX2_lay_129 : decode cX2_lay 129 = .ok (.getfield 85, 3) := dk_180 0 85 (dk_at dksX2_lay_5 15 rfl rfl)
theorem dX2_lay_132 : decode cX2_lay 132 = .ok (.iload_n 1, 1) := dk_27 (dk_at dksX2_lay_5 18 rfl rfl)
theorem dX2_lay_133 : decode cX2_lay 133 = .ok (.aaload, 1) := dk_50 (dk_at dksX2_lay_5 19 rfl rfl)
theorem dX2_lay_134 : decode cX2_lay 134 = .ok (.astore 5, 2) := dk_58 5 (dk_at dksX2_lay_5 20 rfl rfl)
theorem dX2_lay_136 : decode cX2_lay 136 = .ok (.aload_n 0, 1) := dk_42 (dk_at dksX2_lay_5 22 rfl rfl)
theorem dX2_lay_137 : decode cX2_lay 137 = .ok (.getfield 85, 3) := dk_180 0 85 (dk_at dksX2_lay_6 0 rfl rfl)
theorem dX2_lay_140 : decode cX2_lay 140 = .ok (.iload_n 1, 1) := dk_27 (dk_at dksX2_lay_6 3 rfl rfl)
theorem dX2_lay_141 : decode cX2_lay 141 = .ok (.aload 4, 2) := dk_25 4 (dk_at dksX2_lay_6 4 rfl rfl)
theorem dX2_lay_143 : decode cX2_lay 143 = .ok (.aastore, 1) := dk_83 (dk_at dksX2_lay_6 6 rfl rfl)
theorem dX2_lay_144 : decode cX2_lay 144 = .ok (.goto 19, 3) := dk_167 0 19 (dk_at dksX2_lay_6 7 rfl rfl)
theorem dX2_lay_147 : decode cX2_lay 147 = .ok (.astore 6, 2) := dk_58 6 (dk_at dksX2_lay_6 10 rfl rfl)
theorem dX2_lay_149 : decode cX2_lay 149 = .ok (.new 98, 3) := dk_187 0 98 (dk_at dksX2_lay_6 12 rfl rfl)
theorem dX2_lay_152 : decode cX2_lay 152 = .ok (.dup, 1) := dk_89 (dk_at dksX2_lay_6 15 rfl rfl)
theorem dX2_lay_153 : decode cX2_lay 153 = .ok (.bipush 12, 2) := dk_16 12 (dk_at dksX2_lay_6 16 rfl rfl)
theorem dX2_lay_155 : decode cX2_lay 155 = .ok (.aload_n 0, 1) := dk_42 (dk_at dksX2_lay_6 18 rfl rfl)
theorem dX2_lay_156 : decode cX2_lay 156 = .ok (.invokevirtual 296, 3) := dk_182 1 40 (dk_at dksX2_lay_6 19 rfl rfl)
theorem dX2_lay_159 : decode cX2_lay 159 = .ok (.invokespecial 299, 3) := dk_183 1 43 (dk_at dksX2_lay_7 0 rfl rfl)
theorem dX2_lay_162 : decode cX2_lay 162 = .ok (.athrow, 1) := dk_191 (dk_at dksX2_lay_7 3 rfl rfl)
theorem dX2_lay_163 : decode cX2_lay 163 = .ok (.aload_n 0, 1) := dk_42 (dk_at dksX2_lay_7 4 rfl rfl)
theorem dX2_lay_164 : decode cX2_lay 164 = .ok (.getfield 85, 3) := dk_180 0 85 (dk_at dksX2_lay_7 5 rfl rfl)
theorem dX2_lay_167 : decode cX2_lay 167 = .ok (.iload_n 1, 1) := dk_27 (dk_at dksX2_lay_7 8 rfl rfl)
theorem dX2_lay_168 : decode cX2_lay 168 = .ok (.aload 5, 2) := dk_25 5 (dk_at dksX2_lay_7 9 rfl rfl)
theorem dX2_lay_170 : decode cX2_lay 170 = .ok (.aastore, 1) := dk_83 (dk_at dksX2_lay_7 11 rfl rfl)
theorem dX2_lay_171 : decode cX2_lay 171 = .ok (.aload_n 0, 1) := dk_42 (dk_at dksX2_lay_7 12 rfl rfl)
theorem dX2_lay_172 : decode cX2_lay 172 = .ok (.iload_n 3, 1) := dk_29 (dk_at dksX2_lay_7 13 rfl rfl)
theorem dX2_lay_173 : decode cX2_lay 173 = .ok (.invokevirtual 302, 3) := dk_182 1 46 (dk_at dksX2_lay_7 14 rfl rfl)
theorem dX2_lay_176 : decode cX2_lay 176 = .ok (.aload_n 0, 1) := dk_42 (dk_at dksX2_lay_7 17 rfl rfl)
theorem dX2_lay_177 : decode cX2_lay 177 = .ok (.getfield 85, 3) := dk_180 0 85 (dk_at dksX2_lay_7 18 rfl rfl)
theorem dX2_lay_180 : decode cX2_lay 180 = .ok (.iload_n 1, 1) := dk_27 (dk_at dksX2_lay_7 21 rfl rfl)
theorem dX2_lay_181 : decode cX2_lay 181 = .ok (.aload 4, 2) := dk_25 4 (dk_at dksX2_lay_7 22 rfl rfl)
theorem dX2_lay_183 : decode cX2_lay 183 = .ok (.aastore, 1) := dk_83 (dk_at dksX2_lay_8 0 rfl rfl)
theorem dX2_lay_184 : decode cX2_lay 184 = .ok (.aload_n 0, 1) := dk_42 (dk_at dksX2_lay_8 1 rfl rfl)
theorem dX2_lay_185 : decode cX2_lay 185 = .ok (.getfield 85, 3) := dk_180 0 85 (dk_at dksX2_lay_8 2 rfl rfl)
theorem dX2_lay_188 : decode cX2_lay 188 = .ok (.invokestatic 283, 3) := dk_184 1 27 (dk_at dksX2_lay_8 5 rfl rfl)
theorem dX2_lay_191 : decode cX2_lay 191 = .ok (.ireturn, 1) := dk_172 (dk_at dksX2_lay_8 8 rfl rfl)
abbrev cX2_trayKind : ByteArray := prog_6_method_28_code
def yX2_trayKind : MethodName := ⟨RX2, "trayKind", "()I"⟩
def dkwX2_trayKind_1 : List UInt8 := [167, 0, 4, 4, 172]
abbrev dktX2_trayKind_1 : List UInt8 := dkwX2_trayKind_1 ++ []
def dkwX2_trayKind_0 : List UInt8 := [42, 180, 0, 85, 199, 0, 7, 2, 167, 0, 18, 42, 180, 0, 85, 193, 1, 31, 153, 0, 7, 3]
abbrev dktX2_trayKind_0 : List UInt8 := dkwX2_trayKind_0 ++ dktX2_trayKind_1
theorem dksX2_trayKind_0 : cX2_trayKind.data.toList.drop 0 = dktX2_trayKind_0 := by decide +kernel
theorem dksX2_trayKind_1 : cX2_trayKind.data.toList.drop 22 = dktX2_trayKind_1 := dk_seg dksX2_trayKind_0 22 rfl rfl
theorem dX2_trayKind_0 : decode cX2_trayKind 0 = .ok (.aload_n 0, 1) := dk_42 (dk_at dksX2_trayKind_0 0 rfl rfl)
theorem dX2_trayKind_1 : decode cX2_trayKind 1 = .ok (.getfield 85, 3) := dk_180 0 85 (dk_at dksX2_trayKind_0 1 rfl rfl)
theorem dX2_trayKind_4 : decode cX2_trayKind 4 = .ok (.ifnonnull 7, 3) := dk_199 0 7 (dk_at dksX2_trayKind_0 4 rfl rfl)
theorem dX2_trayKind_7 : decode cX2_trayKind 7 = .ok (.iconst (-1), 1) := dk_2 (dk_at dksX2_trayKind_0 7 rfl rfl)
theorem dX2_trayKind_8 : decode cX2_trayKind 8 = .ok (.goto 18, 3) := dk_167 0 18 (dk_at dksX2_trayKind_0 8 rfl rfl)
theorem dX2_trayKind_11 : decode cX2_trayKind 11 = .ok (.aload_n 0, 1) := dk_42 (dk_at dksX2_trayKind_0 11 rfl rfl)
theorem dX2_trayKind_12 : decode cX2_trayKind 12 = .ok (.getfield 85, 3) := dk_180 0 85 (dk_at dksX2_trayKind_0 12 rfl rfl)
theorem dX2_trayKind_15 : decode cX2_trayKind 15 = .ok (.instanceof 287, 3) := dk_193 1 31 (dk_at dksX2_trayKind_0 15 rfl rfl)
theorem dX2_trayKind_18 : decode cX2_trayKind 18 = .ok (.ifCond .eq 7, 3) := dk_153 0 7 (dk_at dksX2_trayKind_0 18 rfl rfl)
theorem dX2_trayKind_21 : decode cX2_trayKind 21 = .ok (.iconst 0, 1) := dk_3 (dk_at dksX2_trayKind_0 21 rfl rfl)
theorem dX2_trayKind_22 : decode cX2_trayKind 22 = .ok (.goto 4, 3) := dk_167 0 4 (dk_at dksX2_trayKind_1 0 rfl rfl)
theorem dX2_trayKind_25 : decode cX2_trayKind 25 = .ok (.iconst 1, 1) := dk_4 (dk_at dksX2_trayKind_1 3 rfl rfl)
theorem dX2_trayKind_26 : decode cX2_trayKind 26 = .ok (.ireturn, 1) := dk_172 (dk_at dksX2_trayKind_1 4 rfl rfl)
abbrev cX2_checkNotOnTray : ByteArray := prog_6_method_29_code
def yX2_checkNotOnTray : MethodName := ⟨RX2, "checkNotOnTray", "(I)V"⟩
def dkwX2_checkNotOnTray_2 : List UInt8 := [177]
abbrev dktX2_checkNotOnTray_2 : List UInt8 := dkwX2_checkNotOnTray_2 ++ []
def dkwX2_checkNotOnTray_1 : List UInt8 := [182, 1, 33, 27, 159, 0, 7, 4, 167, 0, 4, 3, 16, 13, 28, 184, 0, 97, 132, 2, 1, 167, 255, 215]
abbrev dktX2_checkNotOnTray_1 : List UInt8 := dkwX2_checkNotOnTray_1 ++ dktX2_checkNotOnTray_2
def dkwX2_checkNotOnTray_0 : List UInt8 := [3, 61, 28, 7, 162, 0, 42, 42, 180, 0, 85, 28, 50, 198, 0, 16, 42, 180, 0, 85, 28, 50]
abbrev dktX2_checkNotOnTray_0 : List UInt8 := dkwX2_checkNotOnTray_0 ++ dktX2_checkNotOnTray_1
theorem dksX2_checkNotOnTray_0 : cX2_checkNotOnTray.data.toList.drop 0 = dktX2_checkNotOnTray_0 := by decide +kernel
theorem dksX2_checkNotOnTray_1 : cX2_checkNotOnTray.data.toList.drop 22 = dktX2_checkNotOnTray_1 := dk_seg dksX2_checkNotOnTray_0 22 rfl rfl
theorem dksX2_checkNotOnTray_2 : cX2_checkNotOnTray.data.toList.drop 46 = dktX2_checkNotOnTray_2 := dk_seg dksX2_checkNotOnTray_1 24 rfl rfl
theorem dX2_checkNotOnTray_0 : decode cX2_checkNotOnTray 0 = .ok (.iconst 0, 1) := dk_3 (dk_at dksX2_checkNotOnTray_0 0 rfl rfl)
theorem dX2_checkNotOnTray_1 : decode cX2_checkNotOnTray 1 = .ok (.istore_n 2, 1) := dk_61 (dk_at dksX2_checkNotOnTray_0 1 rfl rfl)
theorem dX2_checkNotOnTray_2 : decode cX2_checkNotOnTray 2 = .ok (.iload_n 2, 1) := dk_28 (dk_at dksX2_checkNotOnTray_0 2 rfl rfl)
theorem dX2_checkNotOnTray_3 : decode cX2_checkNotOnTray 3 = .ok (.iconst 4, 1) := dk_7 (dk_at dksX2_checkNotOnTray_0 3 rfl rfl)
theorem dX2_checkNotOnTray_4 : decode cX2_checkNotOnTray 4 = .ok (.if_icmp .ge 42, 3) := dk_162 0 42 (dk_at dksX2_checkNotOnTray_0 4 rfl rfl)
theorem dX2_checkNotOnTray_7 : decode cX2_checkNotOnTray 7 = .ok (.aload_n 0, 1) := dk_42 (dk_at dksX2_checkNotOnTray_0 7 rfl rfl)
theorem dX2_checkNotOnTray_8 : decode cX2_checkNotOnTray 8 = .ok (.getfield 85, 3) := dk_180 0 85 (dk_at dksX2_checkNotOnTray_0 8 rfl rfl)
theorem dX2_checkNotOnTray_11 : decode cX2_checkNotOnTray 11 = .ok (.iload_n 2, 1) := dk_28 (dk_at dksX2_checkNotOnTray_0 11 rfl rfl)
theorem dX2_checkNotOnTray_12 : decode cX2_checkNotOnTray 12 = .ok (.aaload, 1) := dk_50 (dk_at dksX2_checkNotOnTray_0 12 rfl rfl)
theorem dX2_checkNotOnTray_13 : decode cX2_checkNotOnTray 13 = .ok (.ifnull 16, 3) := dk_198 0 16 (dk_at dksX2_checkNotOnTray_0 13 rfl rfl)
theorem dX2_checkNotOnTray_16 : decode cX2_checkNotOnTray 16 = .ok (.aload_n 0, 1) := dk_42 (dk_at dksX2_checkNotOnTray_0 16 rfl rfl)
theorem dX2_checkNotOnTray_17 : decode cX2_checkNotOnTray 17 = .ok (.getfield 85, 3) := dk_180 0 85 (dk_at dksX2_checkNotOnTray_0 17 rfl rfl)
theorem dX2_checkNotOnTray_20 : decode cX2_checkNotOnTray 20 = .ok (.iload_n 2, 1) := dk_28 (dk_at dksX2_checkNotOnTray_0 20 rfl rfl)
theorem dX2_checkNotOnTray_21 : decode cX2_checkNotOnTray 21 = .ok (.aaload, 1) := dk_50 (dk_at dksX2_checkNotOnTray_0 21 rfl rfl)
theorem dX2_checkNotOnTray_22 : decode cX2_checkNotOnTray 22 = .ok (.invokevirtual 289, 3) := dk_182 1 33 (dk_at dksX2_checkNotOnTray_1 0 rfl rfl)
theorem dX2_checkNotOnTray_25 : decode cX2_checkNotOnTray 25 = .ok (.iload_n 1, 1) := dk_27 (dk_at dksX2_checkNotOnTray_1 3 rfl rfl)
theorem dX2_checkNotOnTray_26 : decode cX2_checkNotOnTray 26 = .ok (.if_icmp .eq 7, 3) := dk_159 0 7 (dk_at dksX2_checkNotOnTray_1 4 rfl rfl)
theorem dX2_checkNotOnTray_29 : decode cX2_checkNotOnTray 29 = .ok (.iconst 1, 1) := dk_4 (dk_at dksX2_checkNotOnTray_1 7 rfl rfl)
theorem dX2_checkNotOnTray_30 : decode cX2_checkNotOnTray 30 = .ok (.goto 4, 3) := dk_167 0 4 (dk_at dksX2_checkNotOnTray_1 8 rfl rfl)
theorem dX2_checkNotOnTray_33 : decode cX2_checkNotOnTray 33 = .ok (.iconst 0, 1) := dk_3 (dk_at dksX2_checkNotOnTray_1 11 rfl rfl)
theorem dX2_checkNotOnTray_34 : decode cX2_checkNotOnTray 34 = .ok (.bipush 13, 2) := dk_16 13 (dk_at dksX2_checkNotOnTray_1 12 rfl rfl)
theorem dX2_checkNotOnTray_36 : decode cX2_checkNotOnTray 36 = .ok (.iload_n 2, 1) := dk_28 (dk_at dksX2_checkNotOnTray_1 14 rfl rfl)
theorem dX2_checkNotOnTray_37 : decode cX2_checkNotOnTray 37 = .ok (.invokestatic 97, 3) := dk_184 0 97 (dk_at dksX2_checkNotOnTray_1 15 rfl rfl)
theorem dX2_checkNotOnTray_40 : decode cX2_checkNotOnTray 40 = .ok (.iinc 2 1, 3) := dk_132 2 1 (dk_at dksX2_checkNotOnTray_1 18 rfl rfl)
theorem dX2_checkNotOnTray_43 : decode cX2_checkNotOnTray 43 = .ok (.goto (-41), 3) := dk_167 255 215 (dk_at dksX2_checkNotOnTray_1 21 rfl rfl)
theorem dX2_checkNotOnTray_46 : decode cX2_checkNotOnTray 46 = .ok (.return_, 1) := dk_177 (dk_at dksX2_checkNotOnTray_2 0 rfl rfl)
abbrev cX2_biteOf : ByteArray := prog_6_method_9_code
def yX2_biteOf : MethodName := ⟨RX2, "biteOf", "(I[I)I"⟩
def dkwX2_biteOf_0 : List UInt8 := [42, 27, 182, 0, 135, 78, 45, 44, 184, 0, 149, 182, 0, 153, 44, 184, 0, 157, 172]
abbrev dktX2_biteOf_0 : List UInt8 := dkwX2_biteOf_0 ++ []
theorem dksX2_biteOf_0 : cX2_biteOf.data.toList.drop 0 = dktX2_biteOf_0 := by decide +kernel
theorem dX2_biteOf_0 : decode cX2_biteOf 0 = .ok (.aload_n 0, 1) := dk_42 (dk_at dksX2_biteOf_0 0 rfl rfl)
theorem dX2_biteOf_1 : decode cX2_biteOf 1 = .ok (.iload_n 1, 1) := dk_27 (dk_at dksX2_biteOf_0 1 rfl rfl)
theorem dX2_biteOf_2 : decode cX2_biteOf 2 = .ok (.invokevirtual 135, 3) := dk_182 0 135 (dk_at dksX2_biteOf_0 2 rfl rfl)
theorem dX2_biteOf_5 : decode cX2_biteOf 5 = .ok (.astore_n 3, 1) := dk_78 (dk_at dksX2_biteOf_0 5 rfl rfl)
theorem dX2_biteOf_6 : decode cX2_biteOf 6 = .ok (.aload_n 3, 1) := dk_45 (dk_at dksX2_biteOf_0 6 rfl rfl)
theorem dX2_biteOf_7 : decode cX2_biteOf 7 = .ok (.aload_n 2, 1) := dk_44 (dk_at dksX2_biteOf_0 7 rfl rfl)
theorem dX2_biteOf_8 : decode cX2_biteOf 8 = .ok (.invokestatic 149, 3) := dk_184 0 149 (dk_at dksX2_biteOf_0 8 rfl rfl)
theorem dX2_biteOf_11 : decode cX2_biteOf 11 = .ok (.invokevirtual 153, 3) := dk_182 0 153 (dk_at dksX2_biteOf_0 11 rfl rfl)
theorem dX2_biteOf_14 : decode cX2_biteOf 14 = .ok (.aload_n 2, 1) := dk_44 (dk_at dksX2_biteOf_0 14 rfl rfl)
theorem dX2_biteOf_15 : decode cX2_biteOf 15 = .ok (.invokestatic 157, 3) := dk_184 0 157 (dk_at dksX2_biteOf_0 15 rfl rfl)
theorem dX2_biteOf_18 : decode cX2_biteOf 18 = .ok (.ireturn, 1) := dk_172 (dk_at dksX2_biteOf_0 18 rfl rfl)
abbrev cX2_strongest : ByteArray := prog_6_method_17_code
def yX2_strongest : MethodName := ⟨RX2, "strongest", "(I)LMustardMill$Jar;"⟩
def dkwX2_strongest_3 : List UInt8 := [192, 0, 75, 176]
abbrev dktX2_strongest_3 : List UInt8 := dkwX2_strongest_3 ++ []
def dkwX2_strongest_2 : List UInt8 := [25, 4, 182, 0, 231, 153, 0, 7, 4, 167, 0, 4, 3, 54, 5, 167, 255, 211, 27, 44, 184, 0, 234]
abbrev dktX2_strongest_2 : List UInt8 := dkwX2_strongest_2 ++ dktX2_strongest_3
def dkwX2_strongest_1 : List UInt8 := [153, 0, 42, 45, 185, 0, 63, 1, 0, 192, 0, 75, 58, 4, 25, 4, 5, 182, 0, 206, 154, 0, 16, 44]
abbrev dktX2_strongest_1 : List UInt8 := dkwX2_strongest_1 ++ dktX2_strongest_2
def dkwX2_strongest_0 : List UInt8 := [187, 0, 228, 89, 183, 0, 230, 77, 42, 180, 0, 39, 182, 0, 53, 78, 45, 185, 0, 57, 1, 0]
abbrev dktX2_strongest_0 : List UInt8 := dkwX2_strongest_0 ++ dktX2_strongest_1
theorem dksX2_strongest_0 : cX2_strongest.data.toList.drop 0 = dktX2_strongest_0 := by decide +kernel
theorem dksX2_strongest_1 : cX2_strongest.data.toList.drop 22 = dktX2_strongest_1 := dk_seg dksX2_strongest_0 22 rfl rfl
theorem dksX2_strongest_2 : cX2_strongest.data.toList.drop 46 = dktX2_strongest_2 := dk_seg dksX2_strongest_1 24 rfl rfl
theorem dksX2_strongest_3 : cX2_strongest.data.toList.drop 69 = dktX2_strongest_3 := dk_seg dksX2_strongest_2 23 rfl rfl
theorem dX2_strongest_0 : decode cX2_strongest 0 = .ok (.new 228, 3) := dk_187 0 228 (dk_at dksX2_strongest_0 0 rfl rfl)
theorem dX2_strongest_3 : decode cX2_strongest 3 = .ok (.dup, 1) := dk_89 (dk_at dksX2_strongest_0 3 rfl rfl)
theorem dX2_strongest_4 : decode cX2_strongest 4 = .ok (.invokespecial 230, 3) := dk_183 0 230 (dk_at dksX2_strongest_0 4 rfl rfl)
theorem dX2_strongest_7 : decode cX2_strongest 7 = .ok (.astore_n 2, 1) := dk_77 (dk_at dksX2_strongest_0 7 rfl rfl)
theorem dX2_strongest_8 : decode cX2_strongest 8 = .ok (.aload_n 0, 1) := dk_42 (dk_at dksX2_strongest_0 8 rfl rfl)
theorem dX2_strongest_9 : decode cX2_strongest 9 = .ok (.getfield 39, 3) := dk_180 0 39 (dk_at dksX2_strongest_0 9 rfl rfl)
theorem dX2_strongest_12 : decode cX2_strongest 12 = .ok (.invokevirtual 53, 3) := dk_182 0 53 (dk_at dksX2_strongest_0 12 rfl rfl)
theorem dX2_strongest_15 : decode cX2_strongest 15 = .ok (.astore_n 3, 1) := dk_78 (dk_at dksX2_strongest_0 15 rfl rfl)
theorem dX2_strongest_16 : decode cX2_strongest 16 = .ok (.aload_n 3, 1) := dk_45 (dk_at dksX2_strongest_0 16 rfl rfl)
theorem dX2_strongest_17 : decode cX2_strongest 17 = .ok (.invokeinterface 57 1, 5) := by decide +kernel
theorem dX2_strongest_22 : decode cX2_strongest 22 = .ok (.ifCond .eq 42, 3) := dk_153 0 42 (dk_at dksX2_strongest_1 0 rfl rfl)
theorem dX2_strongest_25 : decode cX2_strongest 25 = .ok (.aload_n 3, 1) := dk_45 (dk_at dksX2_strongest_1 3 rfl rfl)
theorem dX2_strongest_26 : decode cX2_strongest 26 = .ok (.invokeinterface 63 1, 5) := by decide +kernel
theorem dX2_strongest_31 : decode cX2_strongest 31 = .ok (.checkcast 75, 3) := dk_192 0 75 (dk_at dksX2_strongest_1 9 rfl rfl)
theorem dX2_strongest_34 : decode cX2_strongest 34 = .ok (.astore 4, 2) := dk_58 4 (dk_at dksX2_strongest_1 12 rfl rfl)
theorem dX2_strongest_36 : decode cX2_strongest 36 = .ok (.aload 4, 2) := dk_25 4 (dk_at dksX2_strongest_1 14 rfl rfl)
theorem dX2_strongest_38 : decode cX2_strongest 38 = .ok (.iconst 2, 1) := dk_5 (dk_at dksX2_strongest_1 16 rfl rfl)
theorem dX2_strongest_39 : decode cX2_strongest 39 = .ok (.invokevirtual 206, 3) := dk_182 0 206 (dk_at dksX2_strongest_1 17 rfl rfl)
theorem dX2_strongest_42 : decode cX2_strongest 42 = .ok (.ifCond .ne 16, 3) := dk_154 0 16 (dk_at dksX2_strongest_1 20 rfl rfl)
theorem dX2_strongest_45 : decode cX2_strongest 45 = .ok (.aload_n 2, 1) := dk_44 (dk_at dksX2_strongest_1 23 rfl rfl)
theorem dX2_strongest_46 : decode cX2_strongest 46 = .ok (.aload 4, 2) := dk_25 4 (dk_at dksX2_strongest_2 0 rfl rfl)
theorem dX2_strongest_48 : decode cX2_strongest 48 = .ok (.invokevirtual 231, 3) := dk_182 0 231 (dk_at dksX2_strongest_2 2 rfl rfl)
theorem dX2_strongest_51 : decode cX2_strongest 51 = .ok (.ifCond .eq 7, 3) := dk_153 0 7 (dk_at dksX2_strongest_2 5 rfl rfl)
theorem dX2_strongest_54 : decode cX2_strongest 54 = .ok (.iconst 1, 1) := dk_4 (dk_at dksX2_strongest_2 8 rfl rfl)
theorem dX2_strongest_55 : decode cX2_strongest 55 = .ok (.goto 4, 3) := dk_167 0 4 (dk_at dksX2_strongest_2 9 rfl rfl)
theorem dX2_strongest_58 : decode cX2_strongest 58 = .ok (.iconst 0, 1) := dk_3 (dk_at dksX2_strongest_2 12 rfl rfl)
theorem dX2_strongest_59 : decode cX2_strongest 59 = .ok (.istore 5, 2) := dk_54 5 (dk_at dksX2_strongest_2 13 rfl rfl)
theorem dX2_strongest_61 : decode cX2_strongest 61 = .ok (.goto (-45), 3) := dk_167 255 211 (dk_at dksX2_strongest_2 15 rfl rfl)
theorem dX2_strongest_64 : decode cX2_strongest 64 = .ok (.iload_n 1, 1) := dk_27 (dk_at dksX2_strongest_2 18 rfl rfl)
theorem dX2_strongest_65 : decode cX2_strongest 65 = .ok (.aload_n 2, 1) := dk_44 (dk_at dksX2_strongest_2 19 rfl rfl)
theorem dX2_strongest_66 : decode cX2_strongest 66 = .ok (.invokestatic 234, 3) := dk_184 0 234 (dk_at dksX2_strongest_2 20 rfl rfl)
theorem dX2_strongest_69 : decode cX2_strongest 69 = .ok (.checkcast 75, 3) := dk_192 0 75 (dk_at dksX2_strongest_3 0 rfl rfl)
theorem dX2_strongest_72 : decode cX2_strongest 72 = .ok (.areturn, 1) := dk_176 (dk_at dksX2_strongest_3 3 rfl rfl)
abbrev cX2_servedIn : ByteArray := prog_6_method_25_code
def yX2_servedIn : MethodName := ⟨RX2, "servedIn", "(LMustardMill$Wish;)I"⟩
def dkwX2_servedIn_1 : List UInt8 := [182, 1, 20, 54, 4, 132, 3, 1, 167, 255, 231, 2, 172]
abbrev dktX2_servedIn_1 : List UInt8 := dkwX2_servedIn_1 ++ []
def dkwX2_servedIn_0 : List UInt8 := [42, 182, 1, 23, 77, 3, 62, 29, 16, 60, 163, 0, 25, 44, 43, 182, 0, 251, 198, 0, 5, 29, 172, 44]
abbrev dktX2_servedIn_0 : List UInt8 := dkwX2_servedIn_0 ++ dktX2_servedIn_1
theorem dksX2_servedIn_0 : cX2_servedIn.data.toList.drop 0 = dktX2_servedIn_0 := by decide +kernel
theorem dksX2_servedIn_1 : cX2_servedIn.data.toList.drop 24 = dktX2_servedIn_1 := dk_seg dksX2_servedIn_0 24 rfl rfl
theorem dX2_servedIn_0 : decode cX2_servedIn 0 = .ok (.aload_n 0, 1) := dk_42 (dk_at dksX2_servedIn_0 0 rfl rfl)
theorem dX2_servedIn_1 : decode cX2_servedIn 1 = .ok (.invokevirtual 279, 3) := dk_182 1 23 (dk_at dksX2_servedIn_0 1 rfl rfl)
theorem dX2_servedIn_4 : decode cX2_servedIn 4 = .ok (.astore_n 2, 1) := dk_77 (dk_at dksX2_servedIn_0 4 rfl rfl)
theorem dX2_servedIn_5 : decode cX2_servedIn 5 = .ok (.iconst 0, 1) := dk_3 (dk_at dksX2_servedIn_0 5 rfl rfl)
theorem dX2_servedIn_6 : decode cX2_servedIn 6 = .ok (.istore_n 3, 1) := dk_62 (dk_at dksX2_servedIn_0 6 rfl rfl)
theorem dX2_servedIn_7 : decode cX2_servedIn 7 = .ok (.iload_n 3, 1) := dk_29 (dk_at dksX2_servedIn_0 7 rfl rfl)
theorem dX2_servedIn_8 : decode cX2_servedIn 8 = .ok (.bipush 60, 2) := dk_16 60 (dk_at dksX2_servedIn_0 8 rfl rfl)
theorem dX2_servedIn_10 : decode cX2_servedIn 10 = .ok (.if_icmp .gt 25, 3) := dk_163 0 25 (dk_at dksX2_servedIn_0 10 rfl rfl)
theorem dX2_servedIn_13 : decode cX2_servedIn 13 = .ok (.aload_n 2, 1) := dk_44 (dk_at dksX2_servedIn_0 13 rfl rfl)
theorem dX2_servedIn_14 : decode cX2_servedIn 14 = .ok (.aload_n 1, 1) := dk_43 (dk_at dksX2_servedIn_0 14 rfl rfl)
theorem dX2_servedIn_15 : decode cX2_servedIn 15 = .ok (.invokevirtual 251, 3) := dk_182 0 251 (dk_at dksX2_servedIn_0 15 rfl rfl)
theorem dX2_servedIn_18 : decode cX2_servedIn 18 = .ok (.ifnull 5, 3) := dk_198 0 5 (dk_at dksX2_servedIn_0 18 rfl rfl)
theorem dX2_servedIn_21 : decode cX2_servedIn 21 = .ok (.iload_n 3, 1) := dk_29 (dk_at dksX2_servedIn_0 21 rfl rfl)
theorem dX2_servedIn_22 : decode cX2_servedIn 22 = .ok (.ireturn, 1) := dk_172 (dk_at dksX2_servedIn_0 22 rfl rfl)
theorem dX2_servedIn_23 : decode cX2_servedIn 23 = .ok (.aload_n 2, 1) := dk_44 (dk_at dksX2_servedIn_0 23 rfl rfl)
theorem dX2_servedIn_24 : decode cX2_servedIn 24 = .ok (.invokevirtual 276, 3) := dk_182 1 20 (dk_at dksX2_servedIn_1 0 rfl rfl)
theorem dX2_servedIn_27 : decode cX2_servedIn 27 = .ok (.istore 4, 2) := dk_54 4 (dk_at dksX2_servedIn_1 3 rfl rfl)
theorem dX2_servedIn_29 : decode cX2_servedIn 29 = .ok (.iinc 3 1, 3) := dk_132 3 1 (dk_at dksX2_servedIn_1 5 rfl rfl)
theorem dX2_servedIn_32 : decode cX2_servedIn 32 = .ok (.goto (-25), 3) := dk_167 255 231 (dk_at dksX2_servedIn_1 8 rfl rfl)
theorem dX2_servedIn_35 : decode cX2_servedIn 35 = .ok (.iconst (-1), 1) := dk_2 (dk_at dksX2_servedIn_1 11 rfl rfl)
theorem dX2_servedIn_36 : decode cX2_servedIn 36 = .ok (.ireturn, 1) := dk_172 (dk_at dksX2_servedIn_1 12 rfl rfl)
abbrev cX2_ripe : ByteArray := prog_6_method_18_code
def yX2_ripe : MethodName := ⟨RX2, "ripe", "()I"⟩
def dkwX2_ripe_2 : List UInt8 := [167, 255, 222, 27, 172]
abbrev dktX2_ripe_2 : List UInt8 := dkwX2_ripe_2 ++ []
def dkwX2_ripe_1 : List UInt8 := [185, 0, 63, 1, 0, 192, 0, 75, 78, 27, 45, 182, 0, 218, 153, 0, 7, 4, 167, 0, 4, 3, 96, 60]
abbrev dktX2_ripe_1 : List UInt8 := dkwX2_ripe_1 ++ dktX2_ripe_2
def dkwX2_ripe_0 : List UInt8 := [3, 60, 42, 180, 0, 39, 182, 0, 53, 77, 44, 185, 0, 57, 1, 0, 153, 0, 31, 44]
abbrev dktX2_ripe_0 : List UInt8 := dkwX2_ripe_0 ++ dktX2_ripe_1
theorem dksX2_ripe_0 : cX2_ripe.data.toList.drop 0 = dktX2_ripe_0 := by decide +kernel
theorem dksX2_ripe_1 : cX2_ripe.data.toList.drop 20 = dktX2_ripe_1 := dk_seg dksX2_ripe_0 20 rfl rfl
theorem dksX2_ripe_2 : cX2_ripe.data.toList.drop 44 = dktX2_ripe_2 := dk_seg dksX2_ripe_1 24 rfl rfl
theorem dX2_ripe_0 : decode cX2_ripe 0 = .ok (.iconst 0, 1) := dk_3 (dk_at dksX2_ripe_0 0 rfl rfl)
theorem dX2_ripe_1 : decode cX2_ripe 1 = .ok (.istore_n 1, 1) := dk_60 (dk_at dksX2_ripe_0 1 rfl rfl)
theorem dX2_ripe_2 : decode cX2_ripe 2 = .ok (.aload_n 0, 1) := dk_42 (dk_at dksX2_ripe_0 2 rfl rfl)
theorem dX2_ripe_3 : decode cX2_ripe 3 = .ok (.getfield 39, 3) := dk_180 0 39 (dk_at dksX2_ripe_0 3 rfl rfl)
theorem dX2_ripe_6 : decode cX2_ripe 6 = .ok (.invokevirtual 53, 3) := dk_182 0 53 (dk_at dksX2_ripe_0 6 rfl rfl)
theorem dX2_ripe_9 : decode cX2_ripe 9 = .ok (.astore_n 2, 1) := dk_77 (dk_at dksX2_ripe_0 9 rfl rfl)
theorem dX2_ripe_10 : decode cX2_ripe 10 = .ok (.aload_n 2, 1) := dk_44 (dk_at dksX2_ripe_0 10 rfl rfl)
theorem dX2_ripe_11 : decode cX2_ripe 11 = .ok (.invokeinterface 57 1, 5) := by decide +kernel
theorem dX2_ripe_16 : decode cX2_ripe 16 = .ok (.ifCond .eq 31, 3) := dk_153 0 31 (dk_at dksX2_ripe_0 16 rfl rfl)
theorem dX2_ripe_19 : decode cX2_ripe 19 = .ok (.aload_n 2, 1) := dk_44 (dk_at dksX2_ripe_0 19 rfl rfl)
theorem dX2_ripe_20 : decode cX2_ripe 20 = .ok (.invokeinterface 63 1, 5) := by decide +kernel
theorem dX2_ripe_25 : decode cX2_ripe 25 = .ok (.checkcast 75, 3) := dk_192 0 75 (dk_at dksX2_ripe_1 5 rfl rfl)
theorem dX2_ripe_28 : decode cX2_ripe 28 = .ok (.astore_n 3, 1) := dk_78 (dk_at dksX2_ripe_1 8 rfl rfl)
theorem dX2_ripe_29 : decode cX2_ripe 29 = .ok (.iload_n 1, 1) := dk_27 (dk_at dksX2_ripe_1 9 rfl rfl)
theorem dX2_ripe_30 : decode cX2_ripe 30 = .ok (.aload_n 3, 1) := dk_45 (dk_at dksX2_ripe_1 10 rfl rfl)
theorem dX2_ripe_31 : decode cX2_ripe 31 = .ok (.invokevirtual 218, 3) := dk_182 0 218 (dk_at dksX2_ripe_1 11 rfl rfl)
theorem dX2_ripe_34 : decode cX2_ripe 34 = .ok (.ifCond .eq 7, 3) := dk_153 0 7 (dk_at dksX2_ripe_1 14 rfl rfl)
theorem dX2_ripe_37 : decode cX2_ripe 37 = .ok (.iconst 1, 1) := dk_4 (dk_at dksX2_ripe_1 17 rfl rfl)
theorem dX2_ripe_38 : decode cX2_ripe 38 = .ok (.goto 4, 3) := dk_167 0 4 (dk_at dksX2_ripe_1 18 rfl rfl)
theorem dX2_ripe_41 : decode cX2_ripe 41 = .ok (.iconst 0, 1) := dk_3 (dk_at dksX2_ripe_1 21 rfl rfl)
theorem dX2_ripe_42 : decode cX2_ripe 42 = .ok (.iadd, 1) := dk_96 (dk_at dksX2_ripe_1 22 rfl rfl)
theorem dX2_ripe_43 : decode cX2_ripe 43 = .ok (.istore_n 1, 1) := dk_60 (dk_at dksX2_ripe_1 23 rfl rfl)
theorem dX2_ripe_44 : decode cX2_ripe 44 = .ok (.goto (-34), 3) := dk_167 255 222 (dk_at dksX2_ripe_2 0 rfl rfl)
theorem dX2_ripe_47 : decode cX2_ripe 47 = .ok (.iload_n 1, 1) := dk_27 (dk_at dksX2_ripe_2 3 rfl rfl)
theorem dX2_ripe_48 : decode cX2_ripe 48 = .ok (.ireturn, 1) := dk_172 (dk_at dksX2_ripe_2 4 rfl rfl)
abbrev cX2_tearsSold : ByteArray := prog_6_method_19_code
def yX2_tearsSold : MethodName := ⟨RX2, "tearsSold", "()I"⟩
def dkwX2_tearsSold_2 : List UInt8 := [167, 0, 4, 3, 96, 60, 167, 255, 218, 27, 172]
abbrev dktX2_tearsSold_2 : List UInt8 := dkwX2_tearsSold_2 ++ []
def dkwX2_tearsSold_1 : List UInt8 := [185, 0, 63, 1, 0, 192, 0, 75, 78, 27, 45, 5, 182, 0, 206, 153, 0, 10, 45, 182, 0, 213]
abbrev dktX2_tearsSold_1 : List UInt8 := dkwX2_tearsSold_1 ++ dktX2_tearsSold_2
def dkwX2_tearsSold_0 : List UInt8 := [3, 60, 42, 180, 0, 39, 182, 0, 53, 77, 44, 185, 0, 57, 1, 0, 153, 0, 35, 44]
abbrev dktX2_tearsSold_0 : List UInt8 := dkwX2_tearsSold_0 ++ dktX2_tearsSold_1
theorem dksX2_tearsSold_0 : cX2_tearsSold.data.toList.drop 0 = dktX2_tearsSold_0 := by decide +kernel
theorem dksX2_tearsSold_1 : cX2_tearsSold.data.toList.drop 20 = dktX2_tearsSold_1 := dk_seg dksX2_tearsSold_0 20 rfl rfl
theorem dksX2_tearsSold_2 : cX2_tearsSold.data.toList.drop 42 = dktX2_tearsSold_2 := dk_seg dksX2_tearsSold_1 22 rfl rfl
theorem dX2_tearsSold_0 : decode cX2_tearsSold 0 = .ok (.iconst 0, 1) := dk_3 (dk_at dksX2_tearsSold_0 0 rfl rfl)
theorem dX2_tearsSold_1 : decode cX2_tearsSold 1 = .ok (.istore_n 1, 1) := dk_60 (dk_at dksX2_tearsSold_0 1 rfl rfl)
theorem dX2_tearsSold_2 : decode cX2_tearsSold 2 = .ok (.aload_n 0, 1) := dk_42 (dk_at dksX2_tearsSold_0 2 rfl rfl)
theorem dX2_tearsSold_3 : decode cX2_tearsSold 3 = .ok (.getfield 39, 3) := dk_180 0 39 (dk_at dksX2_tearsSold_0 3 rfl rfl)
theorem dX2_tearsSold_6 : decode cX2_tearsSold 6 = .ok (.invokevirtual 53, 3) := dk_182 0 53 (dk_at dksX2_tearsSold_0 6 rfl rfl)
theorem dX2_tearsSold_9 : decode cX2_tearsSold 9 = .ok (.astore_n 2, 1) := dk_77 (dk_at dksX2_tearsSold_0 9 rfl rfl)
theorem dX2_tearsSold_10 : decode cX2_tearsSold 10 = .ok (.aload_n 2, 1) := dk_44 (dk_at dksX2_tearsSold_0 10 rfl rfl)
theorem dX2_tearsSold_11 : decode cX2_tearsSold 11 = .ok (.invokeinterface 57 1, 5) := by decide +kernel
theorem dX2_tearsSold_16 : decode cX2_tearsSold 16 = .ok (.ifCond .eq 35, 3) := dk_153 0 35 (dk_at dksX2_tearsSold_0 16 rfl rfl)
theorem dX2_tearsSold_19 : decode cX2_tearsSold 19 = .ok (.aload_n 2, 1) := dk_44 (dk_at dksX2_tearsSold_0 19 rfl rfl)
theorem dX2_tearsSold_20 : decode cX2_tearsSold 20 = .ok (.invokeinterface 63 1, 5) := by decide +kernel
theorem dX2_tearsSold_25 : decode cX2_tearsSold 25 = .ok (.checkcast 75, 3) := dk_192 0 75 (dk_at dksX2_tearsSold_1 5 rfl rfl)
theorem dX2_tearsSold_28 : decode cX2_tearsSold 28 = .ok (.astore_n 3, 1) := dk_78 (dk_at dksX2_tearsSold_1 8 rfl rfl)
theorem dX2_tearsSold_29 : decode cX2_tearsSold 29 = .ok (.iload_n 1, 1) := dk_27 (dk_at dksX2_tearsSold_1 9 rfl rfl)
theorem dX2_tearsSold_30 : decode cX2_tearsSold 30 = .ok (.aload_n 3, 1) := dk_45 (dk_at dksX2_tearsSold_1 10 rfl rfl)
theorem dX2_tearsSold_31 : decode cX2_tearsSold 31 = .ok (.iconst 2, 1) := dk_5 (dk_at dksX2_tearsSold_1 11 rfl rfl)
theorem dX2_tearsSold_32 : decode cX2_tearsSold 32 = .ok (.invokevirtual 206, 3) := dk_182 0 206 (dk_at dksX2_tearsSold_1 12 rfl rfl)
theorem dX2_tearsSold_35 : decode cX2_tearsSold 35 = .ok (.ifCond .eq 10, 3) := dk_153 0 10 (dk_at dksX2_tearsSold_1 15 rfl rfl)
theorem dX2_tearsSold_38 : decode cX2_tearsSold 38 = .ok (.aload_n 3, 1) := dk_45 (dk_at dksX2_tearsSold_1 18 rfl rfl)
theorem dX2_tearsSold_39 : decode cX2_tearsSold 39 = .ok (.invokevirtual 213, 3) := dk_182 0 213 (dk_at dksX2_tearsSold_1 19 rfl rfl)
theorem dX2_tearsSold_42 : decode cX2_tearsSold 42 = .ok (.goto 4, 3) := dk_167 0 4 (dk_at dksX2_tearsSold_2 0 rfl rfl)
theorem dX2_tearsSold_45 : decode cX2_tearsSold 45 = .ok (.iconst 0, 1) := dk_3 (dk_at dksX2_tearsSold_2 3 rfl rfl)
theorem dX2_tearsSold_46 : decode cX2_tearsSold 46 = .ok (.iadd, 1) := dk_96 (dk_at dksX2_tearsSold_2 4 rfl rfl)
theorem dX2_tearsSold_47 : decode cX2_tearsSold 47 = .ok (.istore_n 1, 1) := dk_60 (dk_at dksX2_tearsSold_2 5 rfl rfl)
theorem dX2_tearsSold_48 : decode cX2_tearsSold 48 = .ok (.goto (-38), 3) := dk_167 255 218 (dk_at dksX2_tearsSold_2 6 rfl rfl)
theorem dX2_tearsSold_51 : decode cX2_tearsSold 51 = .ok (.iload_n 1, 1) := dk_27 (dk_at dksX2_tearsSold_2 9 rfl rfl)
theorem dX2_tearsSold_52 : decode cX2_tearsSold 52 = .ok (.ireturn, 1) := dk_172 (dk_at dksX2_tearsSold_2 10 rfl rfl)
theorem q65 : (Jvm.Cond.initialized "MustardMill$Mill") ∈ lw_all := lw_g (lw_at lw_m1 2 rfl) rfl
theorem q120 : (Jvm.Cond.instantiable "MustardMill$Mill" (9 : Nat)) ∈ lw_all := lw_g (lw_at lw_m1 57 rfl) rfl
theorem q122 : (Jvm.Cond.instanceMethod ({ cls := "MustardMill$Mill", name := "<init>", desc := "()V" } : Jvm.MethodName)) ∈ lw_all := lw_g (lw_at lw_m1 59 rfl) rfl
theorem q123 : (Jvm.Cond.code ({ cls := "MustardMill$Mill", name := "<init>", desc := "()V" } : Jvm.MethodName) prog_6_method_1_code (1 : Nat) (Option.none : Option Jvm.ClassFile.FieldType)) ∈ lw_all := lw_g (lw_at lw_m1 60 rfl) rfl
theorem q124 : (Jvm.Cond.methodLink "MustardMill$Mill" (3 : Nat) ({ cls := "java/lang/Object", name := "<init>", desc := "()V" } : Jvm.MethodName)) ∈ lw_all := lw_g (lw_at lw_m1 61 rfl) rfl
theorem q125 : (Jvm.Cond.fieldLink "MustardMill$Mill" (9 : Nat) "MustardMill$Mill" "FIRST" "[I") ∈ lw_all := lw_g (lw_at lw_m1 62 rfl) rfl
theorem q126 : (Jvm.Cond.laysStatic "MustardMill$Mill" "FIRST" "[I") ∈ lw_tbl := lw_at lw_m1 63 rfl
theorem q127 : (Jvm.Cond.methodLink "MustardMill$Mill" (15 : Nat) ({ cls := "[I", name := "clone", desc := "()Ljava/lang/Object;" } : Jvm.MethodName)) ∈ lw_all := lw_g (lw_at lw_m1 64 rfl) rfl
theorem q133 : (Jvm.Cond.classLink "MustardMill$Mill" (16 : Nat) "[I") ∈ lw_all := lw_g (lw_at lw_m1 70 rfl) rfl
theorem q134 : (Jvm.Cond.classLink "MustardMill$Mill" (23 : Nat) "MustardMill$Quern") ∈ lw_all := lw_g (lw_at lw_m1 71 rfl) rfl
theorem q137 : (Jvm.Cond.methodLink "MustardMill$Mill" (25 : Nat) ({ cls := "MustardMill$Quern", name := "<init>", desc := "(I)V" } : Jvm.MethodName)) ∈ lw_all := lw_g (lw_at lw_m1 74 rfl) rfl
theorem q143 : (Jvm.Cond.fieldLinkNest "MustardMill$Mill" (142 : Nat) "MustardMill$Quern" "dress" "I" "MustardMill") ∈ lw_tbl := lw_at lw_m1 80 rfl
theorem q146 : (Jvm.Cond.fieldLinkNest "MustardMill$Mill" (139 : Nat) "MustardMill$Quern" "heat" "I" "MustardMill") ∈ lw_tbl := lw_at lw_m1 83 rfl
theorem q148 : (Jvm.Cond.fieldLinkNest "MustardMill$Mill" (173 : Nat) "MustardMill$Quern" "grams" "I" "MustardMill") ∈ lw_tbl := lw_at lw_m1 85 rfl
theorem q160 : (Jvm.Cond.classLink "MustardMill$Mill" (32 : Nat) "MustardMill$Shelf") ∈ lw_all := lw_g (lw_at lw_m1 97 rfl) rfl
theorem q162 : (Jvm.Cond.methodLink "MustardMill$Mill" (34 : Nat) ({ cls := "MustardMill$Shelf", name := "<init>", desc := "(I)V" } : Jvm.MethodName)) ∈ lw_all := lw_g (lw_at lw_m1 99 rfl) rfl
theorem q202 : (Jvm.Cond.fieldLink "MustardMill$Mill" (20 : Nat) "MustardMill$Mill" "stocks" "[I") ∈ lw_all := lw_g (lw_at lw_m1 139 rfl) rfl
theorem q204 : (Jvm.Cond.fieldLink "MustardMill$Mill" (28 : Nat) "MustardMill$Mill" "querns" "[LMustardMill$Quern;") ∈ lw_all := lw_g (lw_at lw_m1 141 rfl) rfl
theorem q205 : (Jvm.Cond.fieldLink "MustardMill$Mill" (35 : Nat) "MustardMill$Mill" "batches" "LMustardMill$Shelf;") ∈ lw_all := lw_g (lw_at lw_m1 142 rfl) rfl
theorem q207 : (Jvm.Cond.fieldLink "MustardMill$Mill" (39 : Nat) "MustardMill$Mill" "jars" "LMustardMill$Shelf;") ∈ lw_all := lw_g (lw_at lw_m1 144 rfl) rfl
theorem q209 : (Jvm.Cond.fieldLink "MustardMill$Mill" (42 : Nat) "MustardMill$Mill" "wishes" "LMustardMill$Shelf;") ∈ lw_all := lw_g (lw_at lw_m1 146 rfl) rfl
theorem q211 : (Jvm.Cond.fieldLink "MustardMill$Mill" (85 : Nat) "MustardMill$Mill" "tray" "[LMustardMill$Thing;") ∈ lw_all := lw_g (lw_at lw_m1 148 rfl) rfl
theorem q213 : (Jvm.Cond.fieldLink "MustardMill$Mill" (45 : Nat) "MustardMill$Mill" "coins" "I") ∈ lw_all := lw_g (lw_at lw_m1 150 rfl) rfl
theorem q215 : (Jvm.Cond.fieldLink "MustardMill$Mill" (91 : Nat) "MustardMill$Mill" "got" "I") ∈ lw_all := lw_g (lw_at lw_m1 152 rfl) rfl
theorem q217 : (Jvm.Cond.fieldLink "MustardMill$Mill" (94 : Nat) "MustardMill$Mill" "day" "I") ∈ lw_all := lw_g (lw_at lw_m1 154 rfl) rfl
theorem q219 : (Jvm.Cond.lays "MustardMill$Mill" "MustardMill$Mill" "stocks" "[I") ∈ lw_all := lw_g (lw_at lw_m1 156 rfl) rfl
theorem q220 : (Jvm.Cond.soleField "MustardMill$Mill" "stocks") ∈ lw_all := lw_g (lw_at lw_m1 157 rfl) rfl
theorem q221 : (Jvm.Cond.lays "MustardMill$Mill" "MustardMill$Mill" "querns" "[LMustardMill$Quern;") ∈ lw_all := lw_g (lw_at lw_m1 158 rfl) rfl
theorem q222 : (Jvm.Cond.soleField "MustardMill$Mill" "querns") ∈ lw_all := lw_g (lw_at lw_m1 159 rfl) rfl
theorem q223 : (Jvm.Cond.lays "MustardMill$Mill" "MustardMill$Mill" "batches" "LMustardMill$Shelf;") ∈ lw_all := lw_g (lw_at lw_m1 160 rfl) rfl
theorem q224 : (Jvm.Cond.soleField "MustardMill$Mill" "batches") ∈ lw_all := lw_g (lw_at lw_m1 161 rfl) rfl
theorem q225 : (Jvm.Cond.lays "MustardMill$Mill" "MustardMill$Mill" "jars" "LMustardMill$Shelf;") ∈ lw_all := lw_g (lw_at lw_m1 162 rfl) rfl
theorem q226 : (Jvm.Cond.soleField "MustardMill$Mill" "jars") ∈ lw_all := lw_g (lw_at lw_m1 163 rfl) rfl
theorem q227 : (Jvm.Cond.lays "MustardMill$Mill" "MustardMill$Mill" "wishes" "LMustardMill$Shelf;") ∈ lw_all := lw_g (lw_at lw_m1 164 rfl) rfl
theorem q228 : (Jvm.Cond.soleField "MustardMill$Mill" "wishes") ∈ lw_all := lw_g (lw_at lw_m1 165 rfl) rfl
theorem q229 : (Jvm.Cond.lays "MustardMill$Mill" "MustardMill$Mill" "tray" "[LMustardMill$Thing;") ∈ lw_all := lw_g (lw_at lw_m1 166 rfl) rfl
theorem q230 : (Jvm.Cond.soleField "MustardMill$Mill" "tray") ∈ lw_all := lw_g (lw_at lw_m1 167 rfl) rfl
theorem q231 : (Jvm.Cond.lays "MustardMill$Mill" "MustardMill$Mill" "coins" "I") ∈ lw_all := lw_g (lw_at lw_m1 168 rfl) rfl
theorem q232 : (Jvm.Cond.soleField "MustardMill$Mill" "coins") ∈ lw_all := lw_g (lw_at lw_m1 169 rfl) rfl
theorem q233 : (Jvm.Cond.lays "MustardMill$Mill" "MustardMill$Mill" "got" "I") ∈ lw_all := lw_g (lw_at lw_m1 170 rfl) rfl
theorem q234 : (Jvm.Cond.soleField "MustardMill$Mill" "got") ∈ lw_all := lw_g (lw_at lw_m1 171 rfl) rfl
theorem q235 : (Jvm.Cond.lays "MustardMill$Mill" "MustardMill$Mill" "day" "I") ∈ lw_all := lw_g (lw_at lw_m1 172 rfl) rfl
theorem q236 : (Jvm.Cond.soleField "MustardMill$Mill" "day") ∈ lw_all := lw_g (lw_at lw_m1 173 rfl) rfl
theorem q237 : (Jvm.Cond.superclass "MustardMill$Mill" "java/lang/Object") ∈ lw_all := lw_g (lw_at lw_m1 174 rfl) rfl
theorem q332 : (Jvm.Cond.instanceMethod ({ cls := "MustardMill$Mill", name := "told", desc := "()Ljava/lang/String;" } : Jvm.MethodName)) ∈ lw_all := lw_g (lw_at lw_m2 29 rfl) rfl
theorem q333 : (Jvm.Cond.selects "MustardMill$Mill" ({ cls := "MustardMill$Mill", name := "told", desc := "()Ljava/lang/String;" } : Jvm.MethodName) ({ cls := "MustardMill$Mill", name := "told", desc := "()Ljava/lang/String;" } : Jvm.MethodName)) ∈ lw_all := lw_g (lw_at lw_m2 30 rfl) rfl
theorem q334 : (Jvm.Cond.code ({ cls := "MustardMill$Mill", name := "told", desc := "()Ljava/lang/String;" } : Jvm.MethodName) prog_6_method_31_code (4 : Nat) (Option.some (Jvm.ClassFile.FieldType.object "java/lang/String"))) ∈ lw_all := lw_g (lw_at lw_m2 31 rfl) rfl
theorem q335 : (Jvm.Cond.classLink "MustardMill$Mill" (305 : Nat) "java/lang/StringBuilder") ∈ lw_all := lw_g (lw_at lw_m2 32 rfl) rfl
theorem q336 : (Jvm.Cond.methodLink "MustardMill$Mill" (307 : Nat) ({ cls := "java/lang/StringBuilder", name := "<init>", desc := "()V" } : Jvm.MethodName)) ∈ lw_all := lw_g (lw_at lw_m2 33 rfl) rfl
theorem q337 : (Jvm.Cond.methodLink "MustardMill$Mill" (308 : Nat) ({ cls := "java/lang/StringBuilder", name := "append", desc := "(I)Ljava/lang/StringBuilder;" } : Jvm.MethodName)) ∈ lw_all := lw_g (lw_at lw_m2 34 rfl) rfl
theorem q423 : (Jvm.Cond.stringRef "MustardMill$Mill" (312 : Nat) "ybkvc") ∈ lw_tbl := lw_at lw_m2 120 rfl
theorem q424 : (Jvm.Cond.methodLink "MustardMill$Mill" (314 : Nat) ({ cls := "java/lang/String", name := "charAt", desc := "(I)C" } : Jvm.MethodName)) ∈ lw_all := lw_g (lw_at lw_m2 121 rfl) rfl
theorem q452 : (Jvm.Cond.methodLink "MustardMill$Mill" (320 : Nat) ({ cls := "java/lang/StringBuilder", name := "append", desc := "(C)Ljava/lang/StringBuilder;" } : Jvm.MethodName)) ∈ lw_all := lw_g (lw_at lw_m2 149 rfl) rfl
theorem q484 : (Jvm.Cond.methodLink "MustardMill$Mill" (323 : Nat) ({ cls := "java/lang/StringBuilder", name := "toString", desc := "()Ljava/lang/String;" } : Jvm.MethodName)) ∈ lw_all := lw_g (lw_at lw_m2 181 rfl) rfl
theorem q679 : (Jvm.Cond.instanceMethod ({ cls := "MustardMill$Mill", name := "copy", desc := "()LMustardMill$Mill;" } : Jvm.MethodName)) ∈ lw_all := lw_g (lw_at lw_m3 136 rfl) rfl
theorem q680 : (Jvm.Cond.selects "MustardMill$Mill" ({ cls := "MustardMill$Mill", name := "copy", desc := "()LMustardMill$Mill;" } : Jvm.MethodName) ({ cls := "MustardMill$Mill", name := "copy", desc := "()LMustardMill$Mill;" } : Jvm.MethodName)) ∈ lw_all := lw_g (lw_at lw_m3 137 rfl) rfl
theorem q681 : (Jvm.Cond.code ({ cls := "MustardMill$Mill", name := "copy", desc := "()LMustardMill$Mill;" } : Jvm.MethodName) prog_6_method_2_code (5 : Nat) (Option.some (Jvm.ClassFile.FieldType.object "MustardMill$Mill"))) ∈ lw_all := lw_g (lw_at lw_m3 138 rfl) rfl
theorem q682 : (Jvm.Cond.classLink "MustardMill$Mill" (10 : Nat) "MustardMill$Mill") ∈ lw_all := lw_g (lw_at lw_m3 139 rfl) rfl
theorem q683 : (Jvm.Cond.methodLink "MustardMill$Mill" (49 : Nat) ({ cls := "MustardMill$Mill", name := "<init>", desc := "()V" } : Jvm.MethodName)) ∈ lw_all := lw_g (lw_at lw_m3 140 rfl) rfl
theorem q684 : (Jvm.Cond.methodLink "MustardMill$Mill" (50 : Nat) ({ cls := "MustardMill$Quern", name := "clone", desc := "()LMustardMill$Quern;" } : Jvm.MethodName)) ∈ lw_all := lw_g (lw_at lw_m3 141 rfl) rfl
theorem q712 : (Jvm.Cond.methodLink "MustardMill$Mill" (53 : Nat) ({ cls := "MustardMill$Shelf", name := "iterator", desc := "()Ljava/util/Iterator;" } : Jvm.MethodName)) ∈ lw_all := lw_g (lw_at lw_m3 169 rfl) rfl
theorem q739 : (Jvm.Cond.interfaceEntry "MustardMill$Mill" (57 : Nat)) ∈ lw_tbl := lw_at lw_m3 196 rfl
theorem q740 : (Jvm.Cond.methodLink "MustardMill$Mill" (57 : Nat) ({ cls := "java/util/Iterator", name := "hasNext", desc := "()Z" } : Jvm.MethodName)) ∈ lw_all := lw_g (lw_at lw_m3 197 rfl) rfl
theorem q755 : (Jvm.Cond.interfaceEntry "MustardMill$Mill" (63 : Nat)) ∈ lw_tbl := lw_at lw_m3 212 rfl
theorem q756 : (Jvm.Cond.methodLink "MustardMill$Mill" (63 : Nat) ({ cls := "java/util/Iterator", name := "next", desc := "()Ljava/lang/Object;" } : Jvm.MethodName)) ∈ lw_all := lw_g (lw_at lw_m3 213 rfl) rfl
theorem q796 : (Jvm.Cond.classLink "MustardMill$Mill" (66 : Nat) "MustardMill$Batch") ∈ lw_all := lw_g (lw_at lw_m4 13 rfl) rfl
theorem q797 : (Jvm.Cond.methodLink "MustardMill$Mill" (68 : Nat) ({ cls := "MustardMill$Batch", name := "clone", desc := "()LMustardMill$Batch;" } : Jvm.MethodName)) ∈ lw_all := lw_g (lw_at lw_m4 14 rfl) rfl
theorem q812 : (Jvm.Cond.methodLink "MustardMill$Mill" (71 : Nat) ({ cls := "MustardMill$Shelf", name := "add", desc := "(LMustardMill$Thing;)I" } : Jvm.MethodName)) ∈ lw_all := lw_g (lw_at lw_m4 29 rfl) rfl
theorem q844 : (Jvm.Cond.selects "MustardMill$Mill" ({ cls := "java/lang/Object", name := "getClass", desc := "()Ljava/lang/Class;" } : Jvm.MethodName) ({ cls := "java/lang/Object", name := "getClass", desc := "()Ljava/lang/Class;" } : Jvm.MethodName)) ∈ lw_all := lw_g (lw_at lw_m4 61 rfl) rfl
theorem q879 : (Jvm.Cond.classLink "MustardMill$Mill" (75 : Nat) "MustardMill$Jar") ∈ lw_all := lw_g (lw_at lw_m4 96 rfl) rfl
theorem q880 : (Jvm.Cond.methodLink "MustardMill$Mill" (77 : Nat) ({ cls := "MustardMill$Jar", name := "clone", desc := "()LMustardMill$Jar;" } : Jvm.MethodName)) ∈ lw_all := lw_g (lw_at lw_m4 97 rfl) rfl
theorem q887 : (Jvm.Cond.classLink "MustardMill$Mill" (80 : Nat) "MustardMill$Wish") ∈ lw_all := lw_g (lw_at lw_m4 104 rfl) rfl
theorem q888 : (Jvm.Cond.methodLink "MustardMill$Mill" (82 : Nat) ({ cls := "MustardMill$Wish", name := "clone", desc := "()LMustardMill$Wish;" } : Jvm.MethodName)) ∈ lw_all := lw_g (lw_at lw_m4 105 rfl) rfl
theorem q895 : (Jvm.Cond.methodLink "MustardMill$Mill" (89 : Nat) ({ cls := "[LMustardMill$Thing;", name := "clone", desc := "()Ljava/lang/Object;" } : Jvm.MethodName)) ∈ lw_all := lw_g (lw_at lw_m4 112 rfl) rfl
theorem q900 : (Jvm.Cond.classLink "MustardMill$Mill" (90 : Nat) "[LMustardMill$Thing;") ∈ lw_all := lw_g (lw_at lw_m4 117 rfl) rfl
theorem q995 : (Jvm.Cond.instanceMethod ({ cls := "MustardMill$Mill", name := "grind", desc := "(I[I)I" } : Jvm.MethodName)) ∈ lw_all := lw_g (lw_at lw_m4 212 rfl) rfl
theorem q996 : (Jvm.Cond.selects "MustardMill$Mill" ({ cls := "MustardMill$Mill", name := "grind", desc := "(I[I)I" } : Jvm.MethodName) ({ cls := "MustardMill$Mill", name := "grind", desc := "(I[I)I" } : Jvm.MethodName)) ∈ lw_all := lw_g (lw_at lw_m4 213 rfl) rfl
theorem q997 : (Jvm.Cond.code ({ cls := "MustardMill$Mill", name := "grind", desc := "(I[I)I" } : Jvm.MethodName) prog_6_method_10_code (8 : Nat) (Option.some Jvm.ClassFile.FieldType.int)) ∈ lw_all := lw_g (lw_at lw_m4 214 rfl) rfl
theorem q998 : (Jvm.Cond.methodLink "MustardMill$Mill" (135 : Nat) ({ cls := "MustardMill$Mill", name := "quern", desc := "(I)LMustardMill$Quern;" } : Jvm.MethodName)) ∈ lw_all := lw_g (lw_at lw_m4 215 rfl) rfl
theorem q999 : (Jvm.Cond.instanceMethod ({ cls := "MustardMill$Mill", name := "quern", desc := "(I)LMustardMill$Quern;" } : Jvm.MethodName)) ∈ lw_all := lw_g (lw_at lw_m4 216 rfl) rfl
theorem q1000 : (Jvm.Cond.selects "MustardMill$Mill" ({ cls := "MustardMill$Mill", name := "quern", desc := "(I)LMustardMill$Quern;" } : Jvm.MethodName) ({ cls := "MustardMill$Mill", name := "quern", desc := "(I)LMustardMill$Quern;" } : Jvm.MethodName)) ∈ lw_all := lw_g (lw_at lw_m4 217 rfl) rfl
theorem q1001 : (Jvm.Cond.code ({ cls := "MustardMill$Mill", name := "quern", desc := "(I)LMustardMill$Quern;" } : Jvm.MethodName) prog_6_method_6_code (2 : Nat) (Option.some (Jvm.ClassFile.FieldType.object "MustardMill$Quern"))) ∈ lw_all := lw_g (lw_at lw_m4 218 rfl) rfl
theorem q1002 : (Jvm.Cond.constantLong "MustardMill$Mill" (130 : Nat) (2 : Int64)) ∈ lw_all := lw_g (lw_at lw_m4 219 rfl) rfl
theorem q1003 : (Jvm.Cond.methodLinkNest "MustardMill$Mill" (111 : Nat) ({ cls := "MustardMill", name := "inRange", desc := "(JJJ)Z" } : Jvm.MethodName) "MustardMill") ∈ lw_tbl := lw_at lw_m4 220 rfl
theorem q1006 : (Jvm.Cond.methodLinkNest "MustardMill$Mill" (132 : Nat) ({ cls := "MustardMill", name := "checkIndex", desc := "(Z)V" } : Jvm.MethodName) "MustardMill") ∈ lw_tbl := lw_at lw_m4 223 rfl
theorem q1024 : (Jvm.Cond.methodLink "MustardMill$Mill" (149 : Nat) ({ cls := "MustardMill$Mill", name := "sum", desc := "([I)I" } : Jvm.MethodName)) ∈ lw_all := lw_g (lw_at lw_m5 1 rfl) rfl
theorem q1025 : (Jvm.Cond.static ({ cls := "MustardMill$Mill", name := "sum", desc := "([I)I" } : Jvm.MethodName)) ∈ lw_all := lw_g (lw_at lw_m5 2 rfl) rfl
theorem q1026 : (Jvm.Cond.code ({ cls := "MustardMill$Mill", name := "sum", desc := "([I)I" } : Jvm.MethodName) prog_6_method_8_code (6 : Nat) (Option.some Jvm.ClassFile.FieldType.int)) ∈ lw_all := lw_g (lw_at lw_m5 3 rfl) rfl
theorem q1027 : (Jvm.Cond.constantLong "MustardMill$Mill" (145 : Nat) (60 : Int64)) ∈ lw_all := lw_g (lw_at lw_m5 4 rfl) rfl
theorem q1028 : (Jvm.Cond.methodLinkNest "MustardMill$Mill" (117 : Nat) ({ cls := "MustardMill", name := "checkArgument", desc := "(Z)V" } : Jvm.MethodName) "MustardMill") ∈ lw_tbl := lw_at lw_m5 5 rfl
theorem q1036 : (Jvm.Cond.constantLong "MustardMill$Mill" (147 : Nat) (10 : Int64)) ∈ lw_all := lw_g (lw_at lw_m5 13 rfl) rfl
theorem q1037 : (Jvm.Cond.methodLink "MustardMill$Mill" (163 : Nat) ({ cls := "MustardMill$Shelf", name := "checkRoom", desc := "(I)V" } : Jvm.MethodName)) ∈ lw_all := lw_g (lw_at lw_m5 14 rfl) rfl
theorem q1072 : (Jvm.Cond.methodLink "MustardMill$Mill" (97 : Nat) ({ cls := "MustardMill$Refused", name := "check", desc := "(ZII)V" } : Jvm.MethodName)) ∈ lw_all := lw_g (lw_at lw_m5 49 rfl) rfl
theorem q1073 : (Jvm.Cond.methodLink "MustardMill$Mill" (153 : Nat) ({ cls := "MustardMill$Quern", name := "heatBehind", desc := "(I)I" } : Jvm.MethodName)) ∈ lw_all := lw_g (lw_at lw_m5 50 rfl) rfl
theorem q1078 : (Jvm.Cond.methodLink "MustardMill$Mill" (166 : Nat) ({ cls := "MustardMill$Shelf", name := "size", desc := "()I" } : Jvm.MethodName)) ∈ lw_all := lw_g (lw_at lw_m5 55 rfl) rfl
theorem q1082 : (Jvm.Cond.methodLink "MustardMill$Mill" (157 : Nat) ({ cls := "MustardMill$Taste", name := "bite", desc := "(I[I)I" } : Jvm.MethodName)) ∈ lw_all := lw_g (lw_at lw_m5 59 rfl) rfl
theorem q1086 : (Jvm.Cond.methodLink "MustardMill$Mill" (170 : Nat) ({ cls := "MustardMill$Batch", name := "<init>", desc := "(IIII)V" } : Jvm.MethodName)) ∈ lw_all := lw_g (lw_at lw_m5 63 rfl) rfl
theorem q1100 : (Jvm.Cond.fieldLinkNest "MustardMill$Mill" (198 : Nat) "MustardMill$Batch" "left" "I" "MustardMill") ∈ lw_tbl := lw_at lw_m5 77 rfl
theorem q1103 : (Jvm.Cond.fieldLinkNest "MustardMill$Mill" (187 : Nat) "MustardMill$Batch" "spoons" "I" "MustardMill") ∈ lw_tbl := lw_at lw_m5 80 rfl
theorem q1105 : (Jvm.Cond.fieldLinkNest "MustardMill$Mill" (204 : Nat) "MustardMill$Batch" "jars" "I" "MustardMill") ∈ lw_tbl := lw_at lw_m5 82 rfl
theorem q1126 : (Jvm.Cond.instanceMethod ({ cls := "MustardMill$Mill", name := "dress", desc := "(I)I" } : Jvm.MethodName)) ∈ lw_all := lw_g (lw_at lw_m5 103 rfl) rfl
theorem q1127 : (Jvm.Cond.selects "MustardMill$Mill" ({ cls := "MustardMill$Mill", name := "dress", desc := "(I)I" } : Jvm.MethodName) ({ cls := "MustardMill$Mill", name := "dress", desc := "(I)I" } : Jvm.MethodName)) ∈ lw_all := lw_g (lw_at lw_m5 104 rfl) rfl
theorem q1128 : (Jvm.Cond.code ({ cls := "MustardMill$Mill", name := "dress", desc := "(I)I" } : Jvm.MethodName) prog_6_method_7_code (4 : Nat) (Option.some Jvm.ClassFile.FieldType.int)) ∈ lw_all := lw_g (lw_at lw_m5 105 rfl) rfl
theorem q1129 : (Jvm.Cond.methodLink "MustardMill$Mill" (127 : Nat) ({ cls := "MustardMill$Mill", name := "pay", desc := "(I)V" } : Jvm.MethodName)) ∈ lw_all := lw_g (lw_at lw_m5 106 rfl) rfl
theorem q1130 : (Jvm.Cond.privateMethod ({ cls := "MustardMill$Mill", name := "pay", desc := "(I)V" } : Jvm.MethodName)) ∈ lw_tbl := lw_at lw_m5 107 rfl
theorem q1131 : (Jvm.Cond.instanceMethod ({ cls := "MustardMill$Mill", name := "pay", desc := "(I)V" } : Jvm.MethodName)) ∈ lw_all := lw_g (lw_at lw_m5 108 rfl) rfl
theorem q1132 : (Jvm.Cond.code ({ cls := "MustardMill$Mill", name := "pay", desc := "(I)V" } : Jvm.MethodName) prog_6_method_3_code (2 : Nat) (Option.none : Option Jvm.ClassFile.FieldType)) ∈ lw_all := lw_g (lw_at lw_m5 109 rfl) rfl
theorem q1134 : (Jvm.Cond.instanceMethod ({ cls := "MustardMill$Mill", name := "mix", desc := "(II)I" } : Jvm.MethodName)) ∈ lw_all := lw_g (lw_at lw_m5 111 rfl) rfl
theorem q1135 : (Jvm.Cond.selects "MustardMill$Mill" ({ cls := "MustardMill$Mill", name := "mix", desc := "(II)I" } : Jvm.MethodName) ({ cls := "MustardMill$Mill", name := "mix", desc := "(II)I" } : Jvm.MethodName)) ∈ lw_all := lw_g (lw_at lw_m5 112 rfl) rfl
theorem q1136 : (Jvm.Cond.code ({ cls := "MustardMill$Mill", name := "mix", desc := "(II)I" } : Jvm.MethodName) prog_6_method_11_code (4 : Nat) (Option.some Jvm.ClassFile.FieldType.int)) ∈ lw_all := lw_g (lw_at lw_m5 113 rfl) rfl
theorem q1137 : (Jvm.Cond.methodLink "MustardMill$Mill" (176 : Nat) ({ cls := "MustardMill$Shelf", name := "get", desc := "(I)LMustardMill$Thing;" } : Jvm.MethodName)) ∈ lw_all := lw_g (lw_at lw_m5 114 rfl) rfl
theorem q1156 : (Jvm.Cond.constantLong "MustardMill$Mill" (115 : Nat) (20 : Int64)) ∈ lw_all := lw_g (lw_at lw_m5 133 rfl) rfl
theorem q1178 : (Jvm.Cond.methodLink "MustardMill$Mill" (184 : Nat) ({ cls := "MustardMill$Batch", name := "state", desc := "()I" } : Jvm.MethodName)) ∈ lw_all := lw_g (lw_at lw_m5 155 rfl) rfl
theorem q1182 : (Jvm.Cond.methodLink "MustardMill$Mill" (190 : Nat) ({ cls := "MustardMill$Batch", name := "become", desc := "(I)V" } : Jvm.MethodName)) ∈ lw_all := lw_g (lw_at lw_m5 159 rfl) rfl
theorem q1188 : (Jvm.Cond.methodLink "MustardMill$Mill" (193 : Nat) ({ cls := "MustardMill$Batch", name := "ripeDays", desc := "()I" } : Jvm.MethodName)) ∈ lw_all := lw_g (lw_at lw_m5 165 rfl) rfl
theorem q1193 : (Jvm.Cond.instanceMethod ({ cls := "MustardMill$Mill", name := "fill", desc := "(II)I" } : Jvm.MethodName)) ∈ lw_all := lw_g (lw_at lw_m5 170 rfl) rfl
theorem q1194 : (Jvm.Cond.selects "MustardMill$Mill" ({ cls := "MustardMill$Mill", name := "fill", desc := "(II)I" } : Jvm.MethodName) ({ cls := "MustardMill$Mill", name := "fill", desc := "(II)I" } : Jvm.MethodName)) ∈ lw_all := lw_g (lw_at lw_m5 171 rfl) rfl
theorem q1195 : (Jvm.Cond.code ({ cls := "MustardMill$Mill", name := "fill", desc := "(II)I" } : Jvm.MethodName) prog_6_method_12_code (6 : Nat) (Option.some Jvm.ClassFile.FieldType.int)) ∈ lw_all := lw_g (lw_at lw_m5 172 rfl) rfl
theorem q1196 : (Jvm.Cond.constantLong "MustardMill$Mill" (196 : Nat) (6 : Int64)) ∈ lw_all := lw_g (lw_at lw_m5 173 rfl) rfl
theorem q1198 : (Jvm.Cond.methodLink "MustardMill$Mill" (201 : Nat) ({ cls := "MustardMill$Jar", name := "<init>", desc := "(ILMustardMill$Batch;)V" } : Jvm.MethodName)) ∈ lw_all := lw_g (lw_at lw_m5 175 rfl) rfl
theorem q1220 : (Jvm.Cond.fieldLinkNest "MustardMill$Mill" (247 : Nat) "MustardMill$Jar" "rested" "I" "MustardMill") ∈ lw_tbl := lw_at lw_m5 197 rfl
theorem q1236 : (Jvm.Cond.instanceMethod ({ cls := "MustardMill$Mill", name := "open", desc := "(I)I" } : Jvm.MethodName)) ∈ lw_all := lw_g (lw_at lw_m5 213 rfl) rfl
theorem q1237 : (Jvm.Cond.selects "MustardMill$Mill" ({ cls := "MustardMill$Mill", name := "open", desc := "(I)I" } : Jvm.MethodName) ({ cls := "MustardMill$Mill", name := "open", desc := "(I)I" } : Jvm.MethodName)) ∈ lw_all := lw_g (lw_at lw_m5 214 rfl) rfl
theorem q1238 : (Jvm.Cond.code ({ cls := "MustardMill$Mill", name := "open", desc := "(I)I" } : Jvm.MethodName) prog_6_method_14_code (3 : Nat) (Option.some Jvm.ClassFile.FieldType.int)) ∈ lw_all := lw_g (lw_at lw_m5 215 rfl) rfl
theorem q1239 : (Jvm.Cond.methodLink "MustardMill$Mill" (208 : Nat) ({ cls := "MustardMill$Mill", name := "resting", desc := "(I)LMustardMill$Jar;" } : Jvm.MethodName)) ∈ lw_all := lw_g (lw_at lw_m5 216 rfl) rfl
theorem q1240 : (Jvm.Cond.privateMethod ({ cls := "MustardMill$Mill", name := "resting", desc := "(I)LMustardMill$Jar;" } : Jvm.MethodName)) ∈ lw_tbl := lw_at lw_m5 217 rfl
theorem q1241 : (Jvm.Cond.instanceMethod ({ cls := "MustardMill$Mill", name := "resting", desc := "(I)LMustardMill$Jar;" } : Jvm.MethodName)) ∈ lw_all := lw_g (lw_at lw_m5 218 rfl) rfl
theorem q1242 : (Jvm.Cond.code ({ cls := "MustardMill$Mill", name := "resting", desc := "(I)LMustardMill$Jar;" } : Jvm.MethodName) prog_6_method_13_code (3 : Nat) (Option.some (Jvm.ClassFile.FieldType.object "MustardMill$Jar"))) ∈ lw_all := lw_g (lw_at lw_m5 219 rfl) rfl
theorem q1244 : (Jvm.Cond.methodLink "MustardMill$Mill" (207 : Nat) ({ cls := "MustardMill$Jar", name := "state", desc := "()I" } : Jvm.MethodName)) ∈ lw_all := lw_g (lw_at lw_m5 221 rfl) rfl
theorem q1247 : (Jvm.Cond.methodLink "MustardMill$Mill" (212 : Nat) ({ cls := "MustardMill$Jar", name := "become", desc := "(I)V" } : Jvm.MethodName)) ∈ lw_all := lw_g (lw_at lw_m5 224 rfl) rfl
theorem q1250 : (Jvm.Cond.methodLink "MustardMill$Mill" (213 : Nat) ({ cls := "MustardMill$Jar", name := "tear", desc := "()I" } : Jvm.MethodName)) ∈ lw_all := lw_g (lw_at lw_m5 227 rfl) rfl
theorem q1301 : (Jvm.Cond.instanceMethod ({ cls := "MustardMill$Mill", name := "sell", desc := "(I)I" } : Jvm.MethodName)) ∈ lw_all := lw_g (lw_at lw_m6 38 rfl) rfl
theorem q1302 : (Jvm.Cond.selects "MustardMill$Mill" ({ cls := "MustardMill$Mill", name := "sell", desc := "(I)I" } : Jvm.MethodName) ({ cls := "MustardMill$Mill", name := "sell", desc := "(I)I" } : Jvm.MethodName)) ∈ lw_all := lw_g (lw_at lw_m6 39 rfl) rfl
theorem q1303 : (Jvm.Cond.code ({ cls := "MustardMill$Mill", name := "sell", desc := "(I)I" } : Jvm.MethodName) prog_6_method_16_code (3 : Nat) (Option.some Jvm.ClassFile.FieldType.int)) ∈ lw_all := lw_g (lw_at lw_m6 40 rfl) rfl
theorem q1304 : (Jvm.Cond.methodLink "MustardMill$Mill" (218 : Nat) ({ cls := "MustardMill$Jar", name := "isRipe", desc := "()Z" } : Jvm.MethodName)) ∈ lw_all := lw_g (lw_at lw_m6 41 rfl) rfl
theorem q1308 : (Jvm.Cond.methodLink "MustardMill$Mill" (221 : Nat) ({ cls := "MustardMill$Jar", name := "missing", desc := "()I" } : Jvm.MethodName)) ∈ lw_all := lw_g (lw_at lw_m6 45 rfl) rfl
theorem q1312 : (Jvm.Cond.methodLink "MustardMill$Mill" (224 : Nat) ({ cls := "MustardMill$Mill", name := "sold", desc := "(LMustardMill$Jar;I)I" } : Jvm.MethodName)) ∈ lw_all := lw_g (lw_at lw_m6 49 rfl) rfl
theorem q1313 : (Jvm.Cond.privateMethod ({ cls := "MustardMill$Mill", name := "sold", desc := "(LMustardMill$Jar;I)I" } : Jvm.MethodName)) ∈ lw_tbl := lw_at lw_m6 50 rfl
theorem q1314 : (Jvm.Cond.instanceMethod ({ cls := "MustardMill$Mill", name := "sold", desc := "(LMustardMill$Jar;I)I" } : Jvm.MethodName)) ∈ lw_all := lw_g (lw_at lw_m6 51 rfl) rfl
theorem q1315 : (Jvm.Cond.code ({ cls := "MustardMill$Mill", name := "sold", desc := "(LMustardMill$Jar;I)I" } : Jvm.MethodName) prog_6_method_15_code (3 : Nat) (Option.some Jvm.ClassFile.FieldType.int)) ∈ lw_all := lw_g (lw_at lw_m6 52 rfl) rfl
theorem q1316 : (Jvm.Cond.methodLink "MustardMill$Mill" (216 : Nat) ({ cls := "MustardMill$Mill", name := "get", desc := "(I)V" } : Jvm.MethodName)) ∈ lw_all := lw_g (lw_at lw_m6 53 rfl) rfl
theorem q1317 : (Jvm.Cond.privateMethod ({ cls := "MustardMill$Mill", name := "get", desc := "(I)V" } : Jvm.MethodName)) ∈ lw_tbl := lw_at lw_m6 54 rfl
theorem q1318 : (Jvm.Cond.instanceMethod ({ cls := "MustardMill$Mill", name := "get", desc := "(I)V" } : Jvm.MethodName)) ∈ lw_all := lw_g (lw_at lw_m6 55 rfl) rfl
theorem q1319 : (Jvm.Cond.code ({ cls := "MustardMill$Mill", name := "get", desc := "(I)V" } : Jvm.MethodName) prog_6_method_4_code (2 : Nat) (Option.none : Option Jvm.ClassFile.FieldType)) ∈ lw_all := lw_g (lw_at lw_m6 56 rfl) rfl
theorem q1320 : (Jvm.Cond.methodLink "MustardMill$Mill" (103 : Nat) ({ cls := "java/lang/Math", name := "min", desc := "(II)I" } : Jvm.MethodName)) ∈ lw_all := lw_g (lw_at lw_m6 57 rfl) rfl
theorem q1322 : (Jvm.Cond.instanceMethod ({ cls := "MustardMill$Mill", name := "serve", desc := "(I)I" } : Jvm.MethodName)) ∈ lw_all := lw_g (lw_at lw_m6 59 rfl) rfl
theorem q1323 : (Jvm.Cond.selects "MustardMill$Mill" ({ cls := "MustardMill$Mill", name := "serve", desc := "(I)I" } : Jvm.MethodName) ({ cls := "MustardMill$Mill", name := "serve", desc := "(I)I" } : Jvm.MethodName)) ∈ lw_all := lw_g (lw_at lw_m6 60 rfl) rfl
theorem q1324 : (Jvm.Cond.code ({ cls := "MustardMill$Mill", name := "serve", desc := "(I)I" } : Jvm.MethodName) prog_6_method_22_code (5 : Nat) (Option.some Jvm.ClassFile.FieldType.int)) ∈ lw_all := lw_g (lw_at lw_m6 61 rfl) rfl
theorem q1326 : (Jvm.Cond.methodLink "MustardMill$Mill" (251 : Nat) ({ cls := "MustardMill$Mill", name := "jarFor", desc := "(LMustardMill$Wish;)LMustardMill$Jar;" } : Jvm.MethodName)) ∈ lw_all := lw_g (lw_at lw_m6 63 rfl) rfl
theorem q1327 : (Jvm.Cond.instanceMethod ({ cls := "MustardMill$Mill", name := "jarFor", desc := "(LMustardMill$Wish;)LMustardMill$Jar;" } : Jvm.MethodName)) ∈ lw_all := lw_g (lw_at lw_m6 64 rfl) rfl
theorem q1328 : (Jvm.Cond.selects "MustardMill$Mill" ({ cls := "MustardMill$Mill", name := "jarFor", desc := "(LMustardMill$Wish;)LMustardMill$Jar;" } : Jvm.MethodName) ({ cls := "MustardMill$Mill", name := "jarFor", desc := "(LMustardMill$Wish;)LMustardMill$Jar;" } : Jvm.MethodName)) ∈ lw_all := lw_g (lw_at lw_m6 65 rfl) rfl
theorem q1329 : (Jvm.Cond.code ({ cls := "MustardMill$Mill", name := "jarFor", desc := "(LMustardMill$Wish;)LMustardMill$Jar;" } : Jvm.MethodName) prog_6_method_21_code (5 : Nat) (Option.some (Jvm.ClassFile.FieldType.object "MustardMill$Jar"))) ∈ lw_all := lw_g (lw_at lw_m6 66 rfl) rfl
theorem q1330 : (Jvm.Cond.methodLink "MustardMill$Mill" (243 : Nat) ({ cls := "MustardMill$Wish", name := "suits", desc := "(LMustardMill$Jar;)Z" } : Jvm.MethodName)) ∈ lw_all := lw_g (lw_at lw_m6 67 rfl) rfl
theorem q1337 : (Jvm.Cond.methodLink "MustardMill$Mill" (255 : Nat) ({ cls := "MustardMill$Numbered", name := "count", desc := "(Ljava/lang/Iterable;I)I" } : Jvm.MethodName)) ∈ lw_all := lw_g (lw_at lw_m6 74 rfl) rfl
theorem q1392 : (Jvm.Cond.methodLink "MustardMill$Mill" (261 : Nat) ({ cls := "MustardMill$Wish", name := "become", desc := "(I)V" } : Jvm.MethodName)) ∈ lw_all := lw_g (lw_at lw_m6 129 rfl) rfl
theorem q1395 : (Jvm.Cond.methodLink "MustardMill$Mill" (262 : Nat) ({ cls := "MustardMill$Jar", name := "number", desc := "()I" } : Jvm.MethodName)) ∈ lw_all := lw_g (lw_at lw_m6 132 rfl) rfl
theorem q1399 : (Jvm.Cond.instanceMethod ({ cls := "MustardMill$Mill", name := "rest", desc := "(I)I" } : Jvm.MethodName)) ∈ lw_all := lw_g (lw_at lw_m6 136 rfl) rfl
theorem q1400 : (Jvm.Cond.selects "MustardMill$Mill" ({ cls := "MustardMill$Mill", name := "rest", desc := "(I)I" } : Jvm.MethodName) ({ cls := "MustardMill$Mill", name := "rest", desc := "(I)I" } : Jvm.MethodName)) ∈ lw_all := lw_g (lw_at lw_m6 137 rfl) rfl
theorem q1401 : (Jvm.Cond.code ({ cls := "MustardMill$Mill", name := "rest", desc := "(I)I" } : Jvm.MethodName) prog_6_method_24_code (4 : Nat) (Option.some Jvm.ClassFile.FieldType.int)) ∈ lw_all := lw_g (lw_at lw_m6 138 rfl) rfl
theorem q1402 : (Jvm.Cond.constantLong "MustardMill$Mill" (274 : Nat) (40 : Int64)) ∈ lw_all := lw_g (lw_at lw_m6 139 rfl) rfl
theorem q1403 : (Jvm.Cond.methodLink "MustardMill$Mill" (276 : Nat) ({ cls := "MustardMill$Mill", name := "dayGoes", desc := "()I" } : Jvm.MethodName)) ∈ lw_all := lw_g (lw_at lw_m6 140 rfl) rfl
theorem q1404 : (Jvm.Cond.privateMethod ({ cls := "MustardMill$Mill", name := "dayGoes", desc := "()I" } : Jvm.MethodName)) ∈ lw_tbl := lw_at lw_m6 141 rfl
theorem q1405 : (Jvm.Cond.instanceMethod ({ cls := "MustardMill$Mill", name := "dayGoes", desc := "()I" } : Jvm.MethodName)) ∈ lw_all := lw_g (lw_at lw_m6 142 rfl) rfl
theorem q1406 : (Jvm.Cond.code ({ cls := "MustardMill$Mill", name := "dayGoes", desc := "()I" } : Jvm.MethodName) prog_6_method_23_code (6 : Nat) (Option.some Jvm.ClassFile.FieldType.int)) ∈ lw_all := lw_g (lw_at lw_m6 143 rfl) rfl
theorem q1407 : (Jvm.Cond.methodLink "MustardMill$Mill" (268 : Nat) ({ cls := "java/lang/Math", name := "max", desc := "(II)I" } : Jvm.MethodName)) ∈ lw_all := lw_g (lw_at lw_m6 144 rfl) rfl
theorem q1408 : (Jvm.Cond.methodLink "MustardMill$Mill" (271 : Nat) ({ cls := "MustardMill$Jar", name := "rests", desc := "()Z" } : Jvm.MethodName)) ∈ lw_all := lw_g (lw_at lw_m6 145 rfl) rfl
theorem q1414 : (Jvm.Cond.instanceMethod ({ cls := "MustardMill$Mill", name := "buy", desc := "(II)I" } : Jvm.MethodName)) ∈ lw_all := lw_g (lw_at lw_m6 151 rfl) rfl
theorem q1415 : (Jvm.Cond.selects "MustardMill$Mill" ({ cls := "MustardMill$Mill", name := "buy", desc := "(II)I" } : Jvm.MethodName) ({ cls := "MustardMill$Mill", name := "buy", desc := "(II)I" } : Jvm.MethodName)) ∈ lw_all := lw_g (lw_at lw_m6 152 rfl) rfl
theorem q1416 : (Jvm.Cond.code ({ cls := "MustardMill$Mill", name := "buy", desc := "(II)I" } : Jvm.MethodName) prog_6_method_5_code (5 : Nat) (Option.some Jvm.ClassFile.FieldType.int)) ∈ lw_all := lw_g (lw_at lw_m6 153 rfl) rfl
theorem q1417 : (Jvm.Cond.constantLong "MustardMill$Mill" (109 : Nat) (4 : Int64)) ∈ lw_all := lw_g (lw_at lw_m6 154 rfl) rfl
theorem q1418 : (Jvm.Cond.fieldLink "MustardMill$Mill" (121 : Nat) "MustardMill$Mill" "BOUGHT" "[I") ∈ lw_all := lw_g (lw_at lw_m6 155 rfl) rfl
theorem q1419 : (Jvm.Cond.laysStatic "MustardMill$Mill" "BOUGHT" "[I") ∈ lw_tbl := lw_at lw_m6 156 rfl
theorem q1420 : (Jvm.Cond.fieldLink "MustardMill$Mill" (124 : Nat) "MustardMill$Mill" "PRICES" "[I") ∈ lw_all := lw_g (lw_at lw_m6 157 rfl) rfl
theorem q1421 : (Jvm.Cond.laysStatic "MustardMill$Mill" "PRICES" "[I") ∈ lw_tbl := lw_at lw_m6 158 rfl
theorem q1423 : (Jvm.Cond.instanceMethod ({ cls := "MustardMill$Mill", name := "order", desc := "(II)I" } : Jvm.MethodName)) ∈ lw_all := lw_g (lw_at lw_m6 160 rfl) rfl
theorem q1424 : (Jvm.Cond.selects "MustardMill$Mill" ({ cls := "MustardMill$Mill", name := "order", desc := "(II)I" } : Jvm.MethodName) ({ cls := "MustardMill$Mill", name := "order", desc := "(II)I" } : Jvm.MethodName)) ∈ lw_all := lw_g (lw_at lw_m6 161 rfl) rfl
theorem q1425 : (Jvm.Cond.code ({ cls := "MustardMill$Mill", name := "order", desc := "(II)I" } : Jvm.MethodName) prog_6_method_20_code (3 : Nat) (Option.some Jvm.ClassFile.FieldType.int)) ∈ lw_all := lw_g (lw_at lw_m6 162 rfl) rfl
theorem q1427 : (Jvm.Cond.methodLink "MustardMill$Mill" (240 : Nat) ({ cls := "MustardMill$Wish", name := "<init>", desc := "(III)V" } : Jvm.MethodName)) ∈ lw_all := lw_g (lw_at lw_m6 164 rfl) rfl
theorem q1436 : (Jvm.Cond.fieldLinkNest "MustardMill$Mill" (265 : Nat) "MustardMill$Wish" "jar" "I" "MustardMill") ∈ lw_tbl := lw_at lw_m6 173 rfl
theorem q1447 : (Jvm.Cond.instanceMethod ({ cls := "MustardMill$Mill", name := "takeTray", desc := "(I)I" } : Jvm.MethodName)) ∈ lw_all := lw_g (lw_at lw_m6 184 rfl) rfl
theorem q1448 : (Jvm.Cond.selects "MustardMill$Mill" ({ cls := "MustardMill$Mill", name := "takeTray", desc := "(I)I" } : Jvm.MethodName) ({ cls := "MustardMill$Mill", name := "takeTray", desc := "(I)I" } : Jvm.MethodName)) ∈ lw_all := lw_g (lw_at lw_m6 185 rfl) rfl
theorem q1449 : (Jvm.Cond.code ({ cls := "MustardMill$Mill", name := "takeTray", desc := "(I)I" } : Jvm.MethodName) prog_6_method_27_code (3 : Nat) (Option.some Jvm.ClassFile.FieldType.int)) ∈ lw_all := lw_g (lw_at lw_m6 186 rfl) rfl
theorem q1450 : (Jvm.Cond.methodLink "MustardMill$Mill" (283 : Nat) ({ cls := "MustardMill$Mill", name := "onTray", desc := "([LMustardMill$Thing;)I" } : Jvm.MethodName)) ∈ lw_all := lw_g (lw_at lw_m6 187 rfl) rfl
theorem q1451 : (Jvm.Cond.static ({ cls := "MustardMill$Mill", name := "onTray", desc := "([LMustardMill$Thing;)I" } : Jvm.MethodName)) ∈ lw_all := lw_g (lw_at lw_m6 188 rfl) rfl
theorem q1452 : (Jvm.Cond.code ({ cls := "MustardMill$Mill", name := "onTray", desc := "([LMustardMill$Thing;)I" } : Jvm.MethodName) prog_6_method_26_code (3 : Nat) (Option.some Jvm.ClassFile.FieldType.int)) ∈ lw_all := lw_g (lw_at lw_m6 189 rfl) rfl
theorem q1456 : (Jvm.Cond.instanceMethod ({ cls := "MustardMill$Mill", name := "lay", desc := "(III)I" } : Jvm.MethodName)) ∈ lw_all := lw_g (lw_at lw_m6 193 rfl) rfl
theorem q1457 : (Jvm.Cond.selects "MustardMill$Mill" ({ cls := "MustardMill$Mill", name := "lay", desc := "(III)I" } : Jvm.MethodName) ({ cls := "MustardMill$Mill", name := "lay", desc := "(III)I" } : Jvm.MethodName)) ∈ lw_all := lw_g (lw_at lw_m6 194 rfl) rfl
theorem q1458 : (Jvm.Cond.codeWith ({ cls := "MustardMill$Mill", name := "lay", desc := "(III)I" } : Jvm.MethodName) prog_6_method_30_code (7 : Nat) (Option.some Jvm.ClassFile.FieldType.int) [((136 : Nat), (144 : Nat), (147 : Nat), (294 : Nat))]) ∈ lw_all := lw_g (lw_at lw_m6 195 rfl) rfl
theorem q1459 : (Jvm.Cond.classLink "MustardMill$Mill" (294 : Nat) "java/lang/ArrayStoreException") ∈ lw_all := lw_g (lw_at lw_m6 196 rfl) rfl
theorem q1473 : (Jvm.Cond.constantLong "MustardMill$Mill" (292 : Nat) (3 : Int64)) ∈ lw_all := lw_g (lw_at lw_m6 210 rfl) rfl
theorem q1474 : (Jvm.Cond.classLink "MustardMill$Mill" (98 : Nat) "MustardMill$Refused") ∈ lw_all := lw_g (lw_at lw_m6 211 rfl) rfl
theorem q1475 : (Jvm.Cond.methodLink "MustardMill$Mill" (296 : Nat) ({ cls := "MustardMill$Mill", name := "trayKind", desc := "()I" } : Jvm.MethodName)) ∈ lw_all := lw_g (lw_at lw_m6 212 rfl) rfl
theorem q1476 : (Jvm.Cond.privateMethod ({ cls := "MustardMill$Mill", name := "trayKind", desc := "()I" } : Jvm.MethodName)) ∈ lw_tbl := lw_at lw_m6 213 rfl
theorem q1477 : (Jvm.Cond.instanceMethod ({ cls := "MustardMill$Mill", name := "trayKind", desc := "()I" } : Jvm.MethodName)) ∈ lw_all := lw_g (lw_at lw_m6 214 rfl) rfl
theorem q1478 : (Jvm.Cond.code ({ cls := "MustardMill$Mill", name := "trayKind", desc := "()I" } : Jvm.MethodName) prog_6_method_28_code (1 : Nat) (Option.some Jvm.ClassFile.FieldType.int)) ∈ lw_all := lw_g (lw_at lw_m6 215 rfl) rfl
theorem q1479 : (Jvm.Cond.classLink "MustardMill$Mill" (287 : Nat) "[LMustardMill$Batch;") ∈ lw_all := lw_g (lw_at lw_m6 216 rfl) rfl
theorem q1480 : (Jvm.Cond.methodLink "MustardMill$Mill" (299 : Nat) ({ cls := "MustardMill$Refused", name := "<init>", desc := "(II)V" } : Jvm.MethodName)) ∈ lw_all := lw_g (lw_at lw_m6 217 rfl) rfl
theorem q1481 : (Jvm.Cond.methodLink "MustardMill$Mill" (302 : Nat) ({ cls := "MustardMill$Mill", name := "checkNotOnTray", desc := "(I)V" } : Jvm.MethodName)) ∈ lw_all := lw_g (lw_at lw_m6 218 rfl) rfl
theorem q1482 : (Jvm.Cond.privateMethod ({ cls := "MustardMill$Mill", name := "checkNotOnTray", desc := "(I)V" } : Jvm.MethodName)) ∈ lw_tbl := lw_at lw_m6 219 rfl
theorem q1483 : (Jvm.Cond.instanceMethod ({ cls := "MustardMill$Mill", name := "checkNotOnTray", desc := "(I)V" } : Jvm.MethodName)) ∈ lw_all := lw_g (lw_at lw_m6 220 rfl) rfl
theorem q1484 : (Jvm.Cond.code ({ cls := "MustardMill$Mill", name := "checkNotOnTray", desc := "(I)V" } : Jvm.MethodName) prog_6_method_29_code (3 : Nat) (Option.none : Option Jvm.ClassFile.FieldType)) ∈ lw_all := lw_g (lw_at lw_m6 221 rfl) rfl
theorem q1485 : (Jvm.Cond.methodLink "MustardMill$Mill" (289 : Nat) ({ cls := "MustardMill$Thing", name := "number", desc := "()I" } : Jvm.MethodName)) ∈ lw_all := lw_g (lw_at lw_m6 222 rfl) rfl
theorem q1593 : (Jvm.Cond.instanceMethod ({ cls := "MustardMill$Mill", name := "biteOf", desc := "(I[I)I" } : Jvm.MethodName)) ∈ lw_all := lw_g (lw_at lw_m7 90 rfl) rfl
theorem q1594 : (Jvm.Cond.selects "MustardMill$Mill" ({ cls := "MustardMill$Mill", name := "biteOf", desc := "(I[I)I" } : Jvm.MethodName) ({ cls := "MustardMill$Mill", name := "biteOf", desc := "(I[I)I" } : Jvm.MethodName)) ∈ lw_all := lw_g (lw_at lw_m7 91 rfl) rfl
theorem q1595 : (Jvm.Cond.code ({ cls := "MustardMill$Mill", name := "biteOf", desc := "(I[I)I" } : Jvm.MethodName) prog_6_method_9_code (4 : Nat) (Option.some Jvm.ClassFile.FieldType.int)) ∈ lw_all := lw_g (lw_at lw_m7 92 rfl) rfl
theorem q1679 : (Jvm.Cond.instanceMethod ({ cls := "MustardMill$Mill", name := "strongest", desc := "(I)LMustardMill$Jar;" } : Jvm.MethodName)) ∈ lw_all := lw_g (lw_at lw_m7 176 rfl) rfl
theorem q1680 : (Jvm.Cond.selects "MustardMill$Mill" ({ cls := "MustardMill$Mill", name := "strongest", desc := "(I)LMustardMill$Jar;" } : Jvm.MethodName) ({ cls := "MustardMill$Mill", name := "strongest", desc := "(I)LMustardMill$Jar;" } : Jvm.MethodName)) ∈ lw_all := lw_g (lw_at lw_m7 177 rfl) rfl
theorem q1681 : (Jvm.Cond.code ({ cls := "MustardMill$Mill", name := "strongest", desc := "(I)LMustardMill$Jar;" } : Jvm.MethodName) prog_6_method_17_code (6 : Nat) (Option.some (Jvm.ClassFile.FieldType.object "MustardMill$Jar"))) ∈ lw_all := lw_g (lw_at lw_m7 178 rfl) rfl
theorem q1682 : (Jvm.Cond.classLink "MustardMill$Mill" (228 : Nat) "java/util/ArrayList") ∈ lw_all := lw_g (lw_at lw_m7 179 rfl) rfl
theorem q1683 : (Jvm.Cond.methodLink "MustardMill$Mill" (230 : Nat) ({ cls := "java/util/ArrayList", name := "<init>", desc := "()V" } : Jvm.MethodName)) ∈ lw_all := lw_g (lw_at lw_m7 180 rfl) rfl
theorem q1684 : (Jvm.Cond.methodLink "MustardMill$Mill" (231 : Nat) ({ cls := "java/util/ArrayList", name := "add", desc := "(Ljava/lang/Object;)Z" } : Jvm.MethodName)) ∈ lw_all := lw_g (lw_at lw_m7 181 rfl) rfl
theorem q1685 : (Jvm.Cond.methodLink "MustardMill$Mill" (234 : Nat) ({ cls := "MustardMill$Ranked", name := "at", desc := "(ILjava/util/ArrayList;)LMustardMill$Ranked;" } : Jvm.MethodName)) ∈ lw_all := lw_g (lw_at lw_m7 182 rfl) rfl
theorem q1754 : (Jvm.Cond.instanceMethod ({ cls := "MustardMill$Mill", name := "servedIn", desc := "(LMustardMill$Wish;)I" } : Jvm.MethodName)) ∈ lw_all := lw_g (lw_at lw_m8 11 rfl) rfl
theorem q1755 : (Jvm.Cond.selects "MustardMill$Mill" ({ cls := "MustardMill$Mill", name := "servedIn", desc := "(LMustardMill$Wish;)I" } : Jvm.MethodName) ({ cls := "MustardMill$Mill", name := "servedIn", desc := "(LMustardMill$Wish;)I" } : Jvm.MethodName)) ∈ lw_all := lw_g (lw_at lw_m8 12 rfl) rfl
theorem q1756 : (Jvm.Cond.code ({ cls := "MustardMill$Mill", name := "servedIn", desc := "(LMustardMill$Wish;)I" } : Jvm.MethodName) prog_6_method_25_code (5 : Nat) (Option.some Jvm.ClassFile.FieldType.int)) ∈ lw_all := lw_g (lw_at lw_m8 13 rfl) rfl
theorem q1757 : (Jvm.Cond.methodLink "MustardMill$Mill" (279 : Nat) ({ cls := "MustardMill$Mill", name := "copy", desc := "()LMustardMill$Mill;" } : Jvm.MethodName)) ∈ lw_all := lw_g (lw_at lw_m8 14 rfl) rfl
theorem q1841 : (Jvm.Cond.instanceMethod ({ cls := "MustardMill$Mill", name := "ripe", desc := "()I" } : Jvm.MethodName)) ∈ lw_all := lw_g (lw_at lw_m8 98 rfl) rfl
theorem q1842 : (Jvm.Cond.selects "MustardMill$Mill" ({ cls := "MustardMill$Mill", name := "ripe", desc := "()I" } : Jvm.MethodName) ({ cls := "MustardMill$Mill", name := "ripe", desc := "()I" } : Jvm.MethodName)) ∈ lw_all := lw_g (lw_at lw_m8 99 rfl) rfl
theorem q1843 : (Jvm.Cond.code ({ cls := "MustardMill$Mill", name := "ripe", desc := "()I" } : Jvm.MethodName) prog_6_method_18_code (4 : Nat) (Option.some Jvm.ClassFile.FieldType.int)) ∈ lw_all := lw_g (lw_at lw_m8 100 rfl) rfl
theorem q1875 : (Jvm.Cond.instanceMethod ({ cls := "MustardMill$Mill", name := "tearsSold", desc := "()I" } : Jvm.MethodName)) ∈ lw_all := lw_g (lw_at lw_m8 132 rfl) rfl
theorem q1876 : (Jvm.Cond.selects "MustardMill$Mill" ({ cls := "MustardMill$Mill", name := "tearsSold", desc := "()I" } : Jvm.MethodName) ({ cls := "MustardMill$Mill", name := "tearsSold", desc := "()I" } : Jvm.MethodName)) ∈ lw_all := lw_g (lw_at lw_m8 133 rfl) rfl
theorem q1877 : (Jvm.Cond.code ({ cls := "MustardMill$Mill", name := "tearsSold", desc := "()I" } : Jvm.MethodName) prog_6_method_19_code (4 : Nat) (Option.some Jvm.ClassFile.FieldType.int)) ∈ lw_all := lw_g (lw_at lw_m8 134 rfl) rfl
theorem q2537 : (Jvm.Cond.castable "MustardMill$Mill" "java/lang/Object") ∈ lw_tbl := lw_at lw_m11 74 rfl
theorem in_X2 : ∀ w ∈ wsX20, w ∈ lw_all := lw_in wsX20 [219, 221, 223, 225, 227, 229, 231, 233, 235] (by decide +kernel) (by decide +kernel)
/-! MustardMill$Quern -/
set_option maxRecDepth 100000
def RX3 : String := "MustardMill$Quern"
def TX3 : u_T := fun k => match k with
  | 0 => ("MustardMill$Quern", "number", "I", true)
  | 1 => ("MustardMill$Quern", "dress", "I", false)
  | 2 => ("MustardMill$Quern", "heat", "I", false)
  | _ => ("MustardMill$Quern", "grams", "I", false)
def tyX3 : Nat → FieldType := fun k => match k with
  | 0 => .int
  | 1 => .int
  | 2 => .int
  | _ => .int
abbrev wsX30 : List Cond := u_ws RX3 TX3 4
theorem nmX3 : ∀ a, a < 4 → ∀ b, b < 4 → a ≠ b → (TX3 a).2.1 ≠ (TX3 b).2.1 := by decide +kernel
theorem tyX3_ok : ∀ k, k < 4 → parseFieldDescriptor (TX3 k).2.2.1 = some (tyX3 k) := by decide +kernel
abbrev cX3_init : ByteArray := prog_9_method_1_code
def yX3_init : MethodName := ⟨RX3, "<init>", "(I)V"⟩
def dkwX3_init_0 : List UInt8 := [42, 183, 0, 3, 42, 16, 9, 181, 0, 9, 42, 27, 181, 0, 15, 177]
abbrev dktX3_init_0 : List UInt8 := dkwX3_init_0 ++ []
theorem dksX3_init_0 : cX3_init.data.toList.drop 0 = dktX3_init_0 := by decide +kernel
theorem dX3_init_0 : decode cX3_init 0 = .ok (.aload_n 0, 1) := dk_42 (dk_at dksX3_init_0 0 rfl rfl)
theorem dX3_init_1 : decode cX3_init 1 = .ok (.invokespecial 3, 3) := dk_183 0 3 (dk_at dksX3_init_0 1 rfl rfl)
theorem dX3_init_4 : decode cX3_init 4 = .ok (.aload_n 0, 1) := dk_42 (dk_at dksX3_init_0 4 rfl rfl)
theorem dX3_init_5 : decode cX3_init 5 = .ok (.bipush 9, 2) := dk_16 9 (dk_at dksX3_init_0 5 rfl rfl)
theorem dX3_init_7 : decode cX3_init 7 = .ok (.putfield 9, 3) := dk_181 0 9 (dk_at dksX3_init_0 7 rfl rfl)
theorem dX3_init_10 : decode cX3_init 10 = .ok (.aload_n 0, 1) := dk_42 (dk_at dksX3_init_0 10 rfl rfl)
theorem dX3_init_11 : decode cX3_init 11 = .ok (.iload_n 1, 1) := dk_27 (dk_at dksX3_init_0 11 rfl rfl)
theorem dX3_init_12 : decode cX3_init 12 = .ok (.putfield 15, 3) := dk_181 0 15 (dk_at dksX3_init_0 12 rfl rfl)
theorem dX3_init_15 : decode cX3_init 15 = .ok (.return_, 1) := dk_177 (dk_at dksX3_init_0 15 rfl rfl)
abbrev cX3_clone : ByteArray := prog_9_method_2_code
def yX3_clone : MethodName := ⟨RX3, "clone", "()LMustardMill$Quern;"⟩
def dkwX3_clone_0 : List UInt8 := [42, 183, 0, 18, 192, 0, 10, 176, 76, 187, 0, 24, 89, 183, 0, 26, 191]
abbrev dktX3_clone_0 : List UInt8 := dkwX3_clone_0 ++ []
theorem dksX3_clone_0 : cX3_clone.data.toList.drop 0 = dktX3_clone_0 := by decide +kernel
theorem dX3_clone_0 : decode cX3_clone 0 = .ok (.aload_n 0, 1) := dk_42 (dk_at dksX3_clone_0 0 rfl rfl)
theorem dX3_clone_1 : decode cX3_clone 1 = .ok (.invokespecial 18, 3) := dk_183 0 18 (dk_at dksX3_clone_0 1 rfl rfl)
theorem dX3_clone_4 : decode cX3_clone 4 = .ok (.checkcast 10, 3) := dk_192 0 10 (dk_at dksX3_clone_0 4 rfl rfl)
theorem dX3_clone_7 : decode cX3_clone 7 = .ok (.areturn, 1) := dk_176 (dk_at dksX3_clone_0 7 rfl rfl)
theorem dX3_clone_8 : decode cX3_clone 8 = .ok (.astore_n 1, 1) := dk_76 (dk_at dksX3_clone_0 8 rfl rfl)
theorem dX3_clone_9 : decode cX3_clone 9 = .ok (.new 24, 3) := dk_187 0 24 (dk_at dksX3_clone_0 9 rfl rfl)
theorem dX3_clone_12 : decode cX3_clone 12 = .ok (.dup, 1) := dk_89 (dk_at dksX3_clone_0 12 rfl rfl)
theorem dX3_clone_13 : decode cX3_clone 13 = .ok (.invokespecial 26, 3) := dk_183 0 26 (dk_at dksX3_clone_0 13 rfl rfl)
theorem dX3_clone_16 : decode cX3_clone 16 = .ok (.athrow, 1) := dk_191 (dk_at dksX3_clone_0 16 rfl rfl)
abbrev cX3_heatBehind : ByteArray := prog_9_method_3_code
def yX3_heatBehind : MethodName := ⟨RX3, "heatBehind", "(I)I"⟩
def dkwX3_heatBehind_0 : List UInt8 := [42, 180, 0, 27, 27, 16, 9, 96, 16, 10, 108, 96, 172]
abbrev dktX3_heatBehind_0 : List UInt8 := dkwX3_heatBehind_0 ++ []
theorem dksX3_heatBehind_0 : cX3_heatBehind.data.toList.drop 0 = dktX3_heatBehind_0 := by decide +kernel
theorem dX3_heatBehind_0 : decode cX3_heatBehind 0 = .ok (.aload_n 0, 1) := dk_42 (dk_at dksX3_heatBehind_0 0 rfl rfl)
theorem dX3_heatBehind_1 : decode cX3_heatBehind 1 = .ok (.getfield 27, 3) := dk_180 0 27 (dk_at dksX3_heatBehind_0 1 rfl rfl)
theorem dX3_heatBehind_4 : decode cX3_heatBehind 4 = .ok (.iload_n 1, 1) := dk_27 (dk_at dksX3_heatBehind_0 4 rfl rfl)
theorem dX3_heatBehind_5 : decode cX3_heatBehind 5 = .ok (.bipush 9, 2) := dk_16 9 (dk_at dksX3_heatBehind_0 5 rfl rfl)
theorem dX3_heatBehind_7 : decode cX3_heatBehind 7 = .ok (.iadd, 1) := dk_96 (dk_at dksX3_heatBehind_0 7 rfl rfl)
theorem dX3_heatBehind_8 : decode cX3_heatBehind 8 = .ok (.bipush 10, 2) := dk_16 10 (dk_at dksX3_heatBehind_0 8 rfl rfl)
theorem dX3_heatBehind_10 : decode cX3_heatBehind 10 = .ok (.idiv, 1) := dk_108 (dk_at dksX3_heatBehind_0 10 rfl rfl)
theorem dX3_heatBehind_11 : decode cX3_heatBehind 11 = .ok (.iadd, 1) := dk_96 (dk_at dksX3_heatBehind_0 11 rfl rfl)
theorem dX3_heatBehind_12 : decode cX3_heatBehind 12 = .ok (.ireturn, 1) := dk_172 (dk_at dksX3_heatBehind_0 12 rfl rfl)
theorem q66 : (Jvm.Cond.initialized "MustardMill$Quern") ∈ lw_all := lw_g (lw_at lw_m1 3 rfl) rfl
theorem q136 : (Jvm.Cond.instantiable "MustardMill$Quern" (4 : Nat)) ∈ lw_all := lw_g (lw_at lw_m1 73 rfl) rfl
theorem q138 : (Jvm.Cond.instanceMethod ({ cls := "MustardMill$Quern", name := "<init>", desc := "(I)V" } : Jvm.MethodName)) ∈ lw_all := lw_g (lw_at lw_m1 75 rfl) rfl
theorem q139 : (Jvm.Cond.code ({ cls := "MustardMill$Quern", name := "<init>", desc := "(I)V" } : Jvm.MethodName) prog_9_method_1_code (2 : Nat) (Option.none : Option Jvm.ClassFile.FieldType)) ∈ lw_all := lw_g (lw_at lw_m1 76 rfl) rfl
theorem q140 : (Jvm.Cond.methodLink "MustardMill$Quern" (3 : Nat) ({ cls := "java/lang/Object", name := "<init>", desc := "()V" } : Jvm.MethodName)) ∈ lw_all := lw_g (lw_at lw_m1 77 rfl) rfl
theorem q141 : (Jvm.Cond.fieldLink "MustardMill$Quern" (15 : Nat) "MustardMill$Quern" "number" "I") ∈ lw_all := lw_g (lw_at lw_m1 78 rfl) rfl
theorem q142 : (Jvm.Cond.fieldLink "MustardMill$Quern" (9 : Nat) "MustardMill$Quern" "dress" "I") ∈ lw_all := lw_g (lw_at lw_m1 79 rfl) rfl
theorem q145 : (Jvm.Cond.fieldLink "MustardMill$Quern" (27 : Nat) "MustardMill$Quern" "heat" "I") ∈ lw_all := lw_g (lw_at lw_m1 82 rfl) rfl
theorem q150 : (Jvm.Cond.laysFinal "MustardMill$Quern" "MustardMill$Quern" "number" "I") ∈ lw_all := lw_g (lw_at lw_m1 87 rfl) rfl
theorem q151 : (Jvm.Cond.soleField "MustardMill$Quern" "number") ∈ lw_all := lw_g (lw_at lw_m1 88 rfl) rfl
theorem q152 : (Jvm.Cond.lays "MustardMill$Quern" "MustardMill$Quern" "dress" "I") ∈ lw_all := lw_g (lw_at lw_m1 89 rfl) rfl
theorem q153 : (Jvm.Cond.soleField "MustardMill$Quern" "dress") ∈ lw_all := lw_g (lw_at lw_m1 90 rfl) rfl
theorem q154 : (Jvm.Cond.lays "MustardMill$Quern" "MustardMill$Quern" "heat" "I") ∈ lw_all := lw_g (lw_at lw_m1 91 rfl) rfl
theorem q155 : (Jvm.Cond.soleField "MustardMill$Quern" "heat") ∈ lw_all := lw_g (lw_at lw_m1 92 rfl) rfl
theorem q156 : (Jvm.Cond.lays "MustardMill$Quern" "MustardMill$Quern" "grams" "I") ∈ lw_all := lw_g (lw_at lw_m1 93 rfl) rfl
theorem q157 : (Jvm.Cond.soleField "MustardMill$Quern" "grams") ∈ lw_all := lw_g (lw_at lw_m1 94 rfl) rfl
theorem q158 : (Jvm.Cond.superclass "MustardMill$Quern" "java/lang/Object") ∈ lw_all := lw_g (lw_at lw_m1 95 rfl) rfl
theorem q685 : (Jvm.Cond.instanceMethod ({ cls := "MustardMill$Quern", name := "clone", desc := "()LMustardMill$Quern;" } : Jvm.MethodName)) ∈ lw_all := lw_g (lw_at lw_m3 142 rfl) rfl
theorem q686 : (Jvm.Cond.selects "MustardMill$Quern" ({ cls := "MustardMill$Quern", name := "clone", desc := "()LMustardMill$Quern;" } : Jvm.MethodName) ({ cls := "MustardMill$Quern", name := "clone", desc := "()LMustardMill$Quern;" } : Jvm.MethodName)) ∈ lw_all := lw_g (lw_at lw_m3 143 rfl) rfl
theorem q687 : (Jvm.Cond.codeWith ({ cls := "MustardMill$Quern", name := "clone", desc := "()LMustardMill$Quern;" } : Jvm.MethodName) prog_9_method_2_code (2 : Nat) (Option.some (Jvm.ClassFile.FieldType.object "MustardMill$Quern")) [((0 : Nat), (7 : Nat), (8 : Nat), (22 : Nat))]) ∈ lw_all := lw_g (lw_at lw_m3 144 rfl) rfl
theorem q688 : (Jvm.Cond.classLink "MustardMill$Quern" (22 : Nat) "java/lang/CloneNotSupportedException") ∈ lw_all := lw_g (lw_at lw_m3 145 rfl) rfl
theorem q689 : (Jvm.Cond.methodLink "MustardMill$Quern" (18 : Nat) ({ cls := "java/lang/Object", name := "clone", desc := "()Ljava/lang/Object;" } : Jvm.MethodName)) ∈ lw_all := lw_g (lw_at lw_m3 146 rfl) rfl
theorem q690 : (Jvm.Cond.classLink "MustardMill$Quern" (10 : Nat) "MustardMill$Quern") ∈ lw_all := lw_g (lw_at lw_m3 147 rfl) rfl
theorem q691 : (Jvm.Cond.classLink "MustardMill$Quern" (24 : Nat) "java/lang/IllegalStateException") ∈ lw_all := lw_g (lw_at lw_m3 148 rfl) rfl
theorem q700 : (Jvm.Cond.methodLink "MustardMill$Quern" (26 : Nat) ({ cls := "java/lang/IllegalStateException", name := "<init>", desc := "()V" } : Jvm.MethodName)) ∈ lw_all := lw_g (lw_at lw_m3 157 rfl) rfl
theorem q846 : (Jvm.Cond.selects "MustardMill$Quern" ({ cls := "java/lang/Object", name := "getClass", desc := "()Ljava/lang/Class;" } : Jvm.MethodName) ({ cls := "java/lang/Object", name := "getClass", desc := "()Ljava/lang/Class;" } : Jvm.MethodName)) ∈ lw_all := lw_g (lw_at lw_m4 63 rfl) rfl
theorem q1074 : (Jvm.Cond.instanceMethod ({ cls := "MustardMill$Quern", name := "heatBehind", desc := "(I)I" } : Jvm.MethodName)) ∈ lw_all := lw_g (lw_at lw_m5 51 rfl) rfl
theorem q1075 : (Jvm.Cond.selects "MustardMill$Quern" ({ cls := "MustardMill$Quern", name := "heatBehind", desc := "(I)I" } : Jvm.MethodName) ({ cls := "MustardMill$Quern", name := "heatBehind", desc := "(I)I" } : Jvm.MethodName)) ∈ lw_all := lw_g (lw_at lw_m5 52 rfl) rfl
theorem q1076 : (Jvm.Cond.code ({ cls := "MustardMill$Quern", name := "heatBehind", desc := "(I)I" } : Jvm.MethodName) prog_9_method_3_code (2 : Nat) (Option.some Jvm.ClassFile.FieldType.int)) ∈ lw_all := lw_g (lw_at lw_m5 53 rfl) rfl
theorem q2521 : (Jvm.Cond.castable "MustardMill$Quern" "java/lang/Cloneable") ∈ lw_tbl := lw_at lw_m11 58 rfl
theorem q2531 : (Jvm.Cond.castable "MustardMill$Quern" "java/lang/Object") ∈ lw_tbl := lw_at lw_m11 68 rfl
theorem in_X3 : ∀ w ∈ wsX30, w ∈ lw_all := lw_in wsX30 [150, 152, 154, 156] (by decide +kernel) (by decide +kernel)
/-! MustardMill$Shelf -/
set_option maxRecDepth 100000
def RX4 : String := "MustardMill$Shelf"
def TX4 : u_T := fun k => match k with
  | 0 => ("MustardMill$Shelf", "things", "Ljava/util/ArrayList;", true)
  | _ => ("MustardMill$Shelf", "most", "I", true)
def tyX4 : Nat → FieldType := fun k => match k with
  | 0 => .object "java/util/ArrayList"
  | _ => .int
abbrev wsX40 : List Cond := u_ws RX4 TX4 2
theorem nmX4 : ∀ a, a < 2 → ∀ b, b < 2 → a ≠ b → (TX4 a).2.1 ≠ (TX4 b).2.1 := by decide +kernel
theorem tyX4_ok : ∀ k, k < 2 → parseFieldDescriptor (TX4 k).2.2.1 = some (tyX4 k) := by decide +kernel
abbrev cX4_init : ByteArray := prog_12_method_1_code
def yX4_init : MethodName := ⟨RX4, "<init>", "(I)V"⟩
def dkwX4_init_0 : List UInt8 := [42, 183, 0, 1, 42, 187, 0, 7, 89, 183, 0, 9, 181, 0, 10, 42, 27, 181, 0, 16, 177]
abbrev dktX4_init_0 : List UInt8 := dkwX4_init_0 ++ []
theorem dksX4_init_0 : cX4_init.data.toList.drop 0 = dktX4_init_0 := by decide +kernel
theorem dX4_init_0 : decode cX4_init 0 = .ok (.aload_n 0, 1) := dk_42 (dk_at dksX4_init_0 0 rfl rfl)
theorem dX4_init_1 : decode cX4_init 1 = .ok (.invokespecial 1, 3) := dk_183 0 1 (dk_at dksX4_init_0 1 rfl rfl)
theorem dX4_init_4 : decode cX4_init 4 = .ok (.aload_n 0, 1) := dk_42 (dk_at dksX4_init_0 4 rfl rfl)
theorem dX4_init_5 : decode cX4_init 5 = .ok (.new 7, 3) := dk_187 0 7 (dk_at dksX4_init_0 5 rfl rfl)
theorem dX4_init_8 : decode cX4_init 8 = .ok (.dup, 1) := dk_89 (dk_at dksX4_init_0 8 rfl rfl)
theorem dX4_init_9 : decode cX4_init 9 = .ok (.invokespecial 9, 3) := dk_183 0 9 (dk_at dksX4_init_0 9 rfl rfl)
theorem dX4_init_12 : decode cX4_init 12 = .ok (.putfield 10, 3) := dk_181 0 10 (dk_at dksX4_init_0 12 rfl rfl)
theorem dX4_init_15 : decode cX4_init 15 = .ok (.aload_n 0, 1) := dk_42 (dk_at dksX4_init_0 15 rfl rfl)
theorem dX4_init_16 : decode cX4_init 16 = .ok (.iload_n 1, 1) := dk_27 (dk_at dksX4_init_0 16 rfl rfl)
theorem dX4_init_17 : decode cX4_init 17 = .ok (.putfield 16, 3) := dk_181 0 16 (dk_at dksX4_init_0 17 rfl rfl)
theorem dX4_init_20 : decode cX4_init 20 = .ok (.return_, 1) := dk_177 (dk_at dksX4_init_0 20 rfl rfl)
abbrev cX4_iterator : ByteArray := prog_12_method_2_code
def yX4_iterator : MethodName := ⟨RX4, "iterator", "()Ljava/util/Iterator;"⟩
def dkwX4_iterator_0 : List UInt8 := [42, 180, 0, 10, 182, 0, 20, 176]
abbrev dktX4_iterator_0 : List UInt8 := dkwX4_iterator_0 ++ []
theorem dksX4_iterator_0 : cX4_iterator.data.toList.drop 0 = dktX4_iterator_0 := by decide +kernel
theorem dX4_iterator_0 : decode cX4_iterator 0 = .ok (.aload_n 0, 1) := dk_42 (dk_at dksX4_iterator_0 0 rfl rfl)
theorem dX4_iterator_1 : decode cX4_iterator 1 = .ok (.getfield 10, 3) := dk_180 0 10 (dk_at dksX4_iterator_0 1 rfl rfl)
theorem dX4_iterator_4 : decode cX4_iterator 4 = .ok (.invokevirtual 20, 3) := dk_182 0 20 (dk_at dksX4_iterator_0 4 rfl rfl)
theorem dX4_iterator_7 : decode cX4_iterator 7 = .ok (.areturn, 1) := dk_176 (dk_at dksX4_iterator_0 7 rfl rfl)
abbrev cX4_add : ByteArray := prog_12_method_6_code
def yX4_add : MethodName := ⟨RX4, "add", "(LMustardMill$Thing;)I"⟩
def dkwX4_add_0 : List UInt8 := [42, 180, 0, 10, 43, 182, 0, 50, 61, 42, 180, 0, 10, 182, 0, 24, 4, 100, 172]
abbrev dktX4_add_0 : List UInt8 := dkwX4_add_0 ++ []
theorem dksX4_add_0 : cX4_add.data.toList.drop 0 = dktX4_add_0 := by decide +kernel
theorem dX4_add_0 : decode cX4_add 0 = .ok (.aload_n 0, 1) := dk_42 (dk_at dksX4_add_0 0 rfl rfl)
theorem dX4_add_1 : decode cX4_add 1 = .ok (.getfield 10, 3) := dk_180 0 10 (dk_at dksX4_add_0 1 rfl rfl)
theorem dX4_add_4 : decode cX4_add 4 = .ok (.aload_n 1, 1) := dk_43 (dk_at dksX4_add_0 4 rfl rfl)
theorem dX4_add_5 : decode cX4_add 5 = .ok (.invokevirtual 50, 3) := dk_182 0 50 (dk_at dksX4_add_0 5 rfl rfl)
theorem dX4_add_8 : decode cX4_add 8 = .ok (.istore_n 2, 1) := dk_61 (dk_at dksX4_add_0 8 rfl rfl)
theorem dX4_add_9 : decode cX4_add 9 = .ok (.aload_n 0, 1) := dk_42 (dk_at dksX4_add_0 9 rfl rfl)
theorem dX4_add_10 : decode cX4_add 10 = .ok (.getfield 10, 3) := dk_180 0 10 (dk_at dksX4_add_0 10 rfl rfl)
theorem dX4_add_13 : decode cX4_add 13 = .ok (.invokevirtual 24, 3) := dk_182 0 24 (dk_at dksX4_add_0 13 rfl rfl)
theorem dX4_add_16 : decode cX4_add 16 = .ok (.iconst 1, 1) := dk_4 (dk_at dksX4_add_0 16 rfl rfl)
theorem dX4_add_17 : decode cX4_add 17 = .ok (.isub, 1) := dk_100 (dk_at dksX4_add_0 17 rfl rfl)
theorem dX4_add_18 : decode cX4_add 18 = .ok (.ireturn, 1) := dk_172 (dk_at dksX4_add_0 18 rfl rfl)
abbrev cX4_checkRoom : ByteArray := prog_12_method_5_code
def yX4_checkRoom : MethodName := ⟨RX4, "checkRoom", "(I)V"⟩
def dkwX4_checkRoom_1 : List UInt8 := [180, 0, 16, 184, 0, 44, 177]
abbrev dktX4_checkRoom_1 : List UInt8 := dkwX4_checkRoom_1 ++ []
def dkwX4_checkRoom_0 : List UInt8 := [42, 180, 0, 10, 182, 0, 24, 27, 96, 42, 180, 0, 16, 163, 0, 7, 4, 167, 0, 4, 3, 4, 42]
abbrev dktX4_checkRoom_0 : List UInt8 := dkwX4_checkRoom_0 ++ dktX4_checkRoom_1
theorem dksX4_checkRoom_0 : cX4_checkRoom.data.toList.drop 0 = dktX4_checkRoom_0 := by decide +kernel
theorem dksX4_checkRoom_1 : cX4_checkRoom.data.toList.drop 23 = dktX4_checkRoom_1 := dk_seg dksX4_checkRoom_0 23 rfl rfl
theorem dX4_checkRoom_0 : decode cX4_checkRoom 0 = .ok (.aload_n 0, 1) := dk_42 (dk_at dksX4_checkRoom_0 0 rfl rfl)
theorem dX4_checkRoom_1 : decode cX4_checkRoom 1 = .ok (.getfield 10, 3) := dk_180 0 10 (dk_at dksX4_checkRoom_0 1 rfl rfl)
theorem dX4_checkRoom_4 : decode cX4_checkRoom 4 = .ok (.invokevirtual 24, 3) := dk_182 0 24 (dk_at dksX4_checkRoom_0 4 rfl rfl)
theorem dX4_checkRoom_7 : decode cX4_checkRoom 7 = .ok (.iload_n 1, 1) := dk_27 (dk_at dksX4_checkRoom_0 7 rfl rfl)
theorem dX4_checkRoom_8 : decode cX4_checkRoom 8 = .ok (.iadd, 1) := dk_96 (dk_at dksX4_checkRoom_0 8 rfl rfl)
theorem dX4_checkRoom_9 : decode cX4_checkRoom 9 = .ok (.aload_n 0, 1) := dk_42 (dk_at dksX4_checkRoom_0 9 rfl rfl)
theorem dX4_checkRoom_10 : decode cX4_checkRoom 10 = .ok (.getfield 16, 3) := dk_180 0 16 (dk_at dksX4_checkRoom_0 10 rfl rfl)
theorem dX4_checkRoom_13 : decode cX4_checkRoom 13 = .ok (.if_icmp .gt 7, 3) := dk_163 0 7 (dk_at dksX4_checkRoom_0 13 rfl rfl)
theorem dX4_checkRoom_16 : decode cX4_checkRoom 16 = .ok (.iconst 1, 1) := dk_4 (dk_at dksX4_checkRoom_0 16 rfl rfl)
theorem dX4_checkRoom_17 : decode cX4_checkRoom 17 = .ok (.goto 4, 3) := dk_167 0 4 (dk_at dksX4_checkRoom_0 17 rfl rfl)
theorem dX4_checkRoom_20 : decode cX4_checkRoom 20 = .ok (.iconst 0, 1) := dk_3 (dk_at dksX4_checkRoom_0 20 rfl rfl)
theorem dX4_checkRoom_21 : decode cX4_checkRoom 21 = .ok (.iconst 1, 1) := dk_4 (dk_at dksX4_checkRoom_0 21 rfl rfl)
theorem dX4_checkRoom_22 : decode cX4_checkRoom 22 = .ok (.aload_n 0, 1) := dk_42 (dk_at dksX4_checkRoom_0 22 rfl rfl)
theorem dX4_checkRoom_23 : decode cX4_checkRoom 23 = .ok (.getfield 16, 3) := dk_180 0 16 (dk_at dksX4_checkRoom_1 0 rfl rfl)
theorem dX4_checkRoom_26 : decode cX4_checkRoom 26 = .ok (.invokestatic 44, 3) := dk_184 0 44 (dk_at dksX4_checkRoom_1 3 rfl rfl)
theorem dX4_checkRoom_29 : decode cX4_checkRoom 29 = .ok (.return_, 1) := dk_177 (dk_at dksX4_checkRoom_1 6 rfl rfl)
abbrev cX4_size : ByteArray := prog_12_method_3_code
def yX4_size : MethodName := ⟨RX4, "size", "()I"⟩
def dkwX4_size_0 : List UInt8 := [42, 180, 0, 10, 182, 0, 24, 172]
abbrev dktX4_size_0 : List UInt8 := dkwX4_size_0 ++ []
theorem dksX4_size_0 : cX4_size.data.toList.drop 0 = dktX4_size_0 := by decide +kernel
theorem dX4_size_0 : decode cX4_size 0 = .ok (.aload_n 0, 1) := dk_42 (dk_at dksX4_size_0 0 rfl rfl)
theorem dX4_size_1 : decode cX4_size 1 = .ok (.getfield 10, 3) := dk_180 0 10 (dk_at dksX4_size_0 1 rfl rfl)
theorem dX4_size_4 : decode cX4_size 4 = .ok (.invokevirtual 24, 3) := dk_182 0 24 (dk_at dksX4_size_0 4 rfl rfl)
theorem dX4_size_7 : decode cX4_size 7 = .ok (.ireturn, 1) := dk_172 (dk_at dksX4_size_0 7 rfl rfl)
abbrev cX4_get : ByteArray := prog_12_method_4_code
def yX4_get : MethodName := ⟨RX4, "get", "(I)LMustardMill$Thing;"⟩
def dkwX4_get_1 : List UInt8 := [182, 0, 38, 192, 0, 42, 176]
abbrev dktX4_get_1 : List UInt8 := dkwX4_get_1 ++ []
def dkwX4_get_0 : List UInt8 := [27, 133, 9, 42, 180, 0, 10, 182, 0, 24, 4, 100, 133, 184, 0, 28, 184, 0, 34, 42, 180, 0, 10, 27]
abbrev dktX4_get_0 : List UInt8 := dkwX4_get_0 ++ dktX4_get_1
theorem dksX4_get_0 : cX4_get.data.toList.drop 0 = dktX4_get_0 := by decide +kernel
theorem dksX4_get_1 : cX4_get.data.toList.drop 24 = dktX4_get_1 := dk_seg dksX4_get_0 24 rfl rfl
theorem dX4_get_0 : decode cX4_get 0 = .ok (.iload_n 1, 1) := dk_27 (dk_at dksX4_get_0 0 rfl rfl)
theorem dX4_get_1 : decode cX4_get 1 = .ok (.i2l, 1) := dk_133 (dk_at dksX4_get_0 1 rfl rfl)
theorem dX4_get_2 : decode cX4_get 2 = .ok (.lconst 0, 1) := dk_9 (dk_at dksX4_get_0 2 rfl rfl)
theorem dX4_get_3 : decode cX4_get 3 = .ok (.aload_n 0, 1) := dk_42 (dk_at dksX4_get_0 3 rfl rfl)
theorem dX4_get_4 : decode cX4_get 4 = .ok (.getfield 10, 3) := dk_180 0 10 (dk_at dksX4_get_0 4 rfl rfl)
theorem dX4_get_7 : decode cX4_get 7 = .ok (.invokevirtual 24, 3) := dk_182 0 24 (dk_at dksX4_get_0 7 rfl rfl)
theorem dX4_get_10 : decode cX4_get 10 = .ok (.iconst 1, 1) := dk_4 (dk_at dksX4_get_0 10 rfl rfl)
theorem dX4_get_11 : decode cX4_get 11 = .ok (.isub, 1) := dk_100 (dk_at dksX4_get_0 11 rfl rfl)
theorem dX4_get_12 : decode cX4_get 12 = .ok (.i2l, 1) := dk_133 (dk_at dksX4_get_0 12 rfl rfl)
theorem dX4_get_13 : decode cX4_get 13 = .ok (.invokestatic 28, 3) := dk_184 0 28 (dk_at dksX4_get_0 13 rfl rfl)
theorem dX4_get_16 : decode cX4_get 16 = .ok (.invokestatic 34, 3) := dk_184 0 34 (dk_at dksX4_get_0 16 rfl rfl)
theorem dX4_get_19 : decode cX4_get 19 = .ok (.aload_n 0, 1) := dk_42 (dk_at dksX4_get_0 19 rfl rfl)
theorem dX4_get_20 : decode cX4_get 20 = .ok (.getfield 10, 3) := dk_180 0 10 (dk_at dksX4_get_0 20 rfl rfl)
theorem dX4_get_23 : decode cX4_get 23 = .ok (.iload_n 1, 1) := dk_27 (dk_at dksX4_get_0 23 rfl rfl)
theorem dX4_get_24 : decode cX4_get 24 = .ok (.invokevirtual 38, 3) := dk_182 0 38 (dk_at dksX4_get_1 0 rfl rfl)
theorem dX4_get_27 : decode cX4_get 27 = .ok (.checkcast 42, 3) := dk_192 0 42 (dk_at dksX4_get_1 3 rfl rfl)
theorem dX4_get_30 : decode cX4_get 30 = .ok (.areturn, 1) := dk_176 (dk_at dksX4_get_1 6 rfl rfl)
theorem q67 : (Jvm.Cond.initialized "MustardMill$Shelf") ∈ lw_all := lw_g (lw_at lw_m1 4 rfl) rfl
theorem q161 : (Jvm.Cond.instantiable "MustardMill$Shelf" (2 : Nat)) ∈ lw_all := lw_g (lw_at lw_m1 98 rfl) rfl
theorem q163 : (Jvm.Cond.instanceMethod ({ cls := "MustardMill$Shelf", name := "<init>", desc := "(I)V" } : Jvm.MethodName)) ∈ lw_all := lw_g (lw_at lw_m1 100 rfl) rfl
theorem q164 : (Jvm.Cond.code ({ cls := "MustardMill$Shelf", name := "<init>", desc := "(I)V" } : Jvm.MethodName) prog_12_method_1_code (2 : Nat) (Option.none : Option Jvm.ClassFile.FieldType)) ∈ lw_all := lw_g (lw_at lw_m1 101 rfl) rfl
theorem q165 : (Jvm.Cond.methodLink "MustardMill$Shelf" (1 : Nat) ({ cls := "java/lang/Object", name := "<init>", desc := "()V" } : Jvm.MethodName)) ∈ lw_all := lw_g (lw_at lw_m1 102 rfl) rfl
theorem q166 : (Jvm.Cond.classLink "MustardMill$Shelf" (7 : Nat) "java/util/ArrayList") ∈ lw_all := lw_g (lw_at lw_m1 103 rfl) rfl
theorem q168 : (Jvm.Cond.methodLink "MustardMill$Shelf" (9 : Nat) ({ cls := "java/util/ArrayList", name := "<init>", desc := "()V" } : Jvm.MethodName)) ∈ lw_all := lw_g (lw_at lw_m1 105 rfl) rfl
theorem q195 : (Jvm.Cond.fieldLink "MustardMill$Shelf" (10 : Nat) "MustardMill$Shelf" "things" "Ljava/util/ArrayList;") ∈ lw_all := lw_g (lw_at lw_m1 132 rfl) rfl
theorem q196 : (Jvm.Cond.fieldLink "MustardMill$Shelf" (16 : Nat) "MustardMill$Shelf" "most" "I") ∈ lw_all := lw_g (lw_at lw_m1 133 rfl) rfl
theorem q197 : (Jvm.Cond.laysFinal "MustardMill$Shelf" "MustardMill$Shelf" "things" "Ljava/util/ArrayList;") ∈ lw_all := lw_g (lw_at lw_m1 134 rfl) rfl
theorem q198 : (Jvm.Cond.soleField "MustardMill$Shelf" "things") ∈ lw_all := lw_g (lw_at lw_m1 135 rfl) rfl
theorem q199 : (Jvm.Cond.laysFinal "MustardMill$Shelf" "MustardMill$Shelf" "most" "I") ∈ lw_all := lw_g (lw_at lw_m1 136 rfl) rfl
theorem q200 : (Jvm.Cond.soleField "MustardMill$Shelf" "most") ∈ lw_all := lw_g (lw_at lw_m1 137 rfl) rfl
theorem q201 : (Jvm.Cond.superclass "MustardMill$Shelf" "java/lang/Object") ∈ lw_all := lw_g (lw_at lw_m1 138 rfl) rfl
theorem q713 : (Jvm.Cond.instanceMethod ({ cls := "MustardMill$Shelf", name := "iterator", desc := "()Ljava/util/Iterator;" } : Jvm.MethodName)) ∈ lw_all := lw_g (lw_at lw_m3 170 rfl) rfl
theorem q714 : (Jvm.Cond.selects "MustardMill$Shelf" ({ cls := "MustardMill$Shelf", name := "iterator", desc := "()Ljava/util/Iterator;" } : Jvm.MethodName) ({ cls := "MustardMill$Shelf", name := "iterator", desc := "()Ljava/util/Iterator;" } : Jvm.MethodName)) ∈ lw_all := lw_g (lw_at lw_m3 171 rfl) rfl
theorem q715 : (Jvm.Cond.code ({ cls := "MustardMill$Shelf", name := "iterator", desc := "()Ljava/util/Iterator;" } : Jvm.MethodName) prog_12_method_2_code (1 : Nat) (Option.some (Jvm.ClassFile.FieldType.object "java/util/Iterator"))) ∈ lw_all := lw_g (lw_at lw_m3 172 rfl) rfl
theorem q716 : (Jvm.Cond.methodLink "MustardMill$Shelf" (20 : Nat) ({ cls := "java/util/ArrayList", name := "iterator", desc := "()Ljava/util/Iterator;" } : Jvm.MethodName)) ∈ lw_all := lw_g (lw_at lw_m3 173 rfl) rfl
theorem q813 : (Jvm.Cond.instanceMethod ({ cls := "MustardMill$Shelf", name := "add", desc := "(LMustardMill$Thing;)I" } : Jvm.MethodName)) ∈ lw_all := lw_g (lw_at lw_m4 30 rfl) rfl
theorem q814 : (Jvm.Cond.selects "MustardMill$Shelf" ({ cls := "MustardMill$Shelf", name := "add", desc := "(LMustardMill$Thing;)I" } : Jvm.MethodName) ({ cls := "MustardMill$Shelf", name := "add", desc := "(LMustardMill$Thing;)I" } : Jvm.MethodName)) ∈ lw_all := lw_g (lw_at lw_m4 31 rfl) rfl
theorem q815 : (Jvm.Cond.code ({ cls := "MustardMill$Shelf", name := "add", desc := "(LMustardMill$Thing;)I" } : Jvm.MethodName) prog_12_method_6_code (3 : Nat) (Option.some Jvm.ClassFile.FieldType.int)) ∈ lw_all := lw_g (lw_at lw_m4 32 rfl) rfl
theorem q816 : (Jvm.Cond.methodLink "MustardMill$Shelf" (50 : Nat) ({ cls := "java/util/ArrayList", name := "add", desc := "(Ljava/lang/Object;)Z" } : Jvm.MethodName)) ∈ lw_all := lw_g (lw_at lw_m4 33 rfl) rfl
theorem q848 : (Jvm.Cond.selects "MustardMill$Shelf" ({ cls := "java/lang/Object", name := "getClass", desc := "()Ljava/lang/Class;" } : Jvm.MethodName) ({ cls := "java/lang/Object", name := "getClass", desc := "()Ljava/lang/Class;" } : Jvm.MethodName)) ∈ lw_all := lw_g (lw_at lw_m4 65 rfl) rfl
theorem q875 : (Jvm.Cond.methodLink "MustardMill$Shelf" (24 : Nat) ({ cls := "java/util/ArrayList", name := "size", desc := "()I" } : Jvm.MethodName)) ∈ lw_all := lw_g (lw_at lw_m4 92 rfl) rfl
theorem q1038 : (Jvm.Cond.instanceMethod ({ cls := "MustardMill$Shelf", name := "checkRoom", desc := "(I)V" } : Jvm.MethodName)) ∈ lw_all := lw_g (lw_at lw_m5 15 rfl) rfl
theorem q1039 : (Jvm.Cond.selects "MustardMill$Shelf" ({ cls := "MustardMill$Shelf", name := "checkRoom", desc := "(I)V" } : Jvm.MethodName) ({ cls := "MustardMill$Shelf", name := "checkRoom", desc := "(I)V" } : Jvm.MethodName)) ∈ lw_all := lw_g (lw_at lw_m5 16 rfl) rfl
theorem q1040 : (Jvm.Cond.code ({ cls := "MustardMill$Shelf", name := "checkRoom", desc := "(I)V" } : Jvm.MethodName) prog_12_method_5_code (2 : Nat) (Option.none : Option Jvm.ClassFile.FieldType)) ∈ lw_all := lw_g (lw_at lw_m5 17 rfl) rfl
theorem q1041 : (Jvm.Cond.methodLink "MustardMill$Shelf" (44 : Nat) ({ cls := "MustardMill$Refused", name := "check", desc := "(ZII)V" } : Jvm.MethodName)) ∈ lw_all := lw_g (lw_at lw_m5 18 rfl) rfl
theorem q1079 : (Jvm.Cond.instanceMethod ({ cls := "MustardMill$Shelf", name := "size", desc := "()I" } : Jvm.MethodName)) ∈ lw_all := lw_g (lw_at lw_m5 56 rfl) rfl
theorem q1080 : (Jvm.Cond.selects "MustardMill$Shelf" ({ cls := "MustardMill$Shelf", name := "size", desc := "()I" } : Jvm.MethodName) ({ cls := "MustardMill$Shelf", name := "size", desc := "()I" } : Jvm.MethodName)) ∈ lw_all := lw_g (lw_at lw_m5 57 rfl) rfl
theorem q1081 : (Jvm.Cond.code ({ cls := "MustardMill$Shelf", name := "size", desc := "()I" } : Jvm.MethodName) prog_12_method_3_code (1 : Nat) (Option.some Jvm.ClassFile.FieldType.int)) ∈ lw_all := lw_g (lw_at lw_m5 58 rfl) rfl
theorem q1138 : (Jvm.Cond.instanceMethod ({ cls := "MustardMill$Shelf", name := "get", desc := "(I)LMustardMill$Thing;" } : Jvm.MethodName)) ∈ lw_all := lw_g (lw_at lw_m5 115 rfl) rfl
theorem q1139 : (Jvm.Cond.selects "MustardMill$Shelf" ({ cls := "MustardMill$Shelf", name := "get", desc := "(I)LMustardMill$Thing;" } : Jvm.MethodName) ({ cls := "MustardMill$Shelf", name := "get", desc := "(I)LMustardMill$Thing;" } : Jvm.MethodName)) ∈ lw_all := lw_g (lw_at lw_m5 116 rfl) rfl
theorem q1140 : (Jvm.Cond.code ({ cls := "MustardMill$Shelf", name := "get", desc := "(I)LMustardMill$Thing;" } : Jvm.MethodName) prog_12_method_4_code (2 : Nat) (Option.some (Jvm.ClassFile.FieldType.object "MustardMill$Thing"))) ∈ lw_all := lw_g (lw_at lw_m5 117 rfl) rfl
theorem q1141 : (Jvm.Cond.methodLinkNest "MustardMill$Shelf" (28 : Nat) ({ cls := "MustardMill", name := "inRange", desc := "(JJJ)Z" } : Jvm.MethodName) "MustardMill") ∈ lw_tbl := lw_at lw_m5 118 rfl
theorem q1142 : (Jvm.Cond.methodLinkNest "MustardMill$Shelf" (34 : Nat) ({ cls := "MustardMill", name := "checkIndex", desc := "(Z)V" } : Jvm.MethodName) "MustardMill") ∈ lw_tbl := lw_at lw_m5 119 rfl
theorem q1143 : (Jvm.Cond.methodLink "MustardMill$Shelf" (38 : Nat) ({ cls := "java/util/ArrayList", name := "get", desc := "(I)Ljava/lang/Object;" } : Jvm.MethodName)) ∈ lw_all := lw_g (lw_at lw_m5 120 rfl) rfl
theorem q1155 : (Jvm.Cond.classLink "MustardMill$Shelf" (42 : Nat) "MustardMill$Thing") ∈ lw_all := lw_g (lw_at lw_m5 132 rfl) rfl
theorem q1344 : (Jvm.Cond.castable "MustardMill$Shelf" "java/lang/Iterable") ∈ lw_tbl := lw_at lw_m6 81 rfl
theorem q1345 : (Jvm.Cond.selects "MustardMill$Shelf" ({ cls := "java/lang/Iterable", name := "iterator", desc := "()Ljava/util/Iterator;" } : Jvm.MethodName) ({ cls := "MustardMill$Shelf", name := "iterator", desc := "()Ljava/util/Iterator;" } : Jvm.MethodName)) ∈ lw_all := lw_g (lw_at lw_m6 82 rfl) rfl
theorem q1346 : (Jvm.Cond.unhidden "MustardMill$Shelf" "iterator" "()Ljava/util/Iterator;") ∈ lw_tbl := lw_at lw_m6 83 rfl
theorem q1347 : (Jvm.Cond.publicMethod ({ cls := "MustardMill$Shelf", name := "iterator", desc := "()Ljava/util/Iterator;" } : Jvm.MethodName)) ∈ lw_tbl := lw_at lw_m6 84 rfl
theorem q2538 : (Jvm.Cond.castable "MustardMill$Shelf" "java/lang/Object") ∈ lw_tbl := lw_at lw_m11 75 rfl
theorem in_X4 : ∀ w ∈ wsX40, w ∈ lw_all := lw_in wsX40 [197, 199] (by decide +kernel) (by decide +kernel)
/-! MustardMill$Change -/
set_option maxRecDepth 100000
def RX6 : String := "MustardMill$Change"
def TX6 : u_T := fun k => match k with
  | 0 => ("MustardMill$Change", "word", "Ljava/lang/String;", true)
  | _ => ("MustardMill$Change", "numbers", "[I", true)
def tyX6 : Nat → FieldType := fun k => match k with
  | 0 => .object "java/lang/String"
  | _ => .array .int
abbrev wsX60 : List Cond := u_ws RX6 TX6 2
theorem nmX6 : ∀ a, a < 2 → ∀ b, b < 2 → a ≠ b → (TX6 a).2.1 ≠ (TX6 b).2.1 := by decide +kernel
theorem tyX6_ok : ∀ k, k < 2 → parseFieldDescriptor (TX6 k).2.2.1 = some (tyX6 k) := by decide +kernel
abbrev cX6_init : ByteArray := prog_3_method_1_code
def yX6_init : MethodName := ⟨RX6, "<init>", "(Ljava/lang/String;[I)V"⟩
def dkwX6_init_0 : List UInt8 := [42, 183, 0, 1, 42, 43, 181, 0, 7, 42, 44, 181, 0, 13, 177]
abbrev dktX6_init_0 : List UInt8 := dkwX6_init_0 ++ []
theorem dksX6_init_0 : cX6_init.data.toList.drop 0 = dktX6_init_0 := by decide +kernel
theorem dX6_init_0 : decode cX6_init 0 = .ok (.aload_n 0, 1) := dk_42 (dk_at dksX6_init_0 0 rfl rfl)
theorem dX6_init_1 : decode cX6_init 1 = .ok (.invokespecial 1, 3) := dk_183 0 1 (dk_at dksX6_init_0 1 rfl rfl)
theorem dX6_init_4 : decode cX6_init 4 = .ok (.aload_n 0, 1) := dk_42 (dk_at dksX6_init_0 4 rfl rfl)
theorem dX6_init_5 : decode cX6_init 5 = .ok (.aload_n 1, 1) := dk_43 (dk_at dksX6_init_0 5 rfl rfl)
theorem dX6_init_6 : decode cX6_init 6 = .ok (.putfield 7, 3) := dk_181 0 7 (dk_at dksX6_init_0 6 rfl rfl)
theorem dX6_init_9 : decode cX6_init 9 = .ok (.aload_n 0, 1) := dk_42 (dk_at dksX6_init_0 9 rfl rfl)
theorem dX6_init_10 : decode cX6_init 10 = .ok (.aload_n 2, 1) := dk_44 (dk_at dksX6_init_0 10 rfl rfl)
theorem dX6_init_11 : decode cX6_init 11 = .ok (.putfield 13, 3) := dk_181 0 13 (dk_at dksX6_init_0 11 rfl rfl)
theorem dX6_init_14 : decode cX6_init 14 = .ok (.return_, 1) := dk_177 (dk_at dksX6_init_0 14 rfl rfl)
abbrev cX6_make : ByteArray := prog_3_method_3_code
def yX6_make : MethodName := ⟨RX6, "make", "(LMustardMill$Mill;)I"⟩
def dkwX6_make_18 : List UInt8 := [180, 0, 13, 4, 46, 42, 180, 0, 13, 5, 46, 182, 0, 78, 172]
abbrev dktX6_make_18 : List UInt8 := dkwX6_make_18 ++ []
def dkwX6_make_17 : List UInt8 := [182, 0, 73, 172, 43, 42, 180, 0, 13, 3, 46, 182, 0, 75, 172, 43, 42, 180, 0, 13, 3, 46, 42]
abbrev dktX6_make_17 : List UInt8 := dkwX6_make_17 ++ dktX6_make_18
def dkwX6_make_16 : List UInt8 := [180, 0, 13, 4, 46, 182, 0, 71, 172, 43, 42, 180, 0, 13, 3, 46, 42, 180, 0, 13, 4, 46]
abbrev dktX6_make_16 : List UInt8 := dkwX6_make_16 ++ dktX6_make_17
def dkwX6_make_15 : List UInt8 := [182, 0, 67, 172, 43, 42, 180, 0, 13, 3, 46, 182, 0, 69, 172, 43, 42, 180, 0, 13, 3, 46, 42]
abbrev dktX6_make_15 : List UInt8 := dkwX6_make_15 ++ dktX6_make_16
def dkwX6_make_14 : List UInt8 := [182, 0, 63, 172, 43, 42, 180, 0, 13, 3, 46, 182, 0, 65, 172, 43, 42, 180, 0, 13, 3, 46]
abbrev dktX6_make_14 : List UInt8 := dkwX6_make_14 ++ dktX6_make_15
def dkwX6_make_13 : List UInt8 := [42, 180, 0, 13, 3, 46, 42, 180, 0, 13, 4, 46, 182, 0, 60, 172, 43, 42, 180, 0, 13, 3, 46]
abbrev dktX6_make_13 : List UInt8 := dkwX6_make_13 ++ dktX6_make_14
def dkwX6_make_12 : List UInt8 := [3, 46, 182, 0, 54, 172, 43, 42, 180, 0, 13, 3, 46, 42, 180, 0, 13, 4, 46, 182, 0, 57, 172, 43]
abbrev dktX6_make_12 : List UInt8 := dkwX6_make_12 ++ dktX6_make_13
def dkwX6_make_11 : List UInt8 := [180, 0, 13, 5, 46, 79, 89, 5, 42, 180, 0, 13, 6, 46, 79, 182, 0, 49, 172, 43, 42, 180, 0, 13]
abbrev dktX6_make_11 : List UInt8 := dkwX6_make_11 ++ dktX6_make_12
def dkwX6_make_10 : List UInt8 := [43, 42, 180, 0, 13, 3, 46, 6, 188, 10, 89, 3, 42, 180, 0, 13, 4, 46, 79, 89, 4, 42]
abbrev dktX6_make_10 : List UInt8 := dkwX6_make_10 ++ dktX6_make_11
def dkwX6_make_9 : List UInt8 := [170, 0, 0, 0, 0, 0, 234, 0, 0, 0, 0, 0, 0, 0, 10, 0, 0, 0, 59, 0, 0, 0, 100, 0, 0, 0, 111, 0, 0, 0, 128, 0, 0, 0, 145, 0, 0, 0, 156, 0, 0, 0, 167, 0, 0, 0, 178, 0, 0, 0, 189, 0, 0, 0, 206, 0, 0, 0, 223]
abbrev dktX6_make_9 : List UInt8 := dkwX6_make_9 ++ dktX6_make_10
def dkwX6_make_8 : List UInt8 := [167, 0, 15, 44, 18, 47, 182, 0, 25, 153, 0, 6, 16, 10, 62, 29]
abbrev dktX6_make_8 : List UInt8 := dkwX6_make_8 ++ dktX6_make_9
def dkwX6_make_7 : List UInt8 := [182, 0, 25, 153, 0, 36, 16, 8, 62, 167, 0, 30, 44, 18, 45, 182, 0, 25, 153, 0, 21, 16, 9, 62]
abbrev dktX6_make_7 : List UInt8 := dkwX6_make_7 ++ dktX6_make_8
def dkwX6_make_6 : List UInt8 := [62, 167, 0, 60, 44, 18, 41, 182, 0, 25, 153, 0, 51, 16, 7, 62, 167, 0, 45, 44, 18, 43]
abbrev dktX6_make_6 : List UInt8 := dkwX6_make_6 ++ dktX6_make_7
def dkwX6_make_5 : List UInt8 := [18, 37, 182, 0, 25, 153, 0, 80, 8, 62, 167, 0, 75, 44, 18, 39, 182, 0, 25, 153, 0, 66, 16, 6]
abbrev dktX6_make_5 : List UInt8 := dkwX6_make_5 ++ dktX6_make_6
def dkwX6_make_4 : List UInt8 := [153, 0, 108, 6, 62, 167, 0, 103, 44, 18, 35, 182, 0, 25, 153, 0, 94, 7, 62, 167, 0, 89, 44]
abbrev dktX6_make_4 : List UInt8 := dkwX6_make_4 ++ dktX6_make_5
def dkwX6_make_3 : List UInt8 := [62, 167, 0, 131, 44, 18, 29, 182, 0, 25, 153, 0, 122, 5, 62, 167, 0, 117, 44, 18, 31, 182, 0, 25]
abbrev dktX6_make_3 : List UInt8 := dkwX6_make_3 ++ dktX6_make_4
def dkwX6_make_2 : List UInt8 := [44, 18, 23, 182, 0, 25, 153, 0, 150, 3, 62, 167, 0, 145, 44, 18, 33, 182, 0, 25, 153, 0, 136, 4]
abbrev dktX6_make_2 : List UInt8 := dkwX6_make_2 ++ dktX6_make_3
def dkwX6_make_1 : List UInt8 := [171, 0, 0, 0, 253, 0, 0, 0, 11, 0, 1, 126, 134, 0, 0, 0, 211, 0, 1, 154, 27, 0, 0, 0, 139, 0, 1, 166, 92, 0, 0, 0, 125, 0, 52, 38, 74, 0, 0, 0, 153, 0, 53, 91, 212, 0, 0, 0, 196, 0, 53, 207, 82, 0, 0, 0, 167, 0, 54, 115, 54, 0, 0, 0, 241, 5, 182, 138, 55, 0, 0, 0, 111, 5, 224, 223, 20, 0, 0, 0, 97, 6, 81, 135, 78, 0, 0, 0, 226, 6, 132, 51, 15, 0, 0, 0, 181]
abbrev dktX6_make_1 : List UInt8 := dkwX6_make_1 ++ dktX6_make_2
def dkwX6_make_0 : List UInt8 := [42, 180, 0, 7, 77, 2, 62, 44, 182, 0, 17]
abbrev dktX6_make_0 : List UInt8 := dkwX6_make_0 ++ dktX6_make_1
theorem dksX6_make_0 : cX6_make.data.toList.drop 0 = dktX6_make_0 := by decide +kernel
theorem dksX6_make_1 : cX6_make.data.toList.drop 11 = dktX6_make_1 := dk_seg dksX6_make_0 11 rfl rfl
theorem dksX6_make_2 : cX6_make.data.toList.drop 108 = dktX6_make_2 := dk_seg dksX6_make_1 97 rfl rfl
theorem dksX6_make_3 : cX6_make.data.toList.drop 132 = dktX6_make_3 := dk_seg dksX6_make_2 24 rfl rfl
theorem dksX6_make_4 : cX6_make.data.toList.drop 156 = dktX6_make_4 := dk_seg dksX6_make_3 24 rfl rfl
theorem dksX6_make_5 : cX6_make.data.toList.drop 179 = dktX6_make_5 := dk_seg dksX6_make_4 23 rfl rfl
theorem dksX6_make_6 : cX6_make.data.toList.drop 203 = dktX6_make_6 := dk_seg dksX6_make_5 24 rfl rfl
theorem dksX6_make_7 : cX6_make.data.toList.drop 225 = dktX6_make_7 := dk_seg dksX6_make_6 22 rfl rfl
theorem dksX6_make_8 : cX6_make.data.toList.drop 249 = dktX6_make_8 := dk_seg dksX6_make_7 24 rfl rfl
theorem dksX6_make_9 : cX6_make.data.toList.drop 265 = dktX6_make_9 := dk_seg dksX6_make_8 16 rfl rfl
theorem dksX6_make_10 : cX6_make.data.toList.drop 324 = dktX6_make_10 := dk_seg dksX6_make_9 59 rfl rfl
theorem dksX6_make_11 : cX6_make.data.toList.drop 346 = dktX6_make_11 := dk_seg dksX6_make_10 22 rfl rfl
theorem dksX6_make_12 : cX6_make.data.toList.drop 370 = dktX6_make_12 := dk_seg dksX6_make_11 24 rfl rfl
theorem dksX6_make_13 : cX6_make.data.toList.drop 394 = dktX6_make_13 := dk_seg dksX6_make_12 24 rfl rfl
theorem dksX6_make_14 : cX6_make.data.toList.drop 417 = dktX6_make_14 := dk_seg dksX6_make_13 23 rfl rfl
theorem dksX6_make_15 : cX6_make.data.toList.drop 439 = dktX6_make_15 := dk_seg dksX6_make_14 22 rfl rfl
theorem dksX6_make_16 : cX6_make.data.toList.drop 462 = dktX6_make_16 := dk_seg dksX6_make_15 23 rfl rfl
theorem dksX6_make_17 : cX6_make.data.toList.drop 484 = dktX6_make_17 := dk_seg dksX6_make_16 22 rfl rfl
theorem dksX6_make_18 : cX6_make.data.toList.drop 507 = dktX6_make_18 := dk_seg dksX6_make_17 23 rfl rfl
theorem dX6_make_0 : decode cX6_make 0 = .ok (.aload_n 0, 1) := dk_42 (dk_at dksX6_make_0 0 rfl rfl)
theorem dX6_make_1 : decode cX6_make 1 = .ok (.getfield 7, 3) := dk_180 0 7 (dk_at dksX6_make_0 1 rfl rfl)
theorem dX6_make_4 : decode cX6_make 4 = .ok (.astore_n 2, 1) := dk_77 (dk_at dksX6_make_0 4 rfl rfl)
theorem dX6_make_5 : decode cX6_make 5 = .ok (.iconst (-1), 1) := dk_2 (dk_at dksX6_make_0 5 rfl rfl)
theorem dX6_make_6 : decode cX6_make 6 = .ok (.istore_n 3, 1) := dk_62 (dk_at dksX6_make_0 6 rfl rfl)
theorem dX6_make_7 : decode cX6_make 7 = .ok (.aload_n 2, 1) := dk_44 (dk_at dksX6_make_0 7 rfl rfl)
theorem dX6_make_8 : decode cX6_make 8 = .ok (.invokevirtual 17, 3) := dk_182 0 17 (dk_at dksX6_make_0 8 rfl rfl)
theorem dX6_make_11 : decode cX6_make 11 = .ok (.lookupswitch 253 #[(97926, 211), (104987, 139), (108124, 125), (3417674, 153), (3496916, 196), (3526482, 167), (3568438, 241), (95849015, 111), (98623252, 97), (106006350, 226), (109327119, 181)], 97) := by decide +kernel
theorem dX6_make_108 : decode cX6_make 108 = .ok (.aload_n 2, 1) := dk_44 (dk_at dksX6_make_2 0 rfl rfl)
theorem dX6_make_109 : decode cX6_make 109 = .ok (.ldc 23, 2) := dk_18 23 (dk_at dksX6_make_2 1 rfl rfl)
theorem dX6_make_111 : decode cX6_make 111 = .ok (.invokevirtual 25, 3) := dk_182 0 25 (dk_at dksX6_make_2 3 rfl rfl)
theorem dX6_make_114 : decode cX6_make 114 = .ok (.ifCond .eq 150, 3) := dk_153 0 150 (dk_at dksX6_make_2 6 rfl rfl)
theorem dX6_make_117 : decode cX6_make 117 = .ok (.iconst 0, 1) := dk_3 (dk_at dksX6_make_2 9 rfl rfl)
theorem dX6_make_118 : decode cX6_make 118 = .ok (.istore_n 3, 1) := dk_62 (dk_at dksX6_make_2 10 rfl rfl)
theorem dX6_make_119 : decode cX6_make 119 = .ok (.goto 145, 3) := dk_167 0 145 (dk_at dksX6_make_2 11 rfl rfl)
theorem dX6_make_122 : decode cX6_make 122 = .ok (.aload_n 2, 1) := dk_44 (dk_at dksX6_make_2 14 rfl rfl)
theorem dX6_make_123 : decode cX6_make 123 = .ok (.ldc 33, 2) := dk_18 33 (dk_at dksX6_make_2 15 rfl rfl)
theorem dX6_make_125 : decode cX6_make 125 = .ok (.invokevirtual 25, 3) := dk_182 0 25 (dk_at dksX6_make_2 17 rfl rfl)
theorem dX6_make_128 : decode cX6_make 128 = .ok (.ifCond .eq 136, 3) := dk_153 0 136 (dk_at dksX6_make_2 20 rfl rfl)
theorem dX6_make_131 : decode cX6_make 131 = .ok (.iconst 1, 1) := dk_4 (dk_at dksX6_make_2 23 rfl rfl)
theorem dX6_make_132 : decode cX6_make 132 = .ok (.istore_n 3, 1) := dk_62 (dk_at dksX6_make_3 0 rfl rfl)
theorem dX6_make_133 : decode cX6_make 133 = .ok (.goto 131, 3) := dk_167 0 131 (dk_at dksX6_make_3 1 rfl rfl)
theorem dX6_make_136 : decode cX6_make 136 = .ok (.aload_n 2, 1) := dk_44 (dk_at dksX6_make_3 4 rfl rfl)
theorem dX6_make_137 : decode cX6_make 137 = .ok (.ldc 29, 2) := dk_18 29 (dk_at dksX6_make_3 5 rfl rfl)
theorem dX6_make_139 : decode cX6_make 139 = .ok (.invokevirtual 25, 3) := dk_182 0 25 (dk_at dksX6_make_3 7 rfl rfl)
theorem dX6_make_142 : decode cX6_make 142 = .ok (.ifCond .eq 122, 3) := dk_153 0 122 (dk_at dksX6_make_3 10 rfl rfl)
theorem dX6_make_145 : decode cX6_make 145 = .ok (.iconst 2, 1) := dk_5 (dk_at dksX6_make_3 13 rfl rfl)
theorem dX6_make_146 : decode cX6_make 146 = .ok (.istore_n 3, 1) := dk_62 (dk_at dksX6_make_3 14 rfl rfl)
theorem dX6_make_147 : decode cX6_make 147 = .ok (.goto 117, 3) := dk_167 0 117 (dk_at dksX6_make_3 15 rfl rfl)
theorem dX6_make_150 : decode cX6_make 150 = .ok (.aload_n 2, 1) := dk_44 (dk_at dksX6_make_3 18 rfl rfl)
theorem dX6_make_151 : decode cX6_make 151 = .ok (.ldc 31, 2) := dk_18 31 (dk_at dksX6_make_3 19 rfl rfl)
theorem dX6_make_153 : decode cX6_make 153 = .ok (.invokevirtual 25, 3) := dk_182 0 25 (dk_at dksX6_make_3 21 rfl rfl)
theorem dX6_make_156 : decode cX6_make 156 = .ok (.ifCond .eq 108, 3) := dk_153 0 108 (dk_at dksX6_make_4 0 rfl rfl)
theorem dX6_make_159 : decode cX6_make 159 = .ok (.iconst 3, 1) := dk_6 (dk_at dksX6_make_4 3 rfl rfl)
theorem dX6_make_160 : decode cX6_make 160 = .ok (.istore_n 3, 1) := dk_62 (dk_at dksX6_make_4 4 rfl rfl)
theorem dX6_make_161 : decode cX6_make 161 = .ok (.goto 103, 3) := dk_167 0 103 (dk_at dksX6_make_4 5 rfl rfl)
theorem dX6_make_164 : decode cX6_make 164 = .ok (.aload_n 2, 1) := dk_44 (dk_at dksX6_make_4 8 rfl rfl)
theorem dX6_make_165 : decode cX6_make 165 = .ok (.ldc 35, 2) := dk_18 35 (dk_at dksX6_make_4 9 rfl rfl)
theorem dX6_make_167 : decode cX6_make 167 = .ok (.invokevirtual 25, 3) := dk_182 0 25 (dk_at dksX6_make_4 11 rfl rfl)
theorem dX6_make_170 : decode cX6_make 170 = .ok (.ifCond .eq 94, 3) := dk_153 0 94 (dk_at dksX6_make_4 14 rfl rfl)
theorem dX6_make_173 : decode cX6_make 173 = .ok (.iconst 4, 1) := dk_7 (dk_at dksX6_make_4 17 rfl rfl)
theorem dX6_make_174 : decode cX6_make 174 = .ok (.istore_n 3, 1) := dk_62 (dk_at dksX6_make_4 18 rfl rfl)
theorem dX6_make_175 : decode cX6_make 175 = .ok (.goto 89, 3) := dk_167 0 89 (dk_at dksX6_make_4 19 rfl rfl)
theorem dX6_make_178 : decode cX6_make 178 = .ok (.aload_n 2, 1) := dk_44 (dk_at dksX6_make_4 22 rfl rfl)
theorem dX6_make_179 : decode cX6_make 179 = .ok (.ldc 37, 2) := dk_18 37 (dk_at dksX6_make_5 0 rfl rfl)
theorem dX6_make_181 : decode cX6_make 181 = .ok (.invokevirtual 25, 3) := dk_182 0 25 (dk_at dksX6_make_5 2 rfl rfl)
theorem dX6_make_184 : decode cX6_make 184 = .ok (.ifCond .eq 80, 3) := dk_153 0 80 (dk_at dksX6_make_5 5 rfl rfl)
theorem dX6_make_187 : decode cX6_make 187 = .ok (.iconst 5, 1) := dk_8 (dk_at dksX6_make_5 8 rfl rfl)
theorem dX6_make_188 : decode cX6_make 188 = .ok (.istore_n 3, 1) := dk_62 (dk_at dksX6_make_5 9 rfl rfl)
theorem dX6_make_189 : decode cX6_make 189 = .ok (.goto 75, 3) := dk_167 0 75 (dk_at dksX6_make_5 10 rfl rfl)
theorem dX6_make_192 : decode cX6_make 192 = .ok (.aload_n 2, 1) := dk_44 (dk_at dksX6_make_5 13 rfl rfl)
theorem dX6_make_193 : decode cX6_make 193 = .ok (.ldc 39, 2) := dk_18 39 (dk_at dksX6_make_5 14 rfl rfl)
theorem dX6_make_195 : decode cX6_make 195 = .ok (.invokevirtual 25, 3) := dk_182 0 25 (dk_at dksX6_make_5 16 rfl rfl)
theorem dX6_make_198 : decode cX6_make 198 = .ok (.ifCond .eq 66, 3) := dk_153 0 66 (dk_at dksX6_make_5 19 rfl rfl)
theorem dX6_make_201 : decode cX6_make 201 = .ok (.bipush 6, 2) := dk_16 6 (dk_at dksX6_make_5 22 rfl rfl)
theorem dX6_make_203 : decode cX6_make 203 = .ok (.istore_n 3, 1) := dk_62 (dk_at dksX6_make_6 0 rfl rfl)
theorem dX6_make_204 : decode cX6_make 204 = .ok (.goto 60, 3) := dk_167 0 60 (dk_at dksX6_make_6 1 rfl rfl)
theorem dX6_make_207 : decode cX6_make 207 = .ok (.aload_n 2, 1) := dk_44 (dk_at dksX6_make_6 4 rfl rfl)
theorem dX6_make_208 : decode cX6_make 208 = .ok (.ldc 41, 2) := dk_18 41 (dk_at dksX6_make_6 5 rfl rfl)
theorem dX6_make_210 : decode cX6_make 210 = .ok (.invokevirtual 25, 3) := dk_182 0 25 (dk_at dksX6_make_6 7 rfl rfl)
theorem dX6_make_213 : decode cX6_make 213 = .ok (.ifCond .eq 51, 3) := dk_153 0 51 (dk_at dksX6_make_6 10 rfl rfl)
theorem dX6_make_216 : decode cX6_make 216 = .ok (.bipush 7, 2) := dk_16 7 (dk_at dksX6_make_6 13 rfl rfl)
theorem dX6_make_218 : decode cX6_make 218 = .ok (.istore_n 3, 1) := dk_62 (dk_at dksX6_make_6 15 rfl rfl)
theorem dX6_make_219 : decode cX6_make 219 = .ok (.goto 45, 3) := dk_167 0 45 (dk_at dksX6_make_6 16 rfl rfl)
theorem dX6_make_222 : decode cX6_make 222 = .ok (.aload_n 2, 1) := dk_44 (dk_at dksX6_make_6 19 rfl rfl)
theorem dX6_make_223 : decode cX6_make 223 = .ok (.ldc 43, 2) := dk_18 43 (dk_at dksX6_make_6 20 rfl rfl)
theorem dX6_make_225 : decode cX6_make 225 = .ok (.invokevirtual 25, 3) := dk_182 0 25 (dk_at dksX6_make_7 0 rfl rfl)
theorem dX6_make_228 : decode cX6_make 228 = .ok (.ifCond .eq 36, 3) := dk_153 0 36 (dk_at dksX6_make_7 3 rfl rfl)
theorem dX6_make_231 : decode cX6_make 231 = .ok (.bipush 8, 2) := dk_16 8 (dk_at dksX6_make_7 6 rfl rfl)
theorem dX6_make_233 : decode cX6_make 233 = .ok (.istore_n 3, 1) := dk_62 (dk_at dksX6_make_7 8 rfl rfl)
theorem dX6_make_234 : decode cX6_make 234 = .ok (.goto 30, 3) := dk_167 0 30 (dk_at dksX6_make_7 9 rfl rfl)
theorem dX6_make_237 : decode cX6_make 237 = .ok (.aload_n 2, 1) := dk_44 (dk_at dksX6_make_7 12 rfl rfl)
theorem dX6_make_238 : decode cX6_make 238 = .ok (.ldc 45, 2) := dk_18 45 (dk_at dksX6_make_7 13 rfl rfl)
theorem dX6_make_240 : decode cX6_make 240 = .ok (.invokevirtual 25, 3) := dk_182 0 25 (dk_at dksX6_make_7 15 rfl rfl)
theorem dX6_make_243 : decode cX6_make 243 = .ok (.ifCond .eq 21, 3) := dk_153 0 21 (dk_at dksX6_make_7 18 rfl rfl)
theorem dX6_make_246 : decode cX6_make 246 = .ok (.bipush 9, 2) := dk_16 9 (dk_at dksX6_make_7 21 rfl rfl)
theorem dX6_make_248 : decode cX6_make 248 = .ok (.istore_n 3, 1) := dk_62 (dk_at dksX6_make_7 23 rfl rfl)
theorem dX6_make_249 : decode cX6_make 249 = .ok (.goto 15, 3) := dk_167 0 15 (dk_at dksX6_make_8 0 rfl rfl)
theorem dX6_make_252 : decode cX6_make 252 = .ok (.aload_n 2, 1) := dk_44 (dk_at dksX6_make_8 3 rfl rfl)
theorem dX6_make_253 : decode cX6_make 253 = .ok (.ldc 47, 2) := dk_18 47 (dk_at dksX6_make_8 4 rfl rfl)
theorem dX6_make_255 : decode cX6_make 255 = .ok (.invokevirtual 25, 3) := dk_182 0 25 (dk_at dksX6_make_8 6 rfl rfl)
theorem dX6_make_258 : decode cX6_make 258 = .ok (.ifCond .eq 6, 3) := dk_153 0 6 (dk_at dksX6_make_8 9 rfl rfl)
theorem dX6_make_261 : decode cX6_make 261 = .ok (.bipush 10, 2) := dk_16 10 (dk_at dksX6_make_8 12 rfl rfl)
theorem dX6_make_263 : decode cX6_make 263 = .ok (.istore_n 3, 1) := dk_62 (dk_at dksX6_make_8 14 rfl rfl)
theorem dX6_make_264 : decode cX6_make 264 = .ok (.iload_n 3, 1) := dk_29 (dk_at dksX6_make_8 15 rfl rfl)
theorem dX6_make_265 : decode cX6_make 265 = .ok (.tableswitch 234 0 10 #[59, 100, 111, 128, 145, 156, 167, 178, 189, 206, 223], 59) := by decide +kernel
theorem dX6_make_324 : decode cX6_make 324 = .ok (.aload_n 1, 1) := dk_43 (dk_at dksX6_make_10 0 rfl rfl)
theorem dX6_make_325 : decode cX6_make 325 = .ok (.aload_n 0, 1) := dk_42 (dk_at dksX6_make_10 1 rfl rfl)
theorem dX6_make_326 : decode cX6_make 326 = .ok (.getfield 13, 3) := dk_180 0 13 (dk_at dksX6_make_10 2 rfl rfl)
theorem dX6_make_329 : decode cX6_make 329 = .ok (.iconst 0, 1) := dk_3 (dk_at dksX6_make_10 5 rfl rfl)
theorem dX6_make_330 : decode cX6_make 330 = .ok (.iaload, 1) := dk_46 (dk_at dksX6_make_10 6 rfl rfl)
theorem dX6_make_331 : decode cX6_make 331 = .ok (.iconst 3, 1) := dk_6 (dk_at dksX6_make_10 7 rfl rfl)
theorem dX6_make_332 : decode cX6_make 332 = .ok (.newarray .int, 2) := dk_188_10 (dk_at dksX6_make_10 8 rfl rfl)
theorem dX6_make_334 : decode cX6_make 334 = .ok (.dup, 1) := dk_89 (dk_at dksX6_make_10 10 rfl rfl)
theorem dX6_make_335 : decode cX6_make 335 = .ok (.iconst 0, 1) := dk_3 (dk_at dksX6_make_10 11 rfl rfl)
theorem dX6_make_336 : decode cX6_make 336 = .ok (.aload_n 0, 1) := dk_42 (dk_at dksX6_make_10 12 rfl rfl)
theorem dX6_make_337 : decode cX6_make 337 = .ok (.getfield 13, 3) := dk_180 0 13 (dk_at dksX6_make_10 13 rfl rfl)
theorem dX6_make_340 : decode cX6_make 340 = .ok (.iconst 1, 1) := dk_4 (dk_at dksX6_make_10 16 rfl rfl)
theorem dX6_make_341 : decode cX6_make 341 = .ok (.iaload, 1) := dk_46 (dk_at dksX6_make_10 17 rfl rfl)
theorem dX6_make_342 : decode cX6_make 342 = .ok (.iastore, 1) := dk_79 (dk_at dksX6_make_10 18 rfl rfl)
theorem dX6_make_343 : decode cX6_make 343 = .ok (.dup, 1) := dk_89 (dk_at dksX6_make_10 19 rfl rfl)
theorem dX6_make_344 : decode cX6_make 344 = .ok (.iconst 1, 1) := dk_4 (dk_at dksX6_make_10 20 rfl rfl)
theorem dX6_make_345 : decode cX6_make 345 = .ok (.aload_n 0, 1) := dk_42 (dk_at dksX6_make_10 21 rfl rfl)
theorem dX6_make_346 : decode cX6_make 346 = .ok (.getfield 13, 3) := dk_180 0 13 (dk_at dksX6_make_11 0 rfl rfl)
theorem dX6_make_349 : decode cX6_make 349 = .ok (.iconst 2, 1) := dk_5 (dk_at dksX6_make_11 3 rfl rfl)
theorem dX6_make_350 : decode cX6_make 350 = .ok (.iaload, 1) := dk_46 (dk_at dksX6_make_11 4 rfl rfl)
theorem dX6_make_351 : decode cX6_make 351 = .ok (.iastore, 1) := dk_79 (dk_at dksX6_make_11 5 rfl rfl)
theorem dX6_make_352 : decode cX6_make 352 = .ok (.dup, 1) := dk_89 (dk_at dksX6_make_11 6 rfl rfl)
theorem dX6_make_353 : decode cX6_make 353 = .ok (.iconst 2, 1) := dk_5 (dk_at dksX6_make_11 7 rfl rfl)
theorem dX6_make_354 : decode cX6_make 354 = .ok (.aload_n 0, 1) := dk_42 (dk_at dksX6_make_11 8 rfl rfl)
theorem dX6_make_355 : decode cX6_make 355 = .ok (.getfield 13, 3) := dk_180 0 13 (dk_at dksX6_make_11 9 rfl rfl)
theorem dX6_make_358 : decode cX6_make 358 = .ok (.iconst 3, 1) := dk_6 (dk_at dksX6_make_11 12 rfl rfl)
theorem dX6_make_359 : decode cX6_make 359 = .ok (.iaload, 1) := dk_46 (dk_at dksX6_make_11 13 rfl rfl)
theorem dX6_make_360 : decode cX6_make 360 = .ok (.iastore, 1) := dk_79 (dk_at dksX6_make_11 14 rfl rfl)
theorem dX6_make_361 : decode cX6_make 361 = .ok (.invokevirtual 49, 3) := dk_182 0 49 (dk_at dksX6_make_11 15 rfl rfl)
theorem dX6_make_364 : decode cX6_make 364 = .ok (.ireturn, 1) := dk_172 (dk_at dksX6_make_11 18 rfl rfl)
theorem dX6_make_365 : decode cX6_make 365 = .ok (.aload_n 1, 1) := dk_43 (dk_at dksX6_make_11 19 rfl rfl)
theorem dX6_make_366 : decode cX6_make 366 = .ok (.aload_n 0, 1) := dk_42 (dk_at dksX6_make_11 20 rfl rfl)
theorem dX6_make_367 : decode cX6_make 367 = .ok (.getfield 13, 3) := dk_180 0 13 (dk_at dksX6_make_11 21 rfl rfl)
theorem dX6_make_370 : decode cX6_make 370 = .ok (.iconst 0, 1) := dk_3 (dk_at dksX6_make_12 0 rfl rfl)
theorem dX6_make_371 : decode cX6_make 371 = .ok (.iaload, 1) := dk_46 (dk_at dksX6_make_12 1 rfl rfl)
theorem dX6_make_372 : decode cX6_make 372 = .ok (.invokevirtual 54, 3) := dk_182 0 54 (dk_at dksX6_make_12 2 rfl rfl)
theorem dX6_make_375 : decode cX6_make 375 = .ok (.ireturn, 1) := dk_172 (dk_at dksX6_make_12 5 rfl rfl)
theorem dX6_make_376 : decode cX6_make 376 = .ok (.aload_n 1, 1) := dk_43 (dk_at dksX6_make_12 6 rfl rfl)
theorem dX6_make_377 : decode cX6_make 377 = .ok (.aload_n 0, 1) := dk_42 (dk_at dksX6_make_12 7 rfl rfl)
theorem dX6_make_378 : decode cX6_make 378 = .ok (.getfield 13, 3) := dk_180 0 13 (dk_at dksX6_make_12 8 rfl rfl)
theorem dX6_make_381 : decode cX6_make 381 = .ok (.iconst 0, 1) := dk_3 (dk_at dksX6_make_12 11 rfl rfl)
theorem dX6_make_382 : decode cX6_make 382 = .ok (.iaload, 1) := dk_46 (dk_at dksX6_make_12 12 rfl rfl)
theorem dX6_make_383 : decode cX6_make 383 = .ok (.aload_n 0, 1) := dk_42 (dk_at dksX6_make_12 13 rfl rfl)
theorem dX6_make_384 : decode cX6_make 384 = .ok (.getfield 13, 3) := dk_180 0 13 (dk_at dksX6_make_12 14 rfl rfl)
theorem dX6_make_387 : decode cX6_make 387 = .ok (.iconst 1, 1) := dk_4 (dk_at dksX6_make_12 17 rfl rfl)
theorem dX6_make_388 : decode cX6_make 388 = .ok (.iaload, 1) := dk_46 (dk_at dksX6_make_12 18 rfl rfl)
theorem dX6_make_389 : decode cX6_make 389 = .ok (.invokevirtual 57, 3) := dk_182 0 57 (dk_at dksX6_make_12 19 rfl rfl)
theorem dX6_make_392 : decode cX6_make 392 = .ok (.ireturn, 1) := dk_172 (dk_at dksX6_make_12 22 rfl rfl)
theorem dX6_make_393 : decode cX6_make 393 = .ok (.aload_n 1, 1) := dk_43 (dk_at dksX6_make_12 23 rfl rfl)
theorem dX6_make_394 : decode cX6_make 394 = .ok (.aload_n 0, 1) := dk_42 (dk_at dksX6_make_13 0 rfl rfl)
theorem dX6_make_395 : decode cX6_make 395 = .ok (.getfield 13, 3) := dk_180 0 13 (dk_at dksX6_make_13 1 rfl rfl)
theorem dX6_make_398 : decode cX6_make 398 = .ok (.iconst 0, 1) := dk_3 (dk_at dksX6_make_13 4 rfl rfl)
theorem dX6_make_399 : decode cX6_make 399 = .ok (.iaload, 1) := dk_46 (dk_at dksX6_make_13 5 rfl rfl)
theorem dX6_make_400 : decode cX6_make 400 = .ok (.aload_n 0, 1) := dk_42 (dk_at dksX6_make_13 6 rfl rfl)
theorem dX6_make_401 : decode cX6_make 401 = .ok (.getfield 13, 3) := dk_180 0 13 (dk_at dksX6_make_13 7 rfl rfl)
theorem dX6_make_404 : decode cX6_make 404 = .ok (.iconst 1, 1) := dk_4 (dk_at dksX6_make_13 10 rfl rfl)
theorem dX6_make_405 : decode cX6_make 405 = .ok (.iaload, 1) := dk_46 (dk_at dksX6_make_13 11 rfl rfl)
theorem dX6_make_406 : decode cX6_make 406 = .ok (.invokevirtual 60, 3) := dk_182 0 60 (dk_at dksX6_make_13 12 rfl rfl)
theorem dX6_make_409 : decode cX6_make 409 = .ok (.ireturn, 1) := dk_172 (dk_at dksX6_make_13 15 rfl rfl)
theorem dX6_make_410 : decode cX6_make 410 = .ok (.aload_n 1, 1) := dk_43 (dk_at dksX6_make_13 16 rfl rfl)
theorem dX6_make_411 : decode cX6_make 411 = .ok (.aload_n 0, 1) := dk_42 (dk_at dksX6_make_13 17 rfl rfl)
theorem dX6_make_412 : decode cX6_make 412 = .ok (.getfield 13, 3) := dk_180 0 13 (dk_at dksX6_make_13 18 rfl rfl)
theorem dX6_make_415 : decode cX6_make 415 = .ok (.iconst 0, 1) := dk_3 (dk_at dksX6_make_13 21 rfl rfl)
theorem dX6_make_416 : decode cX6_make 416 = .ok (.iaload, 1) := dk_46 (dk_at dksX6_make_13 22 rfl rfl)
theorem dX6_make_417 : decode cX6_make 417 = .ok (.invokevirtual 63, 3) := dk_182 0 63 (dk_at dksX6_make_14 0 rfl rfl)
theorem dX6_make_420 : decode cX6_make 420 = .ok (.ireturn, 1) := dk_172 (dk_at dksX6_make_14 3 rfl rfl)
theorem dX6_make_421 : decode cX6_make 421 = .ok (.aload_n 1, 1) := dk_43 (dk_at dksX6_make_14 4 rfl rfl)
theorem dX6_make_422 : decode cX6_make 422 = .ok (.aload_n 0, 1) := dk_42 (dk_at dksX6_make_14 5 rfl rfl)
theorem dX6_make_423 : decode cX6_make 423 = .ok (.getfield 13, 3) := dk_180 0 13 (dk_at dksX6_make_14 6 rfl rfl)
theorem dX6_make_426 : decode cX6_make 426 = .ok (.iconst 0, 1) := dk_3 (dk_at dksX6_make_14 9 rfl rfl)
theorem dX6_make_427 : decode cX6_make 427 = .ok (.iaload, 1) := dk_46 (dk_at dksX6_make_14 10 rfl rfl)
theorem dX6_make_428 : decode cX6_make 428 = .ok (.invokevirtual 65, 3) := dk_182 0 65 (dk_at dksX6_make_14 11 rfl rfl)
theorem dX6_make_431 : decode cX6_make 431 = .ok (.ireturn, 1) := dk_172 (dk_at dksX6_make_14 14 rfl rfl)
theorem dX6_make_432 : decode cX6_make 432 = .ok (.aload_n 1, 1) := dk_43 (dk_at dksX6_make_14 15 rfl rfl)
theorem dX6_make_433 : decode cX6_make 433 = .ok (.aload_n 0, 1) := dk_42 (dk_at dksX6_make_14 16 rfl rfl)
theorem dX6_make_434 : decode cX6_make 434 = .ok (.getfield 13, 3) := dk_180 0 13 (dk_at dksX6_make_14 17 rfl rfl)
theorem dX6_make_437 : decode cX6_make 437 = .ok (.iconst 0, 1) := dk_3 (dk_at dksX6_make_14 20 rfl rfl)
theorem dX6_make_438 : decode cX6_make 438 = .ok (.iaload, 1) := dk_46 (dk_at dksX6_make_14 21 rfl rfl)
theorem dX6_make_439 : decode cX6_make 439 = .ok (.invokevirtual 67, 3) := dk_182 0 67 (dk_at dksX6_make_15 0 rfl rfl)
theorem dX6_make_442 : decode cX6_make 442 = .ok (.ireturn, 1) := dk_172 (dk_at dksX6_make_15 3 rfl rfl)
theorem dX6_make_443 : decode cX6_make 443 = .ok (.aload_n 1, 1) := dk_43 (dk_at dksX6_make_15 4 rfl rfl)
theorem dX6_make_444 : decode cX6_make 444 = .ok (.aload_n 0, 1) := dk_42 (dk_at dksX6_make_15 5 rfl rfl)
theorem dX6_make_445 : decode cX6_make 445 = .ok (.getfield 13, 3) := dk_180 0 13 (dk_at dksX6_make_15 6 rfl rfl)
theorem dX6_make_448 : decode cX6_make 448 = .ok (.iconst 0, 1) := dk_3 (dk_at dksX6_make_15 9 rfl rfl)
theorem dX6_make_449 : decode cX6_make 449 = .ok (.iaload, 1) := dk_46 (dk_at dksX6_make_15 10 rfl rfl)
theorem dX6_make_450 : decode cX6_make 450 = .ok (.invokevirtual 69, 3) := dk_182 0 69 (dk_at dksX6_make_15 11 rfl rfl)
theorem dX6_make_453 : decode cX6_make 453 = .ok (.ireturn, 1) := dk_172 (dk_at dksX6_make_15 14 rfl rfl)
theorem dX6_make_454 : decode cX6_make 454 = .ok (.aload_n 1, 1) := dk_43 (dk_at dksX6_make_15 15 rfl rfl)
theorem dX6_make_455 : decode cX6_make 455 = .ok (.aload_n 0, 1) := dk_42 (dk_at dksX6_make_15 16 rfl rfl)
theorem dX6_make_456 : decode cX6_make 456 = .ok (.getfield 13, 3) := dk_180 0 13 (dk_at dksX6_make_15 17 rfl rfl)
theorem dX6_make_459 : decode cX6_make 459 = .ok (.iconst 0, 1) := dk_3 (dk_at dksX6_make_15 20 rfl rfl)
theorem dX6_make_460 : decode cX6_make 460 = .ok (.iaload, 1) := dk_46 (dk_at dksX6_make_15 21 rfl rfl)
theorem dX6_make_461 : decode cX6_make 461 = .ok (.aload_n 0, 1) := dk_42 (dk_at dksX6_make_15 22 rfl rfl)
theorem dX6_make_462 : decode cX6_make 462 = .ok (.getfield 13, 3) := dk_180 0 13 (dk_at dksX6_make_16 0 rfl rfl)
theorem dX6_make_465 : decode cX6_make 465 = .ok (.iconst 1, 1) := dk_4 (dk_at dksX6_make_16 3 rfl rfl)
theorem dX6_make_466 : decode cX6_make 466 = .ok (.iaload, 1) := dk_46 (dk_at dksX6_make_16 4 rfl rfl)
theorem dX6_make_467 : decode cX6_make 467 = .ok (.invokevirtual 71, 3) := dk_182 0 71 (dk_at dksX6_make_16 5 rfl rfl)
theorem dX6_make_470 : decode cX6_make 470 = .ok (.ireturn, 1) := dk_172 (dk_at dksX6_make_16 8 rfl rfl)
theorem dX6_make_471 : decode cX6_make 471 = .ok (.aload_n 1, 1) := dk_43 (dk_at dksX6_make_16 9 rfl rfl)
theorem dX6_make_472 : decode cX6_make 472 = .ok (.aload_n 0, 1) := dk_42 (dk_at dksX6_make_16 10 rfl rfl)
theorem dX6_make_473 : decode cX6_make 473 = .ok (.getfield 13, 3) := dk_180 0 13 (dk_at dksX6_make_16 11 rfl rfl)
theorem dX6_make_476 : decode cX6_make 476 = .ok (.iconst 0, 1) := dk_3 (dk_at dksX6_make_16 14 rfl rfl)
theorem dX6_make_477 : decode cX6_make 477 = .ok (.iaload, 1) := dk_46 (dk_at dksX6_make_16 15 rfl rfl)
theorem dX6_make_478 : decode cX6_make 478 = .ok (.aload_n 0, 1) := dk_42 (dk_at dksX6_make_16 16 rfl rfl)
theorem dX6_make_479 : decode cX6_make 479 = .ok (.getfield 13, 3) := dk_180 0 13 (dk_at dksX6_make_16 17 rfl rfl)
theorem dX6_make_482 : decode cX6_make 482 = .ok (.iconst 1, 1) := dk_4 (dk_at dksX6_make_16 20 rfl rfl)
theorem dX6_make_483 : decode cX6_make 483 = .ok (.iaload, 1) := dk_46 (dk_at dksX6_make_16 21 rfl rfl)
theorem dX6_make_484 : decode cX6_make 484 = .ok (.invokevirtual 73, 3) := dk_182 0 73 (dk_at dksX6_make_17 0 rfl rfl)
theorem dX6_make_487 : decode cX6_make 487 = .ok (.ireturn, 1) := dk_172 (dk_at dksX6_make_17 3 rfl rfl)
theorem dX6_make_488 : decode cX6_make 488 = .ok (.aload_n 1, 1) := dk_43 (dk_at dksX6_make_17 4 rfl rfl)
theorem dX6_make_489 : decode cX6_make 489 = .ok (.aload_n 0, 1) := dk_42 (dk_at dksX6_make_17 5 rfl rfl)
theorem dX6_make_490 : decode cX6_make 490 = .ok (.getfield 13, 3) := dk_180 0 13 (dk_at dksX6_make_17 6 rfl rfl)
theorem dX6_make_493 : decode cX6_make 493 = .ok (.iconst 0, 1) := dk_3 (dk_at dksX6_make_17 9 rfl rfl)
theorem dX6_make_494 : decode cX6_make 494 = .ok (.iaload, 1) := dk_46 (dk_at dksX6_make_17 10 rfl rfl)
theorem dX6_make_495 : decode cX6_make 495 = .ok (.invokevirtual 75, 3) := dk_182 0 75 (dk_at dksX6_make_17 11 rfl rfl)
theorem dX6_make_498 : decode cX6_make 498 = .ok (.ireturn, 1) := dk_172 (dk_at dksX6_make_17 14 rfl rfl)
theorem dX6_make_499 : decode cX6_make 499 = .ok (.aload_n 1, 1) := dk_43 (dk_at dksX6_make_17 15 rfl rfl)
theorem dX6_make_500 : decode cX6_make 500 = .ok (.aload_n 0, 1) := dk_42 (dk_at dksX6_make_17 16 rfl rfl)
theorem dX6_make_501 : decode cX6_make 501 = .ok (.getfield 13, 3) := dk_180 0 13 (dk_at dksX6_make_17 17 rfl rfl)
theorem dX6_make_504 : decode cX6_make 504 = .ok (.iconst 0, 1) := dk_3 (dk_at dksX6_make_17 20 rfl rfl)
theorem dX6_make_505 : decode cX6_make 505 = .ok (.iaload, 1) := dk_46 (dk_at dksX6_make_17 21 rfl rfl)
theorem dX6_make_506 : decode cX6_make 506 = .ok (.aload_n 0, 1) := dk_42 (dk_at dksX6_make_17 22 rfl rfl)
theorem dX6_make_507 : decode cX6_make 507 = .ok (.getfield 13, 3) := dk_180 0 13 (dk_at dksX6_make_18 0 rfl rfl)
theorem dX6_make_510 : decode cX6_make 510 = .ok (.iconst 1, 1) := dk_4 (dk_at dksX6_make_18 3 rfl rfl)
theorem dX6_make_511 : decode cX6_make 511 = .ok (.iaload, 1) := dk_46 (dk_at dksX6_make_18 4 rfl rfl)
theorem dX6_make_512 : decode cX6_make 512 = .ok (.aload_n 0, 1) := dk_42 (dk_at dksX6_make_18 5 rfl rfl)
theorem dX6_make_513 : decode cX6_make 513 = .ok (.getfield 13, 3) := dk_180 0 13 (dk_at dksX6_make_18 6 rfl rfl)
theorem dX6_make_516 : decode cX6_make 516 = .ok (.iconst 2, 1) := dk_5 (dk_at dksX6_make_18 9 rfl rfl)
theorem dX6_make_517 : decode cX6_make 517 = .ok (.iaload, 1) := dk_46 (dk_at dksX6_make_18 10 rfl rfl)
theorem dX6_make_518 : decode cX6_make 518 = .ok (.invokevirtual 78, 3) := dk_182 0 78 (dk_at dksX6_make_18 11 rfl rfl)
theorem dX6_make_521 : decode cX6_make 521 = .ok (.ireturn, 1) := dk_172 (dk_at dksX6_make_18 14 rfl rfl)
abbrev cX6_numbersOf : ByteArray := prog_3_method_2_code
def yX6_numbersOf : MethodName := ⟨RX6, "numbersOf", "(Ljava/lang/String;)I"⟩
def dkwX6_numbersOf_5 : List UInt8 := [7, 172, 5, 172, 4, 172]
abbrev dktX6_numbersOf_5 : List UInt8 := dkwX6_numbersOf_5 ++ []
def dkwX6_numbersOf_4 : List UInt8 := [170, 0, 0, 0, 0, 0, 0, 32, 0, 0, 0, 0, 0, 0, 0, 2, 0, 0, 0, 28, 0, 0, 0, 30, 0, 0, 0, 30]
abbrev dktX6_numbersOf_4 : List UInt8 := dkwX6_numbersOf_4 ++ dktX6_numbersOf_5
def dkwX6_numbersOf_3 : List UInt8 := [61, 167, 0, 14, 43, 18, 31, 182, 0, 25, 153, 0, 5, 5, 61, 28]
abbrev dktX6_numbersOf_3 : List UInt8 := dkwX6_numbersOf_3 ++ dktX6_numbersOf_4
def dkwX6_numbersOf_2 : List UInt8 := [43, 18, 23, 182, 0, 25, 153, 0, 33, 3, 61, 167, 0, 28, 43, 18, 29, 182, 0, 25, 153, 0, 19, 4]
abbrev dktX6_numbersOf_2 : List UInt8 := dkwX6_numbersOf_2 ++ dktX6_numbersOf_3
def dkwX6_numbersOf_1 : List UInt8 := [171, 0, 0, 0, 0, 0, 0, 75, 0, 0, 0, 3, 0, 1, 154, 27, 0, 0, 0, 64, 0, 1, 166, 92, 0, 0, 0, 50, 5, 224, 223, 20, 0, 0, 0, 36]
abbrev dktX6_numbersOf_1 : List UInt8 := dkwX6_numbersOf_1 ++ dktX6_numbersOf_2
def dkwX6_numbersOf_0 : List UInt8 := [42, 76, 2, 61, 43, 182, 0, 17]
abbrev dktX6_numbersOf_0 : List UInt8 := dkwX6_numbersOf_0 ++ dktX6_numbersOf_1
theorem dksX6_numbersOf_0 : cX6_numbersOf.data.toList.drop 0 = dktX6_numbersOf_0 := by decide +kernel
theorem dksX6_numbersOf_1 : cX6_numbersOf.data.toList.drop 8 = dktX6_numbersOf_1 := dk_seg dksX6_numbersOf_0 8 rfl rfl
theorem dksX6_numbersOf_2 : cX6_numbersOf.data.toList.drop 44 = dktX6_numbersOf_2 := dk_seg dksX6_numbersOf_1 36 rfl rfl
theorem dksX6_numbersOf_3 : cX6_numbersOf.data.toList.drop 68 = dktX6_numbersOf_3 := dk_seg dksX6_numbersOf_2 24 rfl rfl
theorem dksX6_numbersOf_4 : cX6_numbersOf.data.toList.drop 84 = dktX6_numbersOf_4 := dk_seg dksX6_numbersOf_3 16 rfl rfl
theorem dksX6_numbersOf_5 : cX6_numbersOf.data.toList.drop 112 = dktX6_numbersOf_5 := dk_seg dksX6_numbersOf_4 28 rfl rfl
theorem dX6_numbersOf_0 : decode cX6_numbersOf 0 = .ok (.aload_n 0, 1) := dk_42 (dk_at dksX6_numbersOf_0 0 rfl rfl)
theorem dX6_numbersOf_1 : decode cX6_numbersOf 1 = .ok (.astore_n 1, 1) := dk_76 (dk_at dksX6_numbersOf_0 1 rfl rfl)
theorem dX6_numbersOf_2 : decode cX6_numbersOf 2 = .ok (.iconst (-1), 1) := dk_2 (dk_at dksX6_numbersOf_0 2 rfl rfl)
theorem dX6_numbersOf_3 : decode cX6_numbersOf 3 = .ok (.istore_n 2, 1) := dk_61 (dk_at dksX6_numbersOf_0 3 rfl rfl)
theorem dX6_numbersOf_4 : decode cX6_numbersOf 4 = .ok (.aload_n 1, 1) := dk_43 (dk_at dksX6_numbersOf_0 4 rfl rfl)
theorem dX6_numbersOf_5 : decode cX6_numbersOf 5 = .ok (.invokevirtual 17, 3) := dk_182 0 17 (dk_at dksX6_numbersOf_0 5 rfl rfl)
theorem dX6_numbersOf_8 : decode cX6_numbersOf 8 = .ok (.lookupswitch 75 #[(104987, 64), (108124, 50), (98623252, 36)], 36) := by decide +kernel
theorem dX6_numbersOf_44 : decode cX6_numbersOf 44 = .ok (.aload_n 1, 1) := dk_43 (dk_at dksX6_numbersOf_2 0 rfl rfl)
theorem dX6_numbersOf_45 : decode cX6_numbersOf 45 = .ok (.ldc 23, 2) := dk_18 23 (dk_at dksX6_numbersOf_2 1 rfl rfl)
theorem dX6_numbersOf_47 : decode cX6_numbersOf 47 = .ok (.invokevirtual 25, 3) := dk_182 0 25 (dk_at dksX6_numbersOf_2 3 rfl rfl)
theorem dX6_numbersOf_50 : decode cX6_numbersOf 50 = .ok (.ifCond .eq 33, 3) := dk_153 0 33 (dk_at dksX6_numbersOf_2 6 rfl rfl)
theorem dX6_numbersOf_53 : decode cX6_numbersOf 53 = .ok (.iconst 0, 1) := dk_3 (dk_at dksX6_numbersOf_2 9 rfl rfl)
theorem dX6_numbersOf_54 : decode cX6_numbersOf 54 = .ok (.istore_n 2, 1) := dk_61 (dk_at dksX6_numbersOf_2 10 rfl rfl)
theorem dX6_numbersOf_55 : decode cX6_numbersOf 55 = .ok (.goto 28, 3) := dk_167 0 28 (dk_at dksX6_numbersOf_2 11 rfl rfl)
theorem dX6_numbersOf_58 : decode cX6_numbersOf 58 = .ok (.aload_n 1, 1) := dk_43 (dk_at dksX6_numbersOf_2 14 rfl rfl)
theorem dX6_numbersOf_59 : decode cX6_numbersOf 59 = .ok (.ldc 29, 2) := dk_18 29 (dk_at dksX6_numbersOf_2 15 rfl rfl)
theorem dX6_numbersOf_61 : decode cX6_numbersOf 61 = .ok (.invokevirtual 25, 3) := dk_182 0 25 (dk_at dksX6_numbersOf_2 17 rfl rfl)
theorem dX6_numbersOf_64 : decode cX6_numbersOf 64 = .ok (.ifCond .eq 19, 3) := dk_153 0 19 (dk_at dksX6_numbersOf_2 20 rfl rfl)
theorem dX6_numbersOf_67 : decode cX6_numbersOf 67 = .ok (.iconst 1, 1) := dk_4 (dk_at dksX6_numbersOf_2 23 rfl rfl)
theorem dX6_numbersOf_68 : decode cX6_numbersOf 68 = .ok (.istore_n 2, 1) := dk_61 (dk_at dksX6_numbersOf_3 0 rfl rfl)
theorem dX6_numbersOf_69 : decode cX6_numbersOf 69 = .ok (.goto 14, 3) := dk_167 0 14 (dk_at dksX6_numbersOf_3 1 rfl rfl)
theorem dX6_numbersOf_72 : decode cX6_numbersOf 72 = .ok (.aload_n 1, 1) := dk_43 (dk_at dksX6_numbersOf_3 4 rfl rfl)
theorem dX6_numbersOf_73 : decode cX6_numbersOf 73 = .ok (.ldc 31, 2) := dk_18 31 (dk_at dksX6_numbersOf_3 5 rfl rfl)
theorem dX6_numbersOf_75 : decode cX6_numbersOf 75 = .ok (.invokevirtual 25, 3) := dk_182 0 25 (dk_at dksX6_numbersOf_3 7 rfl rfl)
theorem dX6_numbersOf_78 : decode cX6_numbersOf 78 = .ok (.ifCond .eq 5, 3) := dk_153 0 5 (dk_at dksX6_numbersOf_3 10 rfl rfl)
theorem dX6_numbersOf_81 : decode cX6_numbersOf 81 = .ok (.iconst 2, 1) := dk_5 (dk_at dksX6_numbersOf_3 13 rfl rfl)
theorem dX6_numbersOf_82 : decode cX6_numbersOf 82 = .ok (.istore_n 2, 1) := dk_61 (dk_at dksX6_numbersOf_3 14 rfl rfl)
theorem dX6_numbersOf_83 : decode cX6_numbersOf 83 = .ok (.iload_n 2, 1) := dk_28 (dk_at dksX6_numbersOf_3 15 rfl rfl)
theorem dX6_numbersOf_84 : decode cX6_numbersOf 84 = .ok (.tableswitch 32 0 2 #[28, 30, 30], 28) := by decide +kernel
theorem dX6_numbersOf_112 : decode cX6_numbersOf 112 = .ok (.iconst 4, 1) := dk_7 (dk_at dksX6_numbersOf_5 0 rfl rfl)
theorem dX6_numbersOf_113 : decode cX6_numbersOf 113 = .ok (.ireturn, 1) := dk_172 (dk_at dksX6_numbersOf_5 1 rfl rfl)
theorem dX6_numbersOf_114 : decode cX6_numbersOf 114 = .ok (.iconst 2, 1) := dk_5 (dk_at dksX6_numbersOf_5 2 rfl rfl)
theorem dX6_numbersOf_115 : decode cX6_numbersOf 115 = .ok (.ireturn, 1) := dk_172 (dk_at dksX6_numbersOf_5 3 rfl rfl)
theorem dX6_numbersOf_116 : decode cX6_numbersOf 116 = .ok (.iconst 1, 1) := dk_4 (dk_at dksX6_numbersOf_5 4 rfl rfl)
theorem dX6_numbersOf_117 : decode cX6_numbersOf 117 = .ok (.ireturn, 1) := dk_172 (dk_at dksX6_numbersOf_5 5 rfl rfl)
theorem q87 : (Jvm.Cond.initialized "MustardMill$Change") ∈ lw_all := lw_g (lw_at lw_m1 24 rfl) rfl
theorem q841 : (Jvm.Cond.selects "MustardMill$Change" ({ cls := "java/lang/Object", name := "getClass", desc := "()Ljava/lang/Class;" } : Jvm.MethodName) ({ cls := "java/lang/Object", name := "getClass", desc := "()Ljava/lang/Class;" } : Jvm.MethodName)) ∈ lw_all := lw_g (lw_at lw_m4 58 rfl) rfl
theorem q902 : (Jvm.Cond.instantiable "MustardMill$Change" (2 : Nat)) ∈ lw_all := lw_g (lw_at lw_m4 119 rfl) rfl
theorem q904 : (Jvm.Cond.instanceMethod ({ cls := "MustardMill$Change", name := "<init>", desc := "(Ljava/lang/String;[I)V" } : Jvm.MethodName)) ∈ lw_all := lw_g (lw_at lw_m4 121 rfl) rfl
theorem q905 : (Jvm.Cond.code ({ cls := "MustardMill$Change", name := "<init>", desc := "(Ljava/lang/String;[I)V" } : Jvm.MethodName) prog_3_method_1_code (3 : Nat) (Option.none : Option Jvm.ClassFile.FieldType)) ∈ lw_all := lw_g (lw_at lw_m4 122 rfl) rfl
theorem q906 : (Jvm.Cond.methodLink "MustardMill$Change" (1 : Nat) ({ cls := "java/lang/Object", name := "<init>", desc := "()V" } : Jvm.MethodName)) ∈ lw_all := lw_g (lw_at lw_m4 123 rfl) rfl
theorem q907 : (Jvm.Cond.fieldLink "MustardMill$Change" (7 : Nat) "MustardMill$Change" "word" "Ljava/lang/String;") ∈ lw_all := lw_g (lw_at lw_m4 124 rfl) rfl
theorem q908 : (Jvm.Cond.fieldLink "MustardMill$Change" (13 : Nat) "MustardMill$Change" "numbers" "[I") ∈ lw_all := lw_g (lw_at lw_m4 125 rfl) rfl
theorem q909 : (Jvm.Cond.laysFinal "MustardMill$Change" "MustardMill$Change" "word" "Ljava/lang/String;") ∈ lw_all := lw_g (lw_at lw_m4 126 rfl) rfl
theorem q910 : (Jvm.Cond.soleField "MustardMill$Change" "word") ∈ lw_all := lw_g (lw_at lw_m4 127 rfl) rfl
theorem q911 : (Jvm.Cond.laysFinal "MustardMill$Change" "MustardMill$Change" "numbers" "[I") ∈ lw_all := lw_g (lw_at lw_m4 128 rfl) rfl
theorem q912 : (Jvm.Cond.soleField "MustardMill$Change" "numbers") ∈ lw_all := lw_g (lw_at lw_m4 129 rfl) rfl
theorem q913 : (Jvm.Cond.superclass "MustardMill$Change" "java/lang/Object") ∈ lw_all := lw_g (lw_at lw_m4 130 rfl) rfl
theorem q915 : (Jvm.Cond.instanceMethod ({ cls := "MustardMill$Change", name := "make", desc := "(LMustardMill$Mill;)I" } : Jvm.MethodName)) ∈ lw_all := lw_g (lw_at lw_m4 132 rfl) rfl
theorem q916 : (Jvm.Cond.selects "MustardMill$Change" ({ cls := "MustardMill$Change", name := "make", desc := "(LMustardMill$Mill;)I" } : Jvm.MethodName) ({ cls := "MustardMill$Change", name := "make", desc := "(LMustardMill$Mill;)I" } : Jvm.MethodName)) ∈ lw_all := lw_g (lw_at lw_m4 133 rfl) rfl
theorem q917 : (Jvm.Cond.code ({ cls := "MustardMill$Change", name := "make", desc := "(LMustardMill$Mill;)I" } : Jvm.MethodName) prog_3_method_3_code (4 : Nat) (Option.some Jvm.ClassFile.FieldType.int)) ∈ lw_all := lw_g (lw_at lw_m4 134 rfl) rfl
theorem q918 : (Jvm.Cond.methodLink "MustardMill$Change" (17 : Nat) ({ cls := "java/lang/String", name := "hashCode", desc := "()I" } : Jvm.MethodName)) ∈ lw_all := lw_g (lw_at lw_m4 135 rfl) rfl
theorem q975 : (Jvm.Cond.stringRef "MustardMill$Change" (23 : Nat) "grind") ∈ lw_tbl := lw_at lw_m4 192 rfl
theorem q976 : (Jvm.Cond.methodLink "MustardMill$Change" (25 : Nat) ({ cls := "java/lang/String", name := "equals", desc := "(Ljava/lang/Object;)Z" } : Jvm.MethodName)) ∈ lw_all := lw_g (lw_at lw_m4 193 rfl) rfl
theorem q984 : (Jvm.Cond.stringRef "MustardMill$Change" (33 : Nat) "dress") ∈ lw_tbl := lw_at lw_m4 201 rfl
theorem q985 : (Jvm.Cond.stringRef "MustardMill$Change" (29 : Nat) "mix") ∈ lw_tbl := lw_at lw_m4 202 rfl
theorem q986 : (Jvm.Cond.stringRef "MustardMill$Change" (31 : Nat) "jar") ∈ lw_tbl := lw_at lw_m4 203 rfl
theorem q987 : (Jvm.Cond.stringRef "MustardMill$Change" (35 : Nat) "open") ∈ lw_tbl := lw_at lw_m4 204 rfl
theorem q988 : (Jvm.Cond.stringRef "MustardMill$Change" (37 : Nat) "sell") ∈ lw_tbl := lw_at lw_m4 205 rfl
theorem q989 : (Jvm.Cond.stringRef "MustardMill$Change" (39 : Nat) "serve") ∈ lw_tbl := lw_at lw_m4 206 rfl
theorem q990 : (Jvm.Cond.stringRef "MustardMill$Change" (41 : Nat) "rest") ∈ lw_tbl := lw_at lw_m4 207 rfl
theorem q991 : (Jvm.Cond.stringRef "MustardMill$Change" (43 : Nat) "buy") ∈ lw_tbl := lw_at lw_m4 208 rfl
theorem q992 : (Jvm.Cond.stringRef "MustardMill$Change" (45 : Nat) "order") ∈ lw_tbl := lw_at lw_m4 209 rfl
theorem q993 : (Jvm.Cond.stringRef "MustardMill$Change" (47 : Nat) "tray") ∈ lw_tbl := lw_at lw_m4 210 rfl
theorem q994 : (Jvm.Cond.methodLink "MustardMill$Change" (49 : Nat) ({ cls := "MustardMill$Mill", name := "grind", desc := "(I[I)I" } : Jvm.MethodName)) ∈ lw_all := lw_g (lw_at lw_m4 211 rfl) rfl
theorem q1125 : (Jvm.Cond.methodLink "MustardMill$Change" (54 : Nat) ({ cls := "MustardMill$Mill", name := "dress", desc := "(I)I" } : Jvm.MethodName)) ∈ lw_all := lw_g (lw_at lw_m5 102 rfl) rfl
theorem q1133 : (Jvm.Cond.methodLink "MustardMill$Change" (57 : Nat) ({ cls := "MustardMill$Mill", name := "mix", desc := "(II)I" } : Jvm.MethodName)) ∈ lw_all := lw_g (lw_at lw_m5 110 rfl) rfl
theorem q1192 : (Jvm.Cond.methodLink "MustardMill$Change" (60 : Nat) ({ cls := "MustardMill$Mill", name := "fill", desc := "(II)I" } : Jvm.MethodName)) ∈ lw_all := lw_g (lw_at lw_m5 169 rfl) rfl
theorem q1235 : (Jvm.Cond.methodLink "MustardMill$Change" (63 : Nat) ({ cls := "MustardMill$Mill", name := "open", desc := "(I)I" } : Jvm.MethodName)) ∈ lw_all := lw_g (lw_at lw_m5 212 rfl) rfl
theorem q1300 : (Jvm.Cond.methodLink "MustardMill$Change" (65 : Nat) ({ cls := "MustardMill$Mill", name := "sell", desc := "(I)I" } : Jvm.MethodName)) ∈ lw_all := lw_g (lw_at lw_m6 37 rfl) rfl
theorem q1321 : (Jvm.Cond.methodLink "MustardMill$Change" (67 : Nat) ({ cls := "MustardMill$Mill", name := "serve", desc := "(I)I" } : Jvm.MethodName)) ∈ lw_all := lw_g (lw_at lw_m6 58 rfl) rfl
theorem q1398 : (Jvm.Cond.methodLink "MustardMill$Change" (69 : Nat) ({ cls := "MustardMill$Mill", name := "rest", desc := "(I)I" } : Jvm.MethodName)) ∈ lw_all := lw_g (lw_at lw_m6 135 rfl) rfl
theorem q1413 : (Jvm.Cond.methodLink "MustardMill$Change" (71 : Nat) ({ cls := "MustardMill$Mill", name := "buy", desc := "(II)I" } : Jvm.MethodName)) ∈ lw_all := lw_g (lw_at lw_m6 150 rfl) rfl
theorem q1422 : (Jvm.Cond.methodLink "MustardMill$Change" (73 : Nat) ({ cls := "MustardMill$Mill", name := "order", desc := "(II)I" } : Jvm.MethodName)) ∈ lw_all := lw_g (lw_at lw_m6 159 rfl) rfl
theorem q1446 : (Jvm.Cond.methodLink "MustardMill$Change" (75 : Nat) ({ cls := "MustardMill$Mill", name := "takeTray", desc := "(I)I" } : Jvm.MethodName)) ∈ lw_all := lw_g (lw_at lw_m6 183 rfl) rfl
theorem q1455 : (Jvm.Cond.methodLink "MustardMill$Change" (78 : Nat) ({ cls := "MustardMill$Mill", name := "lay", desc := "(III)I" } : Jvm.MethodName)) ∈ lw_all := lw_g (lw_at lw_m6 192 rfl) rfl
theorem q2008 : (Jvm.Cond.static ({ cls := "MustardMill$Change", name := "numbersOf", desc := "(Ljava/lang/String;)I" } : Jvm.MethodName)) ∈ lw_all := lw_g (lw_at lw_m9 25 rfl) rfl
theorem q2009 : (Jvm.Cond.code ({ cls := "MustardMill$Change", name := "numbersOf", desc := "(Ljava/lang/String;)I" } : Jvm.MethodName) prog_3_method_2_code (3 : Nat) (Option.some Jvm.ClassFile.FieldType.int)) ∈ lw_all := lw_g (lw_at lw_m9 26 rfl) rfl
theorem q2546 : (Jvm.Cond.castable "MustardMill$Change" "java/lang/Object") ∈ lw_tbl := lw_at lw_m11 83 rfl
theorem in_X6 : ∀ w ∈ wsX60, w ∈ lw_all := lw_in wsX60 [909, 911] (by decide +kernel) (by decide +kernel)
/-! MustardMill$Refused -/
set_option maxRecDepth 100000
def RX7 : String := "MustardMill$Refused"
def TX7 : u_T := fun k => match k with
  | 0 => ("java/lang/Throwable", "cause", "Ljava/lang/Throwable;", false)
  | 1 => ("java/lang/Throwable", "stackTrace", "[Ljava/lang/StackTraceElement;", false)
  | 2 => ("java/lang/Throwable", "suppressedExceptions", "Ljava/util/List;", false)
  | 3 => ("java/lang/Throwable", "detailMessage", "Ljava/lang/String;", false)
  | 4 => ("java/lang/Throwable", "backtrace", "Ljava/lang/Object;", false)
  | 5 => ("java/lang/Throwable", "depth", "I", false)
  | 6 => ("MustardMill$Refused", "reason", "I", true)
  | _ => ("MustardMill$Refused", "detail", "I", true)
def tyX7 : Nat → FieldType := fun k => match k with
  | 0 => .object "java/lang/Throwable"
  | 1 => .array (.object "java/lang/StackTraceElement")
  | 2 => .object "java/util/List"
  | 3 => .object "java/lang/String"
  | 4 => .object "java/lang/Object"
  | 5 => .int
  | 6 => .int
  | _ => .int
abbrev wsX70 : List Cond := u_ws RX7 TX7 8
theorem nmX7 : ∀ a, a < 8 → ∀ b, b < 8 → a ≠ b → (TX7 a).2.1 ≠ (TX7 b).2.1 := by decide +kernel
theorem tyX7_ok : ∀ k, k < 8 → parseFieldDescriptor (TX7 k).2.2.1 = some (tyX7 k) := by decide +kernel
abbrev cX7_check : ByteArray := prog_11_method_2_code
def yX7_check : MethodName := ⟨RX7, "check", "(ZII)V"⟩
def dkwX7_check_0 : List UInt8 := [26, 154, 0, 13, 187, 0, 8, 89, 27, 28, 183, 0, 16, 191, 177]
abbrev dktX7_check_0 : List UInt8 := dkwX7_check_0 ++ []
theorem dksX7_check_0 : cX7_check.data.toList.drop 0 = dktX7_check_0 := by decide +kernel
theorem dX7_check_0 : decode cX7_check 0 = .ok (.iload_n 0, 1) := dk_26 (dk_at dksX7_check_0 0 rfl rfl)
theorem dX7_check_1 : decode cX7_check 1 = .ok (.ifCond .ne 13, 3) := dk_154 0 13 (dk_at dksX7_check_0 1 rfl rfl)
theorem dX7_check_4 : decode cX7_check 4 = .ok (.new 8, 3) := dk_187 0 8 (dk_at dksX7_check_0 4 rfl rfl)
theorem dX7_check_7 : decode cX7_check 7 = .ok (.dup, 1) := dk_89 (dk_at dksX7_check_0 7 rfl rfl)
theorem dX7_check_8 : decode cX7_check 8 = .ok (.iload_n 1, 1) := dk_27 (dk_at dksX7_check_0 8 rfl rfl)
theorem dX7_check_9 : decode cX7_check 9 = .ok (.iload_n 2, 1) := dk_28 (dk_at dksX7_check_0 9 rfl rfl)
theorem dX7_check_10 : decode cX7_check 10 = .ok (.invokespecial 16, 3) := dk_183 0 16 (dk_at dksX7_check_0 10 rfl rfl)
theorem dX7_check_13 : decode cX7_check 13 = .ok (.athrow, 1) := dk_191 (dk_at dksX7_check_0 13 rfl rfl)
theorem dX7_check_14 : decode cX7_check 14 = .ok (.return_, 1) := dk_177 (dk_at dksX7_check_0 14 rfl rfl)
abbrev cX7_init : ByteArray := prog_11_method_1_code
def yX7_init : MethodName := ⟨RX7, "<init>", "(II)V"⟩
def dkwX7_init_0 : List UInt8 := [42, 1, 1, 3, 3, 183, 0, 1, 42, 27, 181, 0, 7, 42, 28, 181, 0, 13, 177]
abbrev dktX7_init_0 : List UInt8 := dkwX7_init_0 ++ []
theorem dksX7_init_0 : cX7_init.data.toList.drop 0 = dktX7_init_0 := by decide +kernel
theorem dX7_init_0 : decode cX7_init 0 = .ok (.aload_n 0, 1) := dk_42 (dk_at dksX7_init_0 0 rfl rfl)
theorem dX7_init_1 : decode cX7_init 1 = .ok (.aconst_null, 1) := dk_1 (dk_at dksX7_init_0 1 rfl rfl)
theorem dX7_init_2 : decode cX7_init 2 = .ok (.aconst_null, 1) := dk_1 (dk_at dksX7_init_0 2 rfl rfl)
theorem dX7_init_3 : decode cX7_init 3 = .ok (.iconst 0, 1) := dk_3 (dk_at dksX7_init_0 3 rfl rfl)
theorem dX7_init_4 : decode cX7_init 4 = .ok (.iconst 0, 1) := dk_3 (dk_at dksX7_init_0 4 rfl rfl)
theorem dX7_init_5 : decode cX7_init 5 = .ok (.invokespecial 1, 3) := dk_183 0 1 (dk_at dksX7_init_0 5 rfl rfl)
theorem dX7_init_8 : decode cX7_init 8 = .ok (.aload_n 0, 1) := dk_42 (dk_at dksX7_init_0 8 rfl rfl)
theorem dX7_init_9 : decode cX7_init 9 = .ok (.iload_n 1, 1) := dk_27 (dk_at dksX7_init_0 9 rfl rfl)
theorem dX7_init_10 : decode cX7_init 10 = .ok (.putfield 7, 3) := dk_181 0 7 (dk_at dksX7_init_0 10 rfl rfl)
theorem dX7_init_13 : decode cX7_init 13 = .ok (.aload_n 0, 1) := dk_42 (dk_at dksX7_init_0 13 rfl rfl)
theorem dX7_init_14 : decode cX7_init 14 = .ok (.iload_n 2, 1) := dk_28 (dk_at dksX7_init_0 14 rfl rfl)
theorem dX7_init_15 : decode cX7_init 15 = .ok (.putfield 13, 3) := dk_181 0 13 (dk_at dksX7_init_0 15 rfl rfl)
theorem dX7_init_18 : decode cX7_init 18 = .ok (.return_, 1) := dk_177 (dk_at dksX7_init_0 18 rfl rfl)
theorem q94 : (Jvm.Cond.initialized "MustardMill$Refused") ∈ lw_all := lw_g (lw_at lw_m1 31 rfl) rfl
theorem q553 : (Jvm.Cond.selects "MustardMill$Refused" ({ cls := "java/lang/Throwable", name := "fillInStackTrace", desc := "()Ljava/lang/Throwable;" } : Jvm.MethodName) ({ cls := "java/lang/Throwable", name := "fillInStackTrace", desc := "()Ljava/lang/Throwable;" } : Jvm.MethodName)) ∈ lw_all := lw_g (lw_at lw_m3 10 rfl) rfl
theorem q847 : (Jvm.Cond.selects "MustardMill$Refused" ({ cls := "java/lang/Object", name := "getClass", desc := "()Ljava/lang/Class;" } : Jvm.MethodName) ({ cls := "java/lang/Object", name := "getClass", desc := "()Ljava/lang/Class;" } : Jvm.MethodName)) ∈ lw_all := lw_g (lw_at lw_m4 64 rfl) rfl
theorem q1042 : (Jvm.Cond.static ({ cls := "MustardMill$Refused", name := "check", desc := "(ZII)V" } : Jvm.MethodName)) ∈ lw_all := lw_g (lw_at lw_m5 19 rfl) rfl
theorem q1043 : (Jvm.Cond.code ({ cls := "MustardMill$Refused", name := "check", desc := "(ZII)V" } : Jvm.MethodName) prog_11_method_2_code (3 : Nat) (Option.none : Option Jvm.ClassFile.FieldType)) ∈ lw_all := lw_g (lw_at lw_m5 20 rfl) rfl
theorem q1044 : (Jvm.Cond.classLink "MustardMill$Refused" (8 : Nat) "MustardMill$Refused") ∈ lw_all := lw_g (lw_at lw_m5 21 rfl) rfl
theorem q1045 : (Jvm.Cond.instantiable "MustardMill$Refused" (8 : Nat)) ∈ lw_all := lw_g (lw_at lw_m5 22 rfl) rfl
theorem q1046 : (Jvm.Cond.castable "MustardMill$Refused" "MustardMill$Refused") ∈ lw_tbl := lw_at lw_m5 23 rfl
theorem q1047 : (Jvm.Cond.selects "MustardMill$Refused" ({ cls := "java/lang/Throwable", name := "fillInStackTrace", desc := "(I)Ljava/lang/Throwable;" } : Jvm.MethodName) ({ cls := "java/lang/Throwable", name := "fillInStackTrace", desc := "(I)Ljava/lang/Throwable;" } : Jvm.MethodName)) ∈ lw_all := lw_g (lw_at lw_m5 24 rfl) rfl
theorem q1048 : (Jvm.Cond.lays "MustardMill$Refused" "java/lang/Throwable" "cause" "Ljava/lang/Throwable;") ∈ lw_all := lw_g (lw_at lw_m5 25 rfl) rfl
theorem q1049 : (Jvm.Cond.lays "MustardMill$Refused" "java/lang/Throwable" "stackTrace" "[Ljava/lang/StackTraceElement;") ∈ lw_all := lw_g (lw_at lw_m5 26 rfl) rfl
theorem q1050 : (Jvm.Cond.lays "MustardMill$Refused" "java/lang/Throwable" "suppressedExceptions" "Ljava/util/List;") ∈ lw_all := lw_g (lw_at lw_m5 27 rfl) rfl
theorem q1051 : (Jvm.Cond.lays "MustardMill$Refused" "java/lang/Throwable" "detailMessage" "Ljava/lang/String;") ∈ lw_all := lw_g (lw_at lw_m5 28 rfl) rfl
theorem q1052 : (Jvm.Cond.lays "MustardMill$Refused" "java/lang/Throwable" "backtrace" "Ljava/lang/Object;") ∈ lw_all := lw_g (lw_at lw_m5 29 rfl) rfl
theorem q1053 : (Jvm.Cond.methodLink "MustardMill$Refused" (16 : Nat) ({ cls := "MustardMill$Refused", name := "<init>", desc := "(II)V" } : Jvm.MethodName)) ∈ lw_all := lw_g (lw_at lw_m5 30 rfl) rfl
theorem q1054 : (Jvm.Cond.instanceMethod ({ cls := "MustardMill$Refused", name := "<init>", desc := "(II)V" } : Jvm.MethodName)) ∈ lw_all := lw_g (lw_at lw_m5 31 rfl) rfl
theorem q1055 : (Jvm.Cond.code ({ cls := "MustardMill$Refused", name := "<init>", desc := "(II)V" } : Jvm.MethodName) prog_11_method_1_code (3 : Nat) (Option.none : Option Jvm.ClassFile.FieldType)) ∈ lw_all := lw_g (lw_at lw_m5 32 rfl) rfl
theorem q1056 : (Jvm.Cond.methodLink "MustardMill$Refused" (1 : Nat) ({ cls := "java/lang/Exception", name := "<init>", desc := "(Ljava/lang/String;Ljava/lang/Throwable;ZZ)V" } : Jvm.MethodName)) ∈ lw_all := lw_g (lw_at lw_m5 33 rfl) rfl
theorem q1062 : (Jvm.Cond.fieldLink "MustardMill$Refused" (7 : Nat) "MustardMill$Refused" "reason" "I") ∈ lw_all := lw_g (lw_at lw_m5 39 rfl) rfl
theorem q1064 : (Jvm.Cond.fieldLink "MustardMill$Refused" (13 : Nat) "MustardMill$Refused" "detail" "I") ∈ lw_all := lw_g (lw_at lw_m5 41 rfl) rfl
theorem q1066 : (Jvm.Cond.laysFinal "MustardMill$Refused" "MustardMill$Refused" "reason" "I") ∈ lw_all := lw_g (lw_at lw_m5 43 rfl) rfl
theorem q1067 : (Jvm.Cond.soleField "MustardMill$Refused" "reason") ∈ lw_all := lw_g (lw_at lw_m5 44 rfl) rfl
theorem q1068 : (Jvm.Cond.laysFinal "MustardMill$Refused" "MustardMill$Refused" "detail" "I") ∈ lw_all := lw_g (lw_at lw_m5 45 rfl) rfl
theorem q1069 : (Jvm.Cond.soleField "MustardMill$Refused" "detail") ∈ lw_all := lw_g (lw_at lw_m5 46 rfl) rfl
theorem q1070 : (Jvm.Cond.lays "MustardMill$Refused" "java/lang/Throwable" "depth" "I") ∈ lw_all := lw_g (lw_at lw_m5 47 rfl) rfl
theorem q1071 : (Jvm.Cond.superclass "MustardMill$Refused" "java/lang/Exception") ∈ lw_all := lw_g (lw_at lw_m5 48 rfl) rfl
theorem q2550 : (Jvm.Cond.castable "MustardMill$Refused" "java/lang/Object") ∈ lw_tbl := lw_at lw_m11 87 rfl
theorem in_X7 : ∀ w ∈ wsX70, w ∈ lw_all := lw_in wsX70 [1048, 1049, 1050, 1051, 1052, 1070, 1066, 1068] (by decide +kernel) (by decide +kernel)
/-! MustardMill$Thing -/
set_option maxRecDepth 100000
def RX8 : String := "MustardMill$Thing"
abbrev cX8_clone : ByteArray := prog_15_method_5_code
def yX8_clone : MethodName := ⟨RX8, "clone", "()LMustardMill$Thing;"⟩
def dkwX8_clone_0 : List UInt8 := [42, 183, 0, 16, 192, 0, 8, 176, 76, 187, 0, 22, 89, 183, 0, 24, 191]
abbrev dktX8_clone_0 : List UInt8 := dkwX8_clone_0 ++ []
theorem dksX8_clone_0 : cX8_clone.data.toList.drop 0 = dktX8_clone_0 := by decide +kernel
theorem dX8_clone_0 : decode cX8_clone 0 = .ok (.aload_n 0, 1) := dk_42 (dk_at dksX8_clone_0 0 rfl rfl)
theorem dX8_clone_1 : decode cX8_clone 1 = .ok (.invokespecial 16, 3) := dk_183 0 16 (dk_at dksX8_clone_0 1 rfl rfl)
theorem dX8_clone_4 : decode cX8_clone 4 = .ok (.checkcast 8, 3) := dk_192 0 8 (dk_at dksX8_clone_0 4 rfl rfl)
theorem dX8_clone_7 : decode cX8_clone 7 = .ok (.areturn, 1) := dk_176 (dk_at dksX8_clone_0 7 rfl rfl)
theorem dX8_clone_8 : decode cX8_clone 8 = .ok (.astore_n 1, 1) := dk_76 (dk_at dksX8_clone_0 8 rfl rfl)
theorem dX8_clone_9 : decode cX8_clone 9 = .ok (.new 22, 3) := dk_187 0 22 (dk_at dksX8_clone_0 9 rfl rfl)
theorem dX8_clone_12 : decode cX8_clone 12 = .ok (.dup, 1) := dk_89 (dk_at dksX8_clone_0 12 rfl rfl)
theorem dX8_clone_13 : decode cX8_clone 13 = .ok (.invokespecial 24, 3) := dk_183 0 24 (dk_at dksX8_clone_0 13 rfl rfl)
theorem dX8_clone_16 : decode cX8_clone 16 = .ok (.athrow, 1) := dk_191 (dk_at dksX8_clone_0 16 rfl rfl)
abbrev cX8_init : ByteArray := prog_15_method_1_code
def yX8_init : MethodName := ⟨RX8, "<init>", "(I)V"⟩
def dkwX8_init_0 : List UInt8 := [42, 183, 0, 1, 42, 27, 181, 0, 7, 177]
abbrev dktX8_init_0 : List UInt8 := dkwX8_init_0 ++ []
theorem dksX8_init_0 : cX8_init.data.toList.drop 0 = dktX8_init_0 := by decide +kernel
theorem dX8_init_0 : decode cX8_init 0 = .ok (.aload_n 0, 1) := dk_42 (dk_at dksX8_init_0 0 rfl rfl)
theorem dX8_init_1 : decode cX8_init 1 = .ok (.invokespecial 1, 3) := dk_183 0 1 (dk_at dksX8_init_0 1 rfl rfl)
theorem dX8_init_4 : decode cX8_init 4 = .ok (.aload_n 0, 1) := dk_42 (dk_at dksX8_init_0 4 rfl rfl)
theorem dX8_init_5 : decode cX8_init 5 = .ok (.iload_n 1, 1) := dk_27 (dk_at dksX8_init_0 5 rfl rfl)
theorem dX8_init_6 : decode cX8_init 6 = .ok (.putfield 7, 3) := dk_181 0 7 (dk_at dksX8_init_0 6 rfl rfl)
theorem dX8_init_9 : decode cX8_init 9 = .ok (.return_, 1) := dk_177 (dk_at dksX8_init_0 9 rfl rfl)
abbrev cX8_state : ByteArray := prog_15_method_3_code
def yX8_state : MethodName := ⟨RX8, "state", "()I"⟩
theorem dX8_state_0 : decode cX8_state 0 = .ok (.aload_n 0, 1) := by decide +kernel
theorem dX8_state_1 : decode cX8_state 1 = .ok (.getfield 13, 3) := by decide +kernel
theorem dX8_state_4 : decode cX8_state 4 = .ok (.ireturn, 1) := by decide +kernel
abbrev cX8_become : ByteArray := prog_15_method_4_code
def yX8_become : MethodName := ⟨RX8, "become", "(I)V"⟩
def dkwX8_become_0 : List UInt8 := [42, 27, 181, 0, 13, 177]
abbrev dktX8_become_0 : List UInt8 := dkwX8_become_0 ++ []
theorem dksX8_become_0 : cX8_become.data.toList.drop 0 = dktX8_become_0 := by decide +kernel
theorem dX8_become_0 : decode cX8_become 0 = .ok (.aload_n 0, 1) := dk_42 (dk_at dksX8_become_0 0 rfl rfl)
theorem dX8_become_1 : decode cX8_become 1 = .ok (.iload_n 1, 1) := dk_27 (dk_at dksX8_become_0 1 rfl rfl)
theorem dX8_become_2 : decode cX8_become 2 = .ok (.putfield 13, 3) := dk_181 0 13 (dk_at dksX8_become_0 2 rfl rfl)
theorem dX8_become_5 : decode cX8_become 5 = .ok (.return_, 1) := dk_177 (dk_at dksX8_become_0 5 rfl rfl)
abbrev cX8_number : ByteArray := prog_15_method_2_code
def yX8_number : MethodName := ⟨RX8, "number", "()I"⟩
theorem dX8_number_0 : decode cX8_number 0 = .ok (.aload_n 0, 1) := by decide +kernel
theorem dX8_number_1 : decode cX8_number 1 = .ok (.getfield 7, 3) := by decide +kernel
theorem dX8_number_4 : decode cX8_number 4 = .ok (.ireturn, 1) := by decide +kernel
theorem q95 : (Jvm.Cond.initialized "MustardMill$Thing") ∈ lw_all := lw_g (lw_at lw_m1 32 rfl) rfl
theorem q803 : (Jvm.Cond.instanceMethod ({ cls := "MustardMill$Thing", name := "clone", desc := "()LMustardMill$Thing;" } : Jvm.MethodName)) ∈ lw_all := lw_g (lw_at lw_m4 20 rfl) rfl
theorem q804 : (Jvm.Cond.codeWith ({ cls := "MustardMill$Thing", name := "clone", desc := "()LMustardMill$Thing;" } : Jvm.MethodName) prog_15_method_5_code (2 : Nat) (Option.some (Jvm.ClassFile.FieldType.object "MustardMill$Thing")) [((0 : Nat), (7 : Nat), (8 : Nat), (20 : Nat))]) ∈ lw_all := lw_g (lw_at lw_m4 21 rfl) rfl
theorem q805 : (Jvm.Cond.classLink "MustardMill$Thing" (20 : Nat) "java/lang/CloneNotSupportedException") ∈ lw_all := lw_g (lw_at lw_m4 22 rfl) rfl
theorem q806 : (Jvm.Cond.methodLink "MustardMill$Thing" (16 : Nat) ({ cls := "java/lang/Object", name := "clone", desc := "()Ljava/lang/Object;" } : Jvm.MethodName)) ∈ lw_all := lw_g (lw_at lw_m4 23 rfl) rfl
theorem q807 : (Jvm.Cond.superclass "MustardMill$Thing" "java/lang/Object") ∈ lw_all := lw_g (lw_at lw_m4 24 rfl) rfl
theorem q808 : (Jvm.Cond.classLink "MustardMill$Thing" (8 : Nat) "MustardMill$Thing") ∈ lw_all := lw_g (lw_at lw_m4 25 rfl) rfl
theorem q809 : (Jvm.Cond.classLink "MustardMill$Thing" (22 : Nat) "java/lang/IllegalStateException") ∈ lw_all := lw_g (lw_at lw_m4 26 rfl) rfl
theorem q810 : (Jvm.Cond.methodLink "MustardMill$Thing" (24 : Nat) ({ cls := "java/lang/IllegalStateException", name := "<init>", desc := "()V" } : Jvm.MethodName)) ∈ lw_all := lw_g (lw_at lw_m4 27 rfl) rfl
theorem q1090 : (Jvm.Cond.instanceMethod ({ cls := "MustardMill$Thing", name := "<init>", desc := "(I)V" } : Jvm.MethodName)) ∈ lw_all := lw_g (lw_at lw_m5 67 rfl) rfl
theorem q1091 : (Jvm.Cond.code ({ cls := "MustardMill$Thing", name := "<init>", desc := "(I)V" } : Jvm.MethodName) prog_15_method_1_code (2 : Nat) (Option.none : Option Jvm.ClassFile.FieldType)) ∈ lw_all := lw_g (lw_at lw_m5 68 rfl) rfl
theorem q1092 : (Jvm.Cond.methodLink "MustardMill$Thing" (1 : Nat) ({ cls := "java/lang/Object", name := "<init>", desc := "()V" } : Jvm.MethodName)) ∈ lw_all := lw_g (lw_at lw_m5 69 rfl) rfl
theorem q1107 : (Jvm.Cond.fieldLink "MustardMill$Thing" (7 : Nat) "MustardMill$Thing" "number" "I") ∈ lw_all := lw_g (lw_at lw_m5 84 rfl) rfl
theorem q1108 : (Jvm.Cond.fieldLink "MustardMill$Thing" (13 : Nat) "MustardMill$Thing" "state" "I") ∈ lw_all := lw_g (lw_at lw_m5 85 rfl) rfl
theorem q1122 : (Jvm.Cond.soleField "MustardMill$Thing" "number") ∈ lw_all := lw_g (lw_at lw_m5 99 rfl) rfl
theorem q1124 : (Jvm.Cond.soleField "MustardMill$Thing" "state") ∈ lw_all := lw_g (lw_at lw_m5 101 rfl) rfl
theorem q1169 : (Jvm.Cond.instanceMethod ({ cls := "MustardMill$Thing", name := "state", desc := "()I" } : Jvm.MethodName)) ∈ lw_all := lw_g (lw_at lw_m5 146 rfl) rfl
theorem q1170 : (Jvm.Cond.publicMethod ({ cls := "MustardMill$Thing", name := "state", desc := "()I" } : Jvm.MethodName)) ∈ lw_tbl := lw_at lw_m5 147 rfl
theorem q1171 : (Jvm.Cond.code ({ cls := "MustardMill$Thing", name := "state", desc := "()I" } : Jvm.MethodName) prog_15_method_3_code (1 : Nat) (Option.some Jvm.ClassFile.FieldType.int)) ∈ lw_all := lw_g (lw_at lw_m5 148 rfl) rfl
theorem q1180 : (Jvm.Cond.declares ({ cls := "MustardMill$Thing", name := "state", desc := "()I" } : Jvm.MethodName)) ∈ lw_tbl := lw_at lw_m5 157 rfl
theorem q1184 : (Jvm.Cond.declares ({ cls := "MustardMill$Thing", name := "become", desc := "(I)V" } : Jvm.MethodName)) ∈ lw_tbl := lw_at lw_m5 161 rfl
theorem q1186 : (Jvm.Cond.instanceMethod ({ cls := "MustardMill$Thing", name := "become", desc := "(I)V" } : Jvm.MethodName)) ∈ lw_all := lw_g (lw_at lw_m5 163 rfl) rfl
theorem q1187 : (Jvm.Cond.code ({ cls := "MustardMill$Thing", name := "become", desc := "(I)V" } : Jvm.MethodName) prog_15_method_4_code (2 : Nat) (Option.none : Option Jvm.ClassFile.FieldType)) ∈ lw_all := lw_g (lw_at lw_m5 164 rfl) rfl
theorem q1204 : (Jvm.Cond.declares ({ cls := "MustardMill$Thing", name := "number", desc := "()I" } : Jvm.MethodName)) ∈ lw_tbl := lw_at lw_m5 181 rfl
theorem q1206 : (Jvm.Cond.instanceMethod ({ cls := "MustardMill$Thing", name := "number", desc := "()I" } : Jvm.MethodName)) ∈ lw_all := lw_g (lw_at lw_m5 183 rfl) rfl
theorem q1207 : (Jvm.Cond.code ({ cls := "MustardMill$Thing", name := "number", desc := "()I" } : Jvm.MethodName) prog_15_method_2_code (1 : Nat) (Option.some Jvm.ClassFile.FieldType.int)) ∈ lw_all := lw_g (lw_at lw_m5 184 rfl) rfl
theorem q2509 : (Jvm.Cond.sameMethod "MustardMill$Thing" "MustardMill$Thing" "clone" "()LMustardMill$Thing;") ∈ lw_all := lw_g (lw_at lw_m11 46 rfl) rfl
theorem q2510 : (Jvm.Cond.sameMethod "MustardMill$Thing" "MustardMill$Thing" "number" "()I") ∈ lw_all := lw_g (lw_at lw_m11 47 rfl) rfl
theorem q2532 : (Jvm.Cond.castable "MustardMill$Thing" "java/lang/Object") ∈ lw_tbl := lw_at lw_m11 69 rfl
/-! MustardMill$Batch -/
set_option maxRecDepth 100000
def RX9 : String := "MustardMill$Batch"
def TX9 : u_T := fun k => match k with
  | 0 => ("MustardMill$Thing", "number", "I", true)
  | 1 => ("MustardMill$Thing", "state", "I", false)
  | 2 => ("MustardMill$Batch", "grams", "I", true)
  | 3 => ("MustardMill$Batch", "grain", "I", true)
  | 4 => ("MustardMill$Batch", "bite", "I", true)
  | 5 => ("MustardMill$Batch", "left", "I", false)
  | 6 => ("MustardMill$Batch", "spoons", "I", false)
  | _ => ("MustardMill$Batch", "jars", "I", false)
def tyX9 : Nat → FieldType := fun k => match k with
  | 0 => .int
  | 1 => .int
  | 2 => .int
  | 3 => .int
  | 4 => .int
  | 5 => .int
  | 6 => .int
  | _ => .int
abbrev wsX90 : List Cond := u_ws RX9 TX9 8
theorem nmX9 : ∀ a, a < 8 → ∀ b, b < 8 → a ≠ b → (TX9 a).2.1 ≠ (TX9 b).2.1 := by decide +kernel
theorem tyX9_ok : ∀ k, k < 8 → parseFieldDescriptor (TX9 k).2.2.1 = some (tyX9 k) := by decide +kernel
abbrev cX9_clone : ByteArray := prog_2_method_2_code
def yX9_clone : MethodName := ⟨RX9, "clone", "()LMustardMill$Batch;"⟩
def dkwX9_clone_0 : List UInt8 := [42, 183, 0, 22, 192, 0, 8, 176]
abbrev dktX9_clone_0 : List UInt8 := dkwX9_clone_0 ++ []
theorem dksX9_clone_0 : cX9_clone.data.toList.drop 0 = dktX9_clone_0 := by decide +kernel
theorem dX9_clone_0 : decode cX9_clone 0 = .ok (.aload_n 0, 1) := dk_42 (dk_at dksX9_clone_0 0 rfl rfl)
theorem dX9_clone_1 : decode cX9_clone 1 = .ok (.invokespecial 22, 3) := dk_183 0 22 (dk_at dksX9_clone_0 1 rfl rfl)
theorem dX9_clone_4 : decode cX9_clone 4 = .ok (.checkcast 8, 3) := dk_192 0 8 (dk_at dksX9_clone_0 4 rfl rfl)
theorem dX9_clone_7 : decode cX9_clone 7 = .ok (.areturn, 1) := dk_176 (dk_at dksX9_clone_0 7 rfl rfl)
abbrev cX9_init : ByteArray := prog_2_method_1_code
def yX9_init : MethodName := ⟨RX9, "<init>", "(IIII)V"⟩
def dkwX9_init_1 : List UInt8 := [181, 0, 19, 177]
abbrev dktX9_init_1 : List UInt8 := dkwX9_init_1 ++ []
def dkwX9_init_0 : List UInt8 := [42, 27, 183, 0, 1, 42, 28, 181, 0, 7, 42, 29, 181, 0, 13, 42, 21, 4, 181, 0, 16, 42, 28]
abbrev dktX9_init_0 : List UInt8 := dkwX9_init_0 ++ dktX9_init_1
theorem dksX9_init_0 : cX9_init.data.toList.drop 0 = dktX9_init_0 := by decide +kernel
theorem dksX9_init_1 : cX9_init.data.toList.drop 23 = dktX9_init_1 := dk_seg dksX9_init_0 23 rfl rfl
theorem dX9_init_0 : decode cX9_init 0 = .ok (.aload_n 0, 1) := dk_42 (dk_at dksX9_init_0 0 rfl rfl)
theorem dX9_init_1 : decode cX9_init 1 = .ok (.iload_n 1, 1) := dk_27 (dk_at dksX9_init_0 1 rfl rfl)
theorem dX9_init_2 : decode cX9_init 2 = .ok (.invokespecial 1, 3) := dk_183 0 1 (dk_at dksX9_init_0 2 rfl rfl)
theorem dX9_init_5 : decode cX9_init 5 = .ok (.aload_n 0, 1) := dk_42 (dk_at dksX9_init_0 5 rfl rfl)
theorem dX9_init_6 : decode cX9_init 6 = .ok (.iload_n 2, 1) := dk_28 (dk_at dksX9_init_0 6 rfl rfl)
theorem dX9_init_7 : decode cX9_init 7 = .ok (.putfield 7, 3) := dk_181 0 7 (dk_at dksX9_init_0 7 rfl rfl)
theorem dX9_init_10 : decode cX9_init 10 = .ok (.aload_n 0, 1) := dk_42 (dk_at dksX9_init_0 10 rfl rfl)
theorem dX9_init_11 : decode cX9_init 11 = .ok (.iload_n 3, 1) := dk_29 (dk_at dksX9_init_0 11 rfl rfl)
theorem dX9_init_12 : decode cX9_init 12 = .ok (.putfield 13, 3) := dk_181 0 13 (dk_at dksX9_init_0 12 rfl rfl)
theorem dX9_init_15 : decode cX9_init 15 = .ok (.aload_n 0, 1) := dk_42 (dk_at dksX9_init_0 15 rfl rfl)
theorem dX9_init_16 : decode cX9_init 16 = .ok (.iload 4, 2) := dk_21 4 (dk_at dksX9_init_0 16 rfl rfl)
theorem dX9_init_18 : decode cX9_init 18 = .ok (.putfield 16, 3) := dk_181 0 16 (dk_at dksX9_init_0 18 rfl rfl)
theorem dX9_init_21 : decode cX9_init 21 = .ok (.aload_n 0, 1) := dk_42 (dk_at dksX9_init_0 21 rfl rfl)
theorem dX9_init_22 : decode cX9_init 22 = .ok (.iload_n 2, 1) := dk_28 (dk_at dksX9_init_0 22 rfl rfl)
theorem dX9_init_23 : decode cX9_init 23 = .ok (.putfield 19, 3) := dk_181 0 19 (dk_at dksX9_init_1 0 rfl rfl)
theorem dX9_init_26 : decode cX9_init 26 = .ok (.return_, 1) := dk_177 (dk_at dksX9_init_1 3 rfl rfl)
abbrev cX9_ripeDays : ByteArray := prog_2_method_4_code
def yX9_ripeDays : MethodName := ⟨RX9, "ripeDays", "()I"⟩
def dkwX9_ripeDays_0 : List UInt8 := [5, 42, 180, 0, 13, 96, 42, 180, 0, 26, 7, 108, 96, 172]
abbrev dktX9_ripeDays_0 : List UInt8 := dkwX9_ripeDays_0 ++ []
theorem dksX9_ripeDays_0 : cX9_ripeDays.data.toList.drop 0 = dktX9_ripeDays_0 := by decide +kernel
theorem dX9_ripeDays_0 : decode cX9_ripeDays 0 = .ok (.iconst 2, 1) := dk_5 (dk_at dksX9_ripeDays_0 0 rfl rfl)
theorem dX9_ripeDays_1 : decode cX9_ripeDays 1 = .ok (.aload_n 0, 1) := dk_42 (dk_at dksX9_ripeDays_0 1 rfl rfl)
theorem dX9_ripeDays_2 : decode cX9_ripeDays 2 = .ok (.getfield 13, 3) := dk_180 0 13 (dk_at dksX9_ripeDays_0 2 rfl rfl)
theorem dX9_ripeDays_5 : decode cX9_ripeDays 5 = .ok (.iadd, 1) := dk_96 (dk_at dksX9_ripeDays_0 5 rfl rfl)
theorem dX9_ripeDays_6 : decode cX9_ripeDays 6 = .ok (.aload_n 0, 1) := dk_42 (dk_at dksX9_ripeDays_0 6 rfl rfl)
theorem dX9_ripeDays_7 : decode cX9_ripeDays 7 = .ok (.getfield 26, 3) := dk_180 0 26 (dk_at dksX9_ripeDays_0 7 rfl rfl)
theorem dX9_ripeDays_10 : decode cX9_ripeDays 10 = .ok (.iconst 4, 1) := dk_7 (dk_at dksX9_ripeDays_0 10 rfl rfl)
theorem dX9_ripeDays_11 : decode cX9_ripeDays 11 = .ok (.idiv, 1) := dk_108 (dk_at dksX9_ripeDays_0 11 rfl rfl)
theorem dX9_ripeDays_12 : decode cX9_ripeDays 12 = .ok (.iadd, 1) := dk_96 (dk_at dksX9_ripeDays_0 12 rfl rfl)
theorem dX9_ripeDays_13 : decode cX9_ripeDays 13 = .ok (.ireturn, 1) := dk_172 (dk_at dksX9_ripeDays_0 13 rfl rfl)
abbrev cX9_bite : ByteArray := prog_2_method_3_code
def yX9_bite : MethodName := ⟨RX9, "bite", "()I"⟩
theorem dX9_bite_0 : decode cX9_bite 0 = .ok (.aload_n 0, 1) := by decide +kernel
theorem dX9_bite_1 : decode cX9_bite 1 = .ok (.getfield 16, 3) := by decide +kernel
theorem dX9_bite_4 : decode cX9_bite 4 = .ok (.ireturn, 1) := by decide +kernel
theorem q96 : (Jvm.Cond.initialized "MustardMill$Batch") ∈ lw_all := lw_g (lw_at lw_m1 33 rfl) rfl
theorem q798 : (Jvm.Cond.instanceMethod ({ cls := "MustardMill$Batch", name := "clone", desc := "()LMustardMill$Batch;" } : Jvm.MethodName)) ∈ lw_all := lw_g (lw_at lw_m4 15 rfl) rfl
theorem q799 : (Jvm.Cond.selects "MustardMill$Batch" ({ cls := "MustardMill$Batch", name := "clone", desc := "()LMustardMill$Batch;" } : Jvm.MethodName) ({ cls := "MustardMill$Batch", name := "clone", desc := "()LMustardMill$Batch;" } : Jvm.MethodName)) ∈ lw_all := lw_g (lw_at lw_m4 16 rfl) rfl
theorem q800 : (Jvm.Cond.code ({ cls := "MustardMill$Batch", name := "clone", desc := "()LMustardMill$Batch;" } : Jvm.MethodName) prog_2_method_2_code (1 : Nat) (Option.some (Jvm.ClassFile.FieldType.object "MustardMill$Batch"))) ∈ lw_all := lw_g (lw_at lw_m4 17 rfl) rfl
theorem q801 : (Jvm.Cond.methodLink "MustardMill$Batch" (22 : Nat) ({ cls := "MustardMill$Thing", name := "clone", desc := "()LMustardMill$Thing;" } : Jvm.MethodName)) ∈ lw_all := lw_g (lw_at lw_m4 18 rfl) rfl
theorem q802 : (Jvm.Cond.superclass "MustardMill$Batch" "MustardMill$Thing") ∈ lw_all := lw_g (lw_at lw_m4 19 rfl) rfl
theorem q811 : (Jvm.Cond.classLink "MustardMill$Batch" (8 : Nat) "MustardMill$Batch") ∈ lw_all := lw_g (lw_at lw_m4 28 rfl) rfl
theorem q840 : (Jvm.Cond.selects "MustardMill$Batch" ({ cls := "java/lang/Object", name := "getClass", desc := "()Ljava/lang/Class;" } : Jvm.MethodName) ({ cls := "java/lang/Object", name := "getClass", desc := "()Ljava/lang/Class;" } : Jvm.MethodName)) ∈ lw_all := lw_g (lw_at lw_m4 57 rfl) rfl
theorem q1077 : (Jvm.Cond.instantiable "MustardMill$Batch" (8 : Nat)) ∈ lw_all := lw_g (lw_at lw_m5 54 rfl) rfl
theorem q1087 : (Jvm.Cond.instanceMethod ({ cls := "MustardMill$Batch", name := "<init>", desc := "(IIII)V" } : Jvm.MethodName)) ∈ lw_all := lw_g (lw_at lw_m5 64 rfl) rfl
theorem q1088 : (Jvm.Cond.code ({ cls := "MustardMill$Batch", name := "<init>", desc := "(IIII)V" } : Jvm.MethodName) prog_2_method_1_code (5 : Nat) (Option.none : Option Jvm.ClassFile.FieldType)) ∈ lw_all := lw_g (lw_at lw_m5 65 rfl) rfl
theorem q1089 : (Jvm.Cond.methodLink "MustardMill$Batch" (1 : Nat) ({ cls := "MustardMill$Thing", name := "<init>", desc := "(I)V" } : Jvm.MethodName)) ∈ lw_all := lw_g (lw_at lw_m5 66 rfl) rfl
theorem q1093 : (Jvm.Cond.fieldLink "MustardMill$Batch" (7 : Nat) "MustardMill$Batch" "grams" "I") ∈ lw_all := lw_g (lw_at lw_m5 70 rfl) rfl
theorem q1095 : (Jvm.Cond.fieldLink "MustardMill$Batch" (13 : Nat) "MustardMill$Batch" "grain" "I") ∈ lw_all := lw_g (lw_at lw_m5 72 rfl) rfl
theorem q1097 : (Jvm.Cond.fieldLink "MustardMill$Batch" (16 : Nat) "MustardMill$Batch" "bite" "I") ∈ lw_all := lw_g (lw_at lw_m5 74 rfl) rfl
theorem q1099 : (Jvm.Cond.fieldLink "MustardMill$Batch" (19 : Nat) "MustardMill$Batch" "left" "I") ∈ lw_all := lw_g (lw_at lw_m5 76 rfl) rfl
theorem q1102 : (Jvm.Cond.fieldLink "MustardMill$Batch" (26 : Nat) "MustardMill$Batch" "spoons" "I") ∈ lw_all := lw_g (lw_at lw_m5 79 rfl) rfl
theorem q1109 : (Jvm.Cond.laysFinal "MustardMill$Batch" "MustardMill$Batch" "grams" "I") ∈ lw_all := lw_g (lw_at lw_m5 86 rfl) rfl
theorem q1110 : (Jvm.Cond.soleField "MustardMill$Batch" "grams") ∈ lw_all := lw_g (lw_at lw_m5 87 rfl) rfl
theorem q1111 : (Jvm.Cond.laysFinal "MustardMill$Batch" "MustardMill$Batch" "grain" "I") ∈ lw_all := lw_g (lw_at lw_m5 88 rfl) rfl
theorem q1112 : (Jvm.Cond.soleField "MustardMill$Batch" "grain") ∈ lw_all := lw_g (lw_at lw_m5 89 rfl) rfl
theorem q1113 : (Jvm.Cond.laysFinal "MustardMill$Batch" "MustardMill$Batch" "bite" "I") ∈ lw_all := lw_g (lw_at lw_m5 90 rfl) rfl
theorem q1114 : (Jvm.Cond.soleField "MustardMill$Batch" "bite") ∈ lw_all := lw_g (lw_at lw_m5 91 rfl) rfl
theorem q1115 : (Jvm.Cond.lays "MustardMill$Batch" "MustardMill$Batch" "left" "I") ∈ lw_all := lw_g (lw_at lw_m5 92 rfl) rfl
theorem q1116 : (Jvm.Cond.soleField "MustardMill$Batch" "left") ∈ lw_all := lw_g (lw_at lw_m5 93 rfl) rfl
theorem q1117 : (Jvm.Cond.lays "MustardMill$Batch" "MustardMill$Batch" "spoons" "I") ∈ lw_all := lw_g (lw_at lw_m5 94 rfl) rfl
theorem q1118 : (Jvm.Cond.soleField "MustardMill$Batch" "spoons") ∈ lw_all := lw_g (lw_at lw_m5 95 rfl) rfl
theorem q1119 : (Jvm.Cond.lays "MustardMill$Batch" "MustardMill$Batch" "jars" "I") ∈ lw_all := lw_g (lw_at lw_m5 96 rfl) rfl
theorem q1120 : (Jvm.Cond.soleField "MustardMill$Batch" "jars") ∈ lw_all := lw_g (lw_at lw_m5 97 rfl) rfl
theorem q1121 : (Jvm.Cond.laysFinal "MustardMill$Batch" "MustardMill$Thing" "number" "I") ∈ lw_all := lw_g (lw_at lw_m5 98 rfl) rfl
theorem q1123 : (Jvm.Cond.lays "MustardMill$Batch" "MustardMill$Thing" "state" "I") ∈ lw_all := lw_g (lw_at lw_m5 100 rfl) rfl
theorem q1158 : (Jvm.Cond.unhidden "MustardMill$Batch" "is" "(I)Z") ∈ lw_tbl := lw_at lw_m5 135 rfl
theorem q1166 : (Jvm.Cond.castable "MustardMill$Batch" "MustardMill$Numbered") ∈ lw_tbl := lw_at lw_m5 143 rfl
theorem q1167 : (Jvm.Cond.selects "MustardMill$Batch" ({ cls := "MustardMill$Numbered", name := "state", desc := "()I" } : Jvm.MethodName) ({ cls := "MustardMill$Thing", name := "state", desc := "()I" } : Jvm.MethodName)) ∈ lw_all := lw_g (lw_at lw_m5 144 rfl) rfl
theorem q1168 : (Jvm.Cond.unhidden "MustardMill$Batch" "state" "()I") ∈ lw_tbl := lw_at lw_m5 145 rfl
theorem q1179 : (Jvm.Cond.sameMethod "MustardMill$Batch" "MustardMill$Thing" "state" "()I") ∈ lw_all := lw_g (lw_at lw_m5 156 rfl) rfl
theorem q1181 : (Jvm.Cond.selects "MustardMill$Batch" ({ cls := "MustardMill$Batch", name := "state", desc := "()I" } : Jvm.MethodName) ({ cls := "MustardMill$Thing", name := "state", desc := "()I" } : Jvm.MethodName)) ∈ lw_all := lw_g (lw_at lw_m5 158 rfl) rfl
theorem q1183 : (Jvm.Cond.sameMethod "MustardMill$Batch" "MustardMill$Thing" "become" "(I)V") ∈ lw_all := lw_g (lw_at lw_m5 160 rfl) rfl
theorem q1185 : (Jvm.Cond.selects "MustardMill$Batch" ({ cls := "MustardMill$Batch", name := "become", desc := "(I)V" } : Jvm.MethodName) ({ cls := "MustardMill$Thing", name := "become", desc := "(I)V" } : Jvm.MethodName)) ∈ lw_all := lw_g (lw_at lw_m5 162 rfl) rfl
theorem q1189 : (Jvm.Cond.instanceMethod ({ cls := "MustardMill$Batch", name := "ripeDays", desc := "()I" } : Jvm.MethodName)) ∈ lw_all := lw_g (lw_at lw_m5 166 rfl) rfl
theorem q1190 : (Jvm.Cond.selects "MustardMill$Batch" ({ cls := "MustardMill$Batch", name := "ripeDays", desc := "()I" } : Jvm.MethodName) ({ cls := "MustardMill$Batch", name := "ripeDays", desc := "()I" } : Jvm.MethodName)) ∈ lw_all := lw_g (lw_at lw_m5 167 rfl) rfl
theorem q1191 : (Jvm.Cond.code ({ cls := "MustardMill$Batch", name := "ripeDays", desc := "()I" } : Jvm.MethodName) prog_2_method_4_code (1 : Nat) (Option.some Jvm.ClassFile.FieldType.int)) ∈ lw_all := lw_g (lw_at lw_m5 168 rfl) rfl
theorem q1203 : (Jvm.Cond.sameMethod "MustardMill$Batch" "MustardMill$Thing" "number" "()I") ∈ lw_all := lw_g (lw_at lw_m5 180 rfl) rfl
theorem q1205 : (Jvm.Cond.selects "MustardMill$Batch" ({ cls := "MustardMill$Batch", name := "number", desc := "()I" } : Jvm.MethodName) ({ cls := "MustardMill$Thing", name := "number", desc := "()I" } : Jvm.MethodName)) ∈ lw_all := lw_g (lw_at lw_m5 182 rfl) rfl
theorem q1209 : (Jvm.Cond.instanceMethod ({ cls := "MustardMill$Batch", name := "bite", desc := "()I" } : Jvm.MethodName)) ∈ lw_all := lw_g (lw_at lw_m5 186 rfl) rfl
theorem q1210 : (Jvm.Cond.selects "MustardMill$Batch" ({ cls := "MustardMill$Batch", name := "bite", desc := "()I" } : Jvm.MethodName) ({ cls := "MustardMill$Batch", name := "bite", desc := "()I" } : Jvm.MethodName)) ∈ lw_all := lw_g (lw_at lw_m5 187 rfl) rfl
theorem q1211 : (Jvm.Cond.code ({ cls := "MustardMill$Batch", name := "bite", desc := "()I" } : Jvm.MethodName) prog_2_method_3_code (1 : Nat) (Option.some Jvm.ClassFile.FieldType.int)) ∈ lw_all := lw_g (lw_at lw_m5 188 rfl) rfl
theorem q1268 : (Jvm.Cond.castable "MustardMill$Batch" "MustardMill$Taste") ∈ lw_tbl := lw_at lw_m6 5 rfl
theorem q1269 : (Jvm.Cond.unhidden "MustardMill$Batch" "tear" "(I)I") ∈ lw_tbl := lw_at lw_m6 6 rfl
theorem q1277 : (Jvm.Cond.selects "MustardMill$Batch" ({ cls := "MustardMill$Taste", name := "ripeDays", desc := "()I" } : Jvm.MethodName) ({ cls := "MustardMill$Batch", name := "ripeDays", desc := "()I" } : Jvm.MethodName)) ∈ lw_all := lw_g (lw_at lw_m6 14 rfl) rfl
theorem q1278 : (Jvm.Cond.unhidden "MustardMill$Batch" "ripeDays" "()I") ∈ lw_tbl := lw_at lw_m6 15 rfl
theorem q1279 : (Jvm.Cond.publicMethod ({ cls := "MustardMill$Batch", name := "ripeDays", desc := "()I" } : Jvm.MethodName)) ∈ lw_tbl := lw_at lw_m6 16 rfl
theorem q1290 : (Jvm.Cond.selects "MustardMill$Batch" ({ cls := "MustardMill$Taste", name := "bite", desc := "()I" } : Jvm.MethodName) ({ cls := "MustardMill$Batch", name := "bite", desc := "()I" } : Jvm.MethodName)) ∈ lw_all := lw_g (lw_at lw_m6 27 rfl) rfl
theorem q1291 : (Jvm.Cond.unhidden "MustardMill$Batch" "bite" "()I") ∈ lw_tbl := lw_at lw_m6 28 rfl
theorem q1292 : (Jvm.Cond.publicMethod ({ cls := "MustardMill$Batch", name := "bite", desc := "()I" } : Jvm.MethodName)) ∈ lw_tbl := lw_at lw_m6 29 rfl
theorem q1666 : (Jvm.Cond.unhidden "MustardMill$Batch" "tearAgain" "(I)I") ∈ lw_tbl := lw_at lw_m7 163 rfl
theorem q2511 : (Jvm.Cond.selects "MustardMill$Batch" ({ cls := "MustardMill$Thing", name := "number", desc := "()I" } : Jvm.MethodName) ({ cls := "MustardMill$Thing", name := "number", desc := "()I" } : Jvm.MethodName)) ∈ lw_all := lw_g (lw_at lw_m11 48 rfl) rfl
theorem q2518 : (Jvm.Cond.castable "MustardMill$Batch" "MustardMill$Thing") ∈ lw_tbl := lw_at lw_m11 55 rfl
theorem q2522 : (Jvm.Cond.castable "MustardMill$Batch" "java/lang/Cloneable") ∈ lw_tbl := lw_at lw_m11 59 rfl
theorem q2533 : (Jvm.Cond.castable "MustardMill$Batch" "java/lang/Object") ∈ lw_tbl := lw_at lw_m11 70 rfl
theorem in_X9 : ∀ w ∈ wsX90, w ∈ lw_all := lw_in wsX90 [1121, 1123, 1109, 1111, 1113, 1115, 1117, 1119] (by decide +kernel) (by decide +kernel)
