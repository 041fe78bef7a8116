/-! MustardMillModel -/
set_option maxRecDepth 100000
def RX5 : String := "MustardMillModel"
def TX5 : u_T := fun k => match k with
  | 0 => ("MustardMillModel", "g", "[I", true)
  | 1 => ("MustardMillModel", "kept", "[I", true)
  | 2 => ("MustardMillModel", "saved", "[I", true)
  | 3 => ("MustardMillModel", "before", "[I", true)
  | 4 => ("MustardMillModel", "spare", "[I", true)
  | 5 => ("MustardMillModel", "isSaved", "Z", false)
  | 6 => ("MustardMillModel", "changes", "I", false)
  | 7 => ("MustardMillModel", "isWithin", "Z", false)
  | 8 => ("MustardMillModel", "code", "I", false)
  | 9 => ("MustardMillModel", "why", "I", false)
  | 10 => ("MustardMillModel", "detail", "I", false)
  | 11 => ("MustardMillModel", "input", "[I", true)
  | 12 => ("MustardMillModel", "length", "I", false)
  | 13 => ("MustardMillModel", "error", "I", false)
  | 14 => ("MustardMillModel", "item", "I", false)
  | 15 => ("MustardMillModel", "signs", "[C", true)
  | 16 => ("MustardMillModel", "signMany", "I", false)
  | 17 => ("MustardMillModel", "at", "I", false)
  | 18 => ("MustardMillModel", "told", "[I", true)
  | _ => ("MustardMillModel", "toldMany", "I", false)
def tyX5 : Nat → FieldType := fun k => match k with
  | 0 => .array .int
  | 1 => .array .int
  | 2 => .array .int
  | 3 => .array .int
  | 4 => .array .int
  | 5 => .boolean
  | 6 => .int
  | 7 => .boolean
  | 8 => .int
  | 9 => .int
  | 10 => .int
  | 11 => .array .int
  | 12 => .int
  | 13 => .int
  | 14 => .int
  | 15 => .array .char
  | 16 => .int
  | 17 => .int
  | 18 => .array .int
  | _ => .int
abbrev wsX50 : List Cond := u_ws RX5 TX5 20
set_option maxRecDepth 100000 in
theorem nmX5 : ∀ a, a < 20 → ∀ b, b < 20 → a ≠ b → (TX5 a).2.1 ≠ (TX5 b).2.1 := by decide +kernel
set_option maxRecDepth 100000 in
theorem tyX5_ok : ∀ k, k < 20 → parseFieldDescriptor (TX5 k).2.2.1 = some (tyX5 k) := by decide +kernel
abbrev cX5_init : ByteArray := prog_18_method_1_code
def yX5_init : MethodName := ⟨RX5, "<init>", "()V"⟩
def dkwX5_init_3 : List UInt8 := [188, 5, 181, 0, 35, 42, 16, 100, 188, 10, 181, 0, 39, 42, 182, 0, 42, 177]
abbrev dktX5_init_3 : List UInt8 := dkwX5_init_3 ++ []
def dkwX5_init_2 : List UInt8 := [181, 0, 22, 42, 16, 60, 188, 10, 181, 0, 25, 42, 2, 181, 0, 28, 42, 2, 181, 0, 32, 42, 16, 60]
abbrev dktX5_init_2 : List UInt8 := dkwX5_init_2 ++ dktX5_init_3
def dkwX5_init_1 : List UInt8 := [17, 0, 221, 188, 10, 181, 0, 16, 42, 17, 0, 221, 188, 10, 181, 0, 19, 42, 17, 0, 221, 188, 10]
abbrev dktX5_init_1 : List UInt8 := dkwX5_init_1 ++ dktX5_init_2
def dkwX5_init_0 : List UInt8 := [42, 183, 0, 1, 42, 17, 0, 221, 188, 10, 181, 0, 7, 42, 17, 6, 232, 188, 10, 181, 0, 13, 42]
abbrev dktX5_init_0 : List UInt8 := dkwX5_init_0 ++ dktX5_init_1
theorem dksX5_init_0 : cX5_init.data.toList.drop 0 = dktX5_init_0 := by decide +kernel
theorem dksX5_init_1 : cX5_init.data.toList.drop 23 = dktX5_init_1 := dk_seg dksX5_init_0 23 rfl rfl
theorem dksX5_init_2 : cX5_init.data.toList.drop 46 = dktX5_init_2 := dk_seg dksX5_init_1 23 rfl rfl
theorem dksX5_init_3 : cX5_init.data.toList.drop 70 = dktX5_init_3 := dk_seg dksX5_init_2 24 rfl rfl
theorem dX5_init_0 : decode cX5_init 0 = .ok (.aload_n 0, 1) := dk_42 (dk_at dksX5_init_0 0 rfl rfl)
theorem dX5_init_1 : decode cX5_init 1 = .ok (.invokespecial 1, 3) := dk_183 0 1 (dk_at dksX5_init_0 1 rfl rfl)
theorem dX5_init_4 : decode cX5_init 4 = .ok (.aload_n 0, 1) := dk_42 (dk_at dksX5_init_0 4 rfl rfl)
theorem dX5_init_5 : decode cX5_init 5 = .ok (.sipush 221, 3) := dk_17 0 221 (dk_at dksX5_init_0 5 rfl rfl)
theorem dX5_init_8 : decode cX5_init 8 = .ok (.newarray .int, 2) := dk_188_10 (dk_at dksX5_init_0 8 rfl rfl)
theorem dX5_init_10 : decode cX5_init 10 = .ok (.putfield 7, 3) := dk_181 0 7 (dk_at dksX5_init_0 10 rfl rfl)
theorem dX5_init_13 : decode cX5_init 13 = .ok (.aload_n 0, 1) := dk_42 (dk_at dksX5_init_0 13 rfl rfl)
theorem dX5_init_14 : decode cX5_init 14 = .ok (.sipush 1768, 3) := dk_17 6 232 (dk_at dksX5_init_0 14 rfl rfl)
theorem dX5_init_17 : decode cX5_init 17 = .ok (.newarray .int, 2) := dk_188_10 (dk_at dksX5_init_0 17 rfl rfl)
theorem dX5_init_19 : decode cX5_init 19 = .ok (.putfield 13, 3) := dk_181 0 13 (dk_at dksX5_init_0 19 rfl rfl)
theorem dX5_init_22 : decode cX5_init 22 = .ok (.aload_n 0, 1) := dk_42 (dk_at dksX5_init_0 22 rfl rfl)
theorem dX5_init_23 : decode cX5_init 23 = .ok (.sipush 221, 3) := dk_17 0 221 (dk_at dksX5_init_1 0 rfl rfl)
theorem dX5_init_26 : decode cX5_init 26 = .ok (.newarray .int, 2) := dk_188_10 (dk_at dksX5_init_1 3 rfl rfl)
theorem dX5_init_28 : decode cX5_init 28 = .ok (.putfield 16, 3) := dk_181 0 16 (dk_at dksX5_init_1 5 rfl rfl)
theorem dX5_init_31 : decode cX5_init 31 = .ok (.aload_n 0, 1) := dk_42 (dk_at dksX5_init_1 8 rfl rfl)
theorem dX5_init_32 : decode cX5_init 32 = .ok (.sipush 221, 3) := dk_17 0 221 (dk_at dksX5_init_1 9 rfl rfl)
theorem dX5_init_35 : decode cX5_init 35 = .ok (.newarray .int, 2) := dk_188_10 (dk_at dksX5_init_1 12 rfl rfl)
theorem dX5_init_37 : decode cX5_init 37 = .ok (.putfield 19, 3) := dk_181 0 19 (dk_at dksX5_init_1 14 rfl rfl)
theorem dX5_init_40 : decode cX5_init 40 = .ok (.aload_n 0, 1) := dk_42 (dk_at dksX5_init_1 17 rfl rfl)
theorem dX5_init_41 : decode cX5_init 41 = .ok (.sipush 221, 3) := dk_17 0 221 (dk_at dksX5_init_1 18 rfl rfl)
theorem dX5_init_44 : decode cX5_init 44 = .ok (.newarray .int, 2) := dk_188_10 (dk_at dksX5_init_1 21 rfl rfl)
theorem dX5_init_46 : decode cX5_init 46 = .ok (.putfield 22, 3) := dk_181 0 22 (dk_at dksX5_init_2 0 rfl rfl)
theorem dX5_init_49 : decode cX5_init 49 = .ok (.aload_n 0, 1) := dk_42 (dk_at dksX5_init_2 3 rfl rfl)
theorem dX5_init_50 : decode cX5_init 50 = .ok (.bipush 60, 2) := dk_16 60 (dk_at dksX5_init_2 4 rfl rfl)
theorem dX5_init_52 : decode cX5_init 52 = .ok (.newarray .int, 2) := dk_188_10 (dk_at dksX5_init_2 6 rfl rfl)
theorem dX5_init_54 : decode cX5_init 54 = .ok (.putfield 25, 3) := dk_181 0 25 (dk_at dksX5_init_2 8 rfl rfl)
theorem dX5_init_57 : decode cX5_init 57 = .ok (.aload_n 0, 1) := dk_42 (dk_at dksX5_init_2 11 rfl rfl)
theorem dX5_init_58 : decode cX5_init 58 = .ok (.iconst (-1), 1) := dk_2 (dk_at dksX5_init_2 12 rfl rfl)
theorem dX5_init_59 : decode cX5_init 59 = .ok (.putfield 28, 3) := dk_181 0 28 (dk_at dksX5_init_2 13 rfl rfl)
theorem dX5_init_62 : decode cX5_init 62 = .ok (.aload_n 0, 1) := dk_42 (dk_at dksX5_init_2 16 rfl rfl)
theorem dX5_init_63 : decode cX5_init 63 = .ok (.iconst (-1), 1) := dk_2 (dk_at dksX5_init_2 17 rfl rfl)
theorem dX5_init_64 : decode cX5_init 64 = .ok (.putfield 32, 3) := dk_181 0 32 (dk_at dksX5_init_2 18 rfl rfl)
theorem dX5_init_67 : decode cX5_init 67 = .ok (.aload_n 0, 1) := dk_42 (dk_at dksX5_init_2 21 rfl rfl)
theorem dX5_init_68 : decode cX5_init 68 = .ok (.bipush 60, 2) := dk_16 60 (dk_at dksX5_init_2 22 rfl rfl)
theorem dX5_init_70 : decode cX5_init 70 = .ok (.newarray .char, 2) := dk_188_5 (dk_at dksX5_init_3 0 rfl rfl)
theorem dX5_init_72 : decode cX5_init 72 = .ok (.putfield 35, 3) := dk_181 0 35 (dk_at dksX5_init_3 2 rfl rfl)
theorem dX5_init_75 : decode cX5_init 75 = .ok (.aload_n 0, 1) := dk_42 (dk_at dksX5_init_3 5 rfl rfl)
theorem dX5_init_76 : decode cX5_init 76 = .ok (.bipush 100, 2) := dk_16 100 (dk_at dksX5_init_3 6 rfl rfl)
theorem dX5_init_78 : decode cX5_init 78 = .ok (.newarray .int, 2) := dk_188_10 (dk_at dksX5_init_3 8 rfl rfl)
theorem dX5_init_80 : decode cX5_init 80 = .ok (.putfield 39, 3) := dk_181 0 39 (dk_at dksX5_init_3 10 rfl rfl)
theorem dX5_init_83 : decode cX5_init 83 = .ok (.aload_n 0, 1) := dk_42 (dk_at dksX5_init_3 13 rfl rfl)
theorem dX5_init_84 : decode cX5_init 84 = .ok (.invokevirtual 42, 3) := dk_182 0 42 (dk_at dksX5_init_3 14 rfl rfl)
theorem dX5_init_87 : decode cX5_init 87 = .ok (.return_, 1) := dk_177 (dk_at dksX5_init_3 17 rfl rfl)
abbrev cX5_begins : ByteArray := prog_18_method_2_code
def yX5_begins : MethodName := ⟨RX5, "begins", "()V"⟩
def dkwX5_begins_5 : List UInt8 := [177]
abbrev dktX5_begins_5 : List UInt8 := dkwX5_begins_5 ++ []
def dkwX5_begins_4 : List UInt8 := [27, 6, 162, 0, 22, 42, 180, 0, 7, 16, 16, 6, 27, 104, 96, 16, 9, 79, 132, 1, 1, 167, 255, 235]
abbrev dktX5_begins_4 : List UInt8 := dkwX5_begins_4 ++ dktX5_begins_5
def dkwX5_begins_3 : List UInt8 := [16, 11, 60, 27, 16, 16, 162, 0, 16, 42, 180, 0, 7, 27, 2, 79, 132, 1, 1, 167, 255, 240, 3, 60]
abbrev dktX5_begins_3 : List UInt8 := dkwX5_begins_3 ++ dktX5_begins_4
def dkwX5_begins_2 : List UInt8 := [180, 0, 7, 7, 16, 20, 79, 42, 180, 0, 7, 8, 16, 12, 79, 42, 180, 0, 7, 16, 6, 16, 40, 79]
abbrev dktX5_begins_2 : List UInt8 := dkwX5_begins_2 ++ dktX5_begins_3
def dkwX5_begins_1 : List UInt8 := [27, 6, 162, 0, 19, 42, 180, 0, 7, 4, 27, 96, 16, 60, 79, 132, 1, 1, 167, 255, 238, 42]
abbrev dktX5_begins_1 : List UInt8 := dkwX5_begins_1 ++ dktX5_begins_2
def dkwX5_begins_0 : List UInt8 := [3, 60, 27, 17, 0, 221, 162, 0, 16, 42, 180, 0, 7, 27, 3, 79, 132, 1, 1, 167, 255, 239, 3, 60]
abbrev dktX5_begins_0 : List UInt8 := dkwX5_begins_0 ++ dktX5_begins_1
theorem dksX5_begins_0 : cX5_begins.data.toList.drop 0 = dktX5_begins_0 := by decide +kernel
theorem dksX5_begins_1 : cX5_begins.data.toList.drop 24 = dktX5_begins_1 := dk_seg dksX5_begins_0 24 rfl rfl
theorem dksX5_begins_2 : cX5_begins.data.toList.drop 46 = dktX5_begins_2 := dk_seg dksX5_begins_1 22 rfl rfl
theorem dksX5_begins_3 : cX5_begins.data.toList.drop 70 = dktX5_begins_3 := dk_seg dksX5_begins_2 24 rfl rfl
theorem dksX5_begins_4 : cX5_begins.data.toList.drop 94 = dktX5_begins_4 := dk_seg dksX5_begins_3 24 rfl rfl
theorem dksX5_begins_5 : cX5_begins.data.toList.drop 118 = dktX5_begins_5 := dk_seg dksX5_begins_4 24 rfl rfl
theorem dX5_begins_0 : decode cX5_begins 0 = .ok (.iconst 0, 1) := dk_3 (dk_at dksX5_begins_0 0 rfl rfl)
theorem dX5_begins_1 : decode cX5_begins 1 = .ok (.istore_n 1, 1) := dk_60 (dk_at dksX5_begins_0 1 rfl rfl)
theorem dX5_begins_2 : decode cX5_begins 2 = .ok (.iload_n 1, 1) := dk_27 (dk_at dksX5_begins_0 2 rfl rfl)
theorem dX5_begins_3 : decode cX5_begins 3 = .ok (.sipush 221, 3) := dk_17 0 221 (dk_at dksX5_begins_0 3 rfl rfl)
theorem dX5_begins_6 : decode cX5_begins 6 = .ok (.if_icmp .ge 16, 3) := dk_162 0 16 (dk_at dksX5_begins_0 6 rfl rfl)
theorem dX5_begins_9 : decode cX5_begins 9 = .ok (.aload_n 0, 1) := dk_42 (dk_at dksX5_begins_0 9 rfl rfl)
theorem dX5_begins_10 : decode cX5_begins 10 = .ok (.getfield 7, 3) := dk_180 0 7 (dk_at dksX5_begins_0 10 rfl rfl)
theorem dX5_begins_13 : decode cX5_begins 13 = .ok (.iload_n 1, 1) := dk_27 (dk_at dksX5_begins_0 13 rfl rfl)
theorem dX5_begins_14 : decode cX5_begins 14 = .ok (.iconst 0, 1) := dk_3 (dk_at dksX5_begins_0 14 rfl rfl)
theorem dX5_begins_15 : decode cX5_begins 15 = .ok (.iastore, 1) := dk_79 (dk_at dksX5_begins_0 15 rfl rfl)
theorem dX5_begins_16 : decode cX5_begins 16 = .ok (.iinc 1 1, 3) := dk_132 1 1 (dk_at dksX5_begins_0 16 rfl rfl)
theorem dX5_begins_19 : decode cX5_begins 19 = .ok (.goto (-17), 3) := dk_167 255 239 (dk_at dksX5_begins_0 19 rfl rfl)
theorem dX5_begins_22 : decode cX5_begins 22 = .ok (.iconst 0, 1) := dk_3 (dk_at dksX5_begins_0 22 rfl rfl)
theorem dX5_begins_23 : decode cX5_begins 23 = .ok (.istore_n 1, 1) := dk_60 (dk_at dksX5_begins_0 23 rfl rfl)
theorem dX5_begins_24 : decode cX5_begins 24 = .ok (.iload_n 1, 1) := dk_27 (dk_at dksX5_begins_1 0 rfl rfl)
theorem dX5_begins_25 : decode cX5_begins 25 = .ok (.iconst 3, 1) := dk_6 (dk_at dksX5_begins_1 1 rfl rfl)
theorem dX5_begins_26 : decode cX5_begins 26 = .ok (.if_icmp .ge 19, 3) := dk_162 0 19 (dk_at dksX5_begins_1 2 rfl rfl)
theorem dX5_begins_29 : decode cX5_begins 29 = .ok (.aload_n 0, 1) := dk_42 (dk_at dksX5_begins_1 5 rfl rfl)
theorem dX5_begins_30 : decode cX5_begins 30 = .ok (.getfield 7, 3) := dk_180 0 7 (dk_at dksX5_begins_1 6 rfl rfl)
theorem dX5_begins_33 : decode cX5_begins 33 = .ok (.iconst 1, 1) := dk_4 (dk_at dksX5_begins_1 9 rfl rfl)
theorem dX5_begins_34 : decode cX5_begins 34 = .ok (.iload_n 1, 1) := dk_27 (dk_at dksX5_begins_1 10 rfl rfl)
theorem dX5_begins_35 : decode cX5_begins 35 = .ok (.iadd, 1) := dk_96 (dk_at dksX5_begins_1 11 rfl rfl)
theorem dX5_begins_36 : decode cX5_begins 36 = .ok (.bipush 60, 2) := dk_16 60 (dk_at dksX5_begins_1 12 rfl rfl)
theorem dX5_begins_38 : decode cX5_begins 38 = .ok (.iastore, 1) := dk_79 (dk_at dksX5_begins_1 14 rfl rfl)
theorem dX5_begins_39 : decode cX5_begins 39 = .ok (.iinc 1 1, 3) := dk_132 1 1 (dk_at dksX5_begins_1 15 rfl rfl)
theorem dX5_begins_42 : decode cX5_begins 42 = .ok (.goto (-18), 3) := dk_167 255 238 (dk_at dksX5_begins_1 18 rfl rfl)
theorem dX5_begins_45 : decode cX5_begins 45 = .ok (.aload_n 0, 1) := dk_42 (dk_at dksX5_begins_1 21 rfl rfl)
theorem dX5_begins_46 : decode cX5_begins 46 = .ok (.getfield 7, 3) := dk_180 0 7 (dk_at dksX5_begins_2 0 rfl rfl)
theorem dX5_begins_49 : decode cX5_begins 49 = .ok (.iconst 4, 1) := dk_7 (dk_at dksX5_begins_2 3 rfl rfl)
theorem dX5_begins_50 : decode cX5_begins 50 = .ok (.bipush 20, 2) := dk_16 20 (dk_at dksX5_begins_2 4 rfl rfl)
theorem dX5_begins_52 : decode cX5_begins 52 = .ok (.iastore, 1) := dk_79 (dk_at dksX5_begins_2 6 rfl rfl)
theorem dX5_begins_53 : decode cX5_begins 53 = .ok (.aload_n 0, 1) := dk_42 (dk_at dksX5_begins_2 7 rfl rfl)
theorem dX5_begins_54 : decode cX5_begins 54 = .ok (.getfield 7, 3) := dk_180 0 7 (dk_at dksX5_begins_2 8 rfl rfl)
theorem dX5_begins_57 : decode cX5_begins 57 = .ok (.iconst 5, 1) := dk_8 (dk_at dksX5_begins_2 11 rfl rfl)
theorem dX5_begins_58 : decode cX5_begins 58 = .ok (.bipush 12, 2) := dk_16 12 (dk_at dksX5_begins_2 12 rfl rfl)
theorem dX5_begins_60 : decode cX5_begins 60 = .ok (.iastore, 1) := dk_79 (dk_at dksX5_begins_2 14 rfl rfl)
theorem dX5_begins_61 : decode cX5_begins 61 = .ok (.aload_n 0, 1) := dk_42 (dk_at dksX5_begins_2 15 rfl rfl)
theorem dX5_begins_62 : decode cX5_begins 62 = .ok (.getfield 7, 3) := dk_180 0 7 (dk_at dksX5_begins_2 16 rfl rfl)
theorem dX5_begins_65 : decode cX5_begins 65 = .ok (.bipush 6, 2) := dk_16 6 (dk_at dksX5_begins_2 19 rfl rfl)
theorem dX5_begins_67 : decode cX5_begins 67 = .ok (.bipush 40, 2) := dk_16 40 (dk_at dksX5_begins_2 21 rfl rfl)
theorem dX5_begins_69 : decode cX5_begins 69 = .ok (.iastore, 1) := dk_79 (dk_at dksX5_begins_2 23 rfl rfl)
theorem dX5_begins_70 : decode cX5_begins 70 = .ok (.bipush 11, 2) := dk_16 11 (dk_at dksX5_begins_3 0 rfl rfl)
theorem dX5_begins_72 : decode cX5_begins 72 = .ok (.istore_n 1, 1) := dk_60 (dk_at dksX5_begins_3 2 rfl rfl)
theorem dX5_begins_73 : decode cX5_begins 73 = .ok (.iload_n 1, 1) := dk_27 (dk_at dksX5_begins_3 3 rfl rfl)
theorem dX5_begins_74 : decode cX5_begins 74 = .ok (.bipush 16, 2) := dk_16 16 (dk_at dksX5_begins_3 4 rfl rfl)
theorem dX5_begins_76 : decode cX5_begins 76 = .ok (.if_icmp .ge 16, 3) := dk_162 0 16 (dk_at dksX5_begins_3 6 rfl rfl)
theorem dX5_begins_79 : decode cX5_begins 79 = .ok (.aload_n 0, 1) := dk_42 (dk_at dksX5_begins_3 9 rfl rfl)
theorem dX5_begins_80 : decode cX5_begins 80 = .ok (.getfield 7, 3) := dk_180 0 7 (dk_at dksX5_begins_3 10 rfl rfl)
theorem dX5_begins_83 : decode cX5_begins 83 = .ok (.iload_n 1, 1) := dk_27 (dk_at dksX5_begins_3 13 rfl rfl)
theorem dX5_begins_84 : decode cX5_begins 84 = .ok (.iconst (-1), 1) := dk_2 (dk_at dksX5_begins_3 14 rfl rfl)
theorem dX5_begins_85 : decode cX5_begins 85 = .ok (.iastore, 1) := dk_79 (dk_at dksX5_begins_3 15 rfl rfl)
theorem dX5_begins_86 : decode cX5_begins 86 = .ok (.iinc 1 1, 3) := dk_132 1 1 (dk_at dksX5_begins_3 16 rfl rfl)
theorem dX5_begins_89 : decode cX5_begins 89 = .ok (.goto (-16), 3) := dk_167 255 240 (dk_at dksX5_begins_3 19 rfl rfl)
theorem dX5_begins_92 : decode cX5_begins 92 = .ok (.iconst 0, 1) := dk_3 (dk_at dksX5_begins_3 22 rfl rfl)
theorem dX5_begins_93 : decode cX5_begins 93 = .ok (.istore_n 1, 1) := dk_60 (dk_at dksX5_begins_3 23 rfl rfl)
theorem dX5_begins_94 : decode cX5_begins 94 = .ok (.iload_n 1, 1) := dk_27 (dk_at dksX5_begins_4 0 rfl rfl)
theorem dX5_begins_95 : decode cX5_begins 95 = .ok (.iconst 3, 1) := dk_6 (dk_at dksX5_begins_4 1 rfl rfl)
theorem dX5_begins_96 : decode cX5_begins 96 = .ok (.if_icmp .ge 22, 3) := dk_162 0 22 (dk_at dksX5_begins_4 2 rfl rfl)
theorem dX5_begins_99 : decode cX5_begins 99 = .ok (.aload_n 0, 1) := dk_42 (dk_at dksX5_begins_4 5 rfl rfl)
theorem dX5_begins_100 : decode cX5_begins 100 = .ok (.getfield 7, 3) := dk_180 0 7 (dk_at dksX5_begins_4 6 rfl rfl)
theorem dX5_begins_103 : decode cX5_begins 103 = .ok (.bipush 16, 2) := dk_16 16 (dk_at dksX5_begins_4 9 rfl rfl)
theorem dX5_begins_105 : decode cX5_begins 105 = .ok (.iconst 3, 1) := dk_6 (dk_at dksX5_begins_4 11 rfl rfl)
theorem dX5_begins_106 : decode cX5_begins 106 = .ok (.iload_n 1, 1) := dk_27 (dk_at dksX5_begins_4 12 rfl rfl)
theorem dX5_begins_107 : decode cX5_begins 107 = .ok (.imul, 1) := dk_104 (dk_at dksX5_begins_4 13 rfl rfl)
theorem dX5_begins_108 : decode cX5_begins 108 = .ok (.iadd, 1) := dk_96 (dk_at dksX5_begins_4 14 rfl rfl)
theorem dX5_begins_109 : decode cX5_begins 109 = .ok (.bipush 9, 2) := dk_16 9 (dk_at dksX5_begins_4 15 rfl rfl)
theorem dX5_begins_111 : decode cX5_begins 111 = .ok (.iastore, 1) := dk_79 (dk_at dksX5_begins_4 17 rfl rfl)
theorem dX5_begins_112 : decode cX5_begins 112 = .ok (.iinc 1 1, 3) := dk_132 1 1 (dk_at dksX5_begins_4 18 rfl rfl)
theorem dX5_begins_115 : decode cX5_begins 115 = .ok (.goto (-21), 3) := dk_167 255 235 (dk_at dksX5_begins_4 21 rfl rfl)
theorem dX5_begins_118 : decode cX5_begins 118 = .ok (.return_, 1) := dk_177 (dk_at dksX5_begins_5 0 rfl rfl)
abbrev cX5_thrown : ByteArray := prog_18_method_3_code
def yX5_thrown : MethodName := ⟨RX5, "thrown", "()I"⟩
theorem dX5_thrown_0 : decode cX5_thrown 0 = .ok (.aload_n 0, 1) := by decide +kernel
theorem dX5_thrown_1 : decode cX5_thrown 1 = .ok (.getfield 45, 3) := by decide +kernel
theorem dX5_thrown_4 : decode cX5_thrown 4 = .ok (.ireturn, 1) := by decide +kernel
abbrev cX5_clear : ByteArray := prog_18_method_22_code
def yX5_clear : MethodName := ⟨RX5, "clear", "()I"⟩
def dkwX5_clear_0 : List UInt8 := [42, 3, 181, 0, 45, 42, 180, 0, 7, 3, 46, 60, 42, 182, 0, 42, 42, 3, 181, 0, 58, 27, 172]
abbrev dktX5_clear_0 : List UInt8 := dkwX5_clear_0 ++ []
theorem dksX5_clear_0 : cX5_clear.data.toList.drop 0 = dktX5_clear_0 := by decide +kernel
theorem dX5_clear_0 : decode cX5_clear 0 = .ok (.aload_n 0, 1) := dk_42 (dk_at dksX5_clear_0 0 rfl rfl)
theorem dX5_clear_1 : decode cX5_clear 1 = .ok (.iconst 0, 1) := dk_3 (dk_at dksX5_clear_0 1 rfl rfl)
theorem dX5_clear_2 : decode cX5_clear 2 = .ok (.putfield 45, 3) := dk_181 0 45 (dk_at dksX5_clear_0 2 rfl rfl)
theorem dX5_clear_5 : decode cX5_clear 5 = .ok (.aload_n 0, 1) := dk_42 (dk_at dksX5_clear_0 5 rfl rfl)
theorem dX5_clear_6 : decode cX5_clear 6 = .ok (.getfield 7, 3) := dk_180 0 7 (dk_at dksX5_clear_0 6 rfl rfl)
theorem dX5_clear_9 : decode cX5_clear 9 = .ok (.iconst 0, 1) := dk_3 (dk_at dksX5_clear_0 9 rfl rfl)
theorem dX5_clear_10 : decode cX5_clear 10 = .ok (.iaload, 1) := dk_46 (dk_at dksX5_clear_0 10 rfl rfl)
theorem dX5_clear_11 : decode cX5_clear 11 = .ok (.istore_n 1, 1) := dk_60 (dk_at dksX5_clear_0 11 rfl rfl)
theorem dX5_clear_12 : decode cX5_clear 12 = .ok (.aload_n 0, 1) := dk_42 (dk_at dksX5_clear_0 12 rfl rfl)
theorem dX5_clear_13 : decode cX5_clear 13 = .ok (.invokevirtual 42, 3) := dk_182 0 42 (dk_at dksX5_clear_0 13 rfl rfl)
theorem dX5_clear_16 : decode cX5_clear 16 = .ok (.aload_n 0, 1) := dk_42 (dk_at dksX5_clear_0 16 rfl rfl)
theorem dX5_clear_17 : decode cX5_clear 17 = .ok (.iconst 0, 1) := dk_3 (dk_at dksX5_clear_0 17 rfl rfl)
theorem dX5_clear_18 : decode cX5_clear 18 = .ok (.putfield 58, 3) := dk_181 0 58 (dk_at dksX5_clear_0 18 rfl rfl)
theorem dX5_clear_21 : decode cX5_clear 21 = .ok (.iload_n 1, 1) := dk_27 (dk_at dksX5_clear_0 21 rfl rfl)
theorem dX5_clear_22 : decode cX5_clear 22 = .ok (.ireturn, 1) := dk_172 (dk_at dksX5_clear_0 22 rfl rfl)
abbrev cX5_buy : ByteArray := prog_18_method_23_code
def yX5_buy : MethodName := ⟨RX5, "buy", "(II)I"⟩
def dkwX5_buy_7 : List UInt8 := [42, 180, 0, 7, 4, 27, 96, 21, 5, 79, 21, 5, 172]
abbrev dktX5_buy_7 : List UInt8 := dkwX5_buy_7 ++ []
def dkwX5_buy_6 : List UInt8 := [182, 0, 77, 172, 42, 42, 180, 0, 7, 182, 0, 81, 42, 180, 0, 7, 16, 6, 92, 46, 21, 6, 100, 79]
abbrev dktX5_buy_6 : List UInt8 := dkwX5_buy_6 ++ dktX5_buy_7
def dkwX5_buy_5 : List UInt8 := [180, 0, 7, 16, 6, 46, 164, 0, 20, 42, 5, 8, 21, 6, 42, 180, 0, 7, 16, 6, 46, 100]
abbrev dktX5_buy_5 : List UInt8 := dkwX5_buy_5 ++ dktX5_buy_6
def dkwX5_buy_4 : List UInt8 := [4, 28, 104, 54, 6, 21, 5, 21, 4, 164, 0, 12, 42, 5, 4, 21, 4, 182, 0, 77, 172, 21, 6, 42]
abbrev dktX5_buy_4 : List UInt8 := dkwX5_buy_4 ++ dktX5_buy_5
def dkwX5_buy_3 : List UInt8 := [180, 0, 7, 4, 27, 96, 46, 29, 28, 104, 96, 54, 5, 27, 6, 162, 0, 9, 27, 4, 96, 167, 0, 4]
abbrev dktX5_buy_3 : List UInt8 := dkwX5_buy_3 ++ dktX5_buy_4
def dkwX5_buy_2 : List UInt8 := [8, 167, 0, 4, 4, 62, 27, 6, 162, 0, 9, 17, 1, 244, 167, 0, 5, 16, 99, 54, 4, 42]
abbrev dktX5_buy_2 : List UInt8 := dkwX5_buy_2 ++ dktX5_buy_3
def dkwX5_buy_1 : List UInt8 := [4, 182, 0, 73, 153, 0, 5, 3, 172, 27, 6, 162, 0, 8, 16, 10, 167, 0, 13, 27, 6, 160, 0, 7]
abbrev dktX5_buy_1 : List UInt8 := dkwX5_buy_1 ++ dktX5_buy_2
def dkwX5_buy_0 : List UInt8 := [42, 27, 3, 7, 184, 0, 65, 153, 0, 17, 28, 4, 16, 20, 184, 0, 65, 153, 0, 7, 3, 167, 0, 4]
abbrev dktX5_buy_0 : List UInt8 := dkwX5_buy_0 ++ dktX5_buy_1
theorem dksX5_buy_0 : cX5_buy.data.toList.drop 0 = dktX5_buy_0 := by decide +kernel
theorem dksX5_buy_1 : cX5_buy.data.toList.drop 24 = dktX5_buy_1 := dk_seg dksX5_buy_0 24 rfl rfl
theorem dksX5_buy_2 : cX5_buy.data.toList.drop 48 = dktX5_buy_2 := dk_seg dksX5_buy_1 24 rfl rfl
theorem dksX5_buy_3 : cX5_buy.data.toList.drop 70 = dktX5_buy_3 := dk_seg dksX5_buy_2 22 rfl rfl
theorem dksX5_buy_4 : cX5_buy.data.toList.drop 94 = dktX5_buy_4 := dk_seg dksX5_buy_3 24 rfl rfl
theorem dksX5_buy_5 : cX5_buy.data.toList.drop 118 = dktX5_buy_5 := dk_seg dksX5_buy_4 24 rfl rfl
theorem dksX5_buy_6 : cX5_buy.data.toList.drop 140 = dktX5_buy_6 := dk_seg dksX5_buy_5 22 rfl rfl
theorem dksX5_buy_7 : cX5_buy.data.toList.drop 164 = dktX5_buy_7 := dk_seg dksX5_buy_6 24 rfl rfl
theorem dX5_buy_0 : decode cX5_buy 0 = .ok (.aload_n 0, 1) := dk_42 (dk_at dksX5_buy_0 0 rfl rfl)
theorem dX5_buy_1 : decode cX5_buy 1 = .ok (.iload_n 1, 1) := dk_27 (dk_at dksX5_buy_0 1 rfl rfl)
theorem dX5_buy_2 : decode cX5_buy 2 = .ok (.iconst 0, 1) := dk_3 (dk_at dksX5_buy_0 2 rfl rfl)
theorem dX5_buy_3 : decode cX5_buy 3 = .ok (.iconst 4, 1) := dk_7 (dk_at dksX5_buy_0 3 rfl rfl)
theorem dX5_buy_4 : decode cX5_buy 4 = .ok (.invokestatic 65, 3) := dk_184 0 65 (dk_at dksX5_buy_0 4 rfl rfl)
theorem dX5_buy_7 : decode cX5_buy 7 = .ok (.ifCond .eq 17, 3) := dk_153 0 17 (dk_at dksX5_buy_0 7 rfl rfl)
theorem dX5_buy_10 : decode cX5_buy 10 = .ok (.iload_n 2, 1) := dk_28 (dk_at dksX5_buy_0 10 rfl rfl)
theorem dX5_buy_11 : decode cX5_buy 11 = .ok (.iconst 1, 1) := dk_4 (dk_at dksX5_buy_0 11 rfl rfl)
theorem dX5_buy_12 : decode cX5_buy 12 = .ok (.bipush 20, 2) := dk_16 20 (dk_at dksX5_buy_0 12 rfl rfl)
theorem dX5_buy_14 : decode cX5_buy 14 = .ok (.invokestatic 65, 3) := dk_184 0 65 (dk_at dksX5_buy_0 14 rfl rfl)
theorem dX5_buy_17 : decode cX5_buy 17 = .ok (.ifCond .eq 7, 3) := dk_153 0 7 (dk_at dksX5_buy_0 17 rfl rfl)
theorem dX5_buy_20 : decode cX5_buy 20 = .ok (.iconst 0, 1) := dk_3 (dk_at dksX5_buy_0 20 rfl rfl)
theorem dX5_buy_21 : decode cX5_buy 21 = .ok (.goto 4, 3) := dk_167 0 4 (dk_at dksX5_buy_0 21 rfl rfl)
theorem dX5_buy_24 : decode cX5_buy 24 = .ok (.iconst 1, 1) := dk_4 (dk_at dksX5_buy_1 0 rfl rfl)
theorem dX5_buy_25 : decode cX5_buy 25 = .ok (.invokevirtual 73, 3) := dk_182 0 73 (dk_at dksX5_buy_1 1 rfl rfl)
theorem dX5_buy_28 : decode cX5_buy 28 = .ok (.ifCond .eq 5, 3) := dk_153 0 5 (dk_at dksX5_buy_1 4 rfl rfl)
theorem dX5_buy_31 : decode cX5_buy 31 = .ok (.iconst 0, 1) := dk_3 (dk_at dksX5_buy_1 7 rfl rfl)
theorem dX5_buy_32 : decode cX5_buy 32 = .ok (.ireturn, 1) := dk_172 (dk_at dksX5_buy_1 8 rfl rfl)
theorem dX5_buy_33 : decode cX5_buy 33 = .ok (.iload_n 1, 1) := dk_27 (dk_at dksX5_buy_1 9 rfl rfl)
theorem dX5_buy_34 : decode cX5_buy 34 = .ok (.iconst 3, 1) := dk_6 (dk_at dksX5_buy_1 10 rfl rfl)
theorem dX5_buy_35 : decode cX5_buy 35 = .ok (.if_icmp .ge 8, 3) := dk_162 0 8 (dk_at dksX5_buy_1 11 rfl rfl)
theorem dX5_buy_38 : decode cX5_buy 38 = .ok (.bipush 10, 2) := dk_16 10 (dk_at dksX5_buy_1 14 rfl rfl)
theorem dX5_buy_40 : decode cX5_buy 40 = .ok (.goto 13, 3) := dk_167 0 13 (dk_at dksX5_buy_1 16 rfl rfl)
theorem dX5_buy_43 : decode cX5_buy 43 = .ok (.iload_n 1, 1) := dk_27 (dk_at dksX5_buy_1 19 rfl rfl)
theorem dX5_buy_44 : decode cX5_buy 44 = .ok (.iconst 3, 1) := dk_6 (dk_at dksX5_buy_1 20 rfl rfl)
theorem dX5_buy_45 : decode cX5_buy 45 = .ok (.if_icmp .ne 7, 3) := dk_160 0 7 (dk_at dksX5_buy_1 21 rfl rfl)
theorem dX5_buy_48 : decode cX5_buy 48 = .ok (.iconst 5, 1) := dk_8 (dk_at dksX5_buy_2 0 rfl rfl)
theorem dX5_buy_49 : decode cX5_buy 49 = .ok (.goto 4, 3) := dk_167 0 4 (dk_at dksX5_buy_2 1 rfl rfl)
theorem dX5_buy_52 : decode cX5_buy 52 = .ok (.iconst 1, 1) := dk_4 (dk_at dksX5_buy_2 4 rfl rfl)
theorem dX5_buy_53 : decode cX5_buy 53 = .ok (.istore_n 3, 1) := dk_62 (dk_at dksX5_buy_2 5 rfl rfl)
theorem dX5_buy_54 : decode cX5_buy 54 = .ok (.iload_n 1, 1) := dk_27 (dk_at dksX5_buy_2 6 rfl rfl)
theorem dX5_buy_55 : decode cX5_buy 55 = .ok (.iconst 3, 1) := dk_6 (dk_at dksX5_buy_2 7 rfl rfl)
theorem dX5_buy_56 : decode cX5_buy 56 = .ok (.if_icmp .ge 9, 3) := dk_162 0 9 (dk_at dksX5_buy_2 8 rfl rfl)
theorem dX5_buy_59 : decode cX5_buy 59 = .ok (.sipush 500, 3) := dk_17 1 244 (dk_at dksX5_buy_2 11 rfl rfl)
theorem dX5_buy_62 : decode cX5_buy 62 = .ok (.goto 5, 3) := dk_167 0 5 (dk_at dksX5_buy_2 14 rfl rfl)
theorem dX5_buy_65 : decode cX5_buy 65 = .ok (.bipush 99, 2) := dk_16 99 (dk_at dksX5_buy_2 17 rfl rfl)
theorem dX5_buy_67 : decode cX5_buy 67 = .ok (.istore 4, 2) := dk_54 4 (dk_at dksX5_buy_2 19 rfl rfl)
theorem dX5_buy_69 : decode cX5_buy 69 = .ok (.aload_n 0, 1) := dk_42 (dk_at dksX5_buy_2 21 rfl rfl)
theorem dX5_buy_70 : decode cX5_buy 70 = .ok (.getfield 7, 3) := dk_180 0 7 (dk_at dksX5_buy_3 0 rfl rfl)
theorem dX5_buy_73 : decode cX5_buy 73 = .ok (.iconst 1, 1) := dk_4 (dk_at dksX5_buy_3 3 rfl rfl)
theorem dX5_buy_74 : decode cX5_buy 74 = .ok (.iload_n 1, 1) := dk_27 (dk_at dksX5_buy_3 4 rfl rfl)
theorem dX5_buy_75 : decode cX5_buy 75 = .ok (.iadd, 1) := dk_96 (dk_at dksX5_buy_3 5 rfl rfl)
theorem dX5_buy_76 : decode cX5_buy 76 = .ok (.iaload, 1) := dk_46 (dk_at dksX5_buy_3 6 rfl rfl)
theorem dX5_buy_77 : decode cX5_buy 77 = .ok (.iload_n 3, 1) := dk_29 (dk_at dksX5_buy_3 7 rfl rfl)
theorem dX5_buy_78 : decode cX5_buy 78 = .ok (.iload_n 2, 1) := dk_28 (dk_at dksX5_buy_3 8 rfl rfl)
theorem dX5_buy_79 : decode cX5_buy 79 = .ok (.imul, 1) := dk_104 (dk_at dksX5_buy_3 9 rfl rfl)
theorem dX5_buy_80 : decode cX5_buy 80 = .ok (.iadd, 1) := dk_96 (dk_at dksX5_buy_3 10 rfl rfl)
theorem dX5_buy_81 : decode cX5_buy 81 = .ok (.istore 5, 2) := dk_54 5 (dk_at dksX5_buy_3 11 rfl rfl)
theorem dX5_buy_83 : decode cX5_buy 83 = .ok (.iload_n 1, 1) := dk_27 (dk_at dksX5_buy_3 13 rfl rfl)
theorem dX5_buy_84 : decode cX5_buy 84 = .ok (.iconst 3, 1) := dk_6 (dk_at dksX5_buy_3 14 rfl rfl)
theorem dX5_buy_85 : decode cX5_buy 85 = .ok (.if_icmp .ge 9, 3) := dk_162 0 9 (dk_at dksX5_buy_3 15 rfl rfl)
theorem dX5_buy_88 : decode cX5_buy 88 = .ok (.iload_n 1, 1) := dk_27 (dk_at dksX5_buy_3 18 rfl rfl)
theorem dX5_buy_89 : decode cX5_buy 89 = .ok (.iconst 1, 1) := dk_4 (dk_at dksX5_buy_3 19 rfl rfl)
theorem dX5_buy_90 : decode cX5_buy 90 = .ok (.iadd, 1) := dk_96 (dk_at dksX5_buy_3 20 rfl rfl)
theorem dX5_buy_91 : decode cX5_buy 91 = .ok (.goto 4, 3) := dk_167 0 4 (dk_at dksX5_buy_3 21 rfl rfl)
theorem dX5_buy_94 : decode cX5_buy 94 = .ok (.iconst 1, 1) := dk_4 (dk_at dksX5_buy_4 0 rfl rfl)
theorem dX5_buy_95 : decode cX5_buy 95 = .ok (.iload_n 2, 1) := dk_28 (dk_at dksX5_buy_4 1 rfl rfl)
theorem dX5_buy_96 : decode cX5_buy 96 = .ok (.imul, 1) := dk_104 (dk_at dksX5_buy_4 2 rfl rfl)
theorem dX5_buy_97 : decode cX5_buy 97 = .ok (.istore 6, 2) := dk_54 6 (dk_at dksX5_buy_4 3 rfl rfl)
theorem dX5_buy_99 : decode cX5_buy 99 = .ok (.iload 5, 2) := dk_21 5 (dk_at dksX5_buy_4 5 rfl rfl)
theorem dX5_buy_101 : decode cX5_buy 101 = .ok (.iload 4, 2) := dk_21 4 (dk_at dksX5_buy_4 7 rfl rfl)
theorem dX5_buy_103 : decode cX5_buy 103 = .ok (.if_icmp .le 12, 3) := dk_164 0 12 (dk_at dksX5_buy_4 9 rfl rfl)
theorem dX5_buy_106 : decode cX5_buy 106 = .ok (.aload_n 0, 1) := dk_42 (dk_at dksX5_buy_4 12 rfl rfl)
theorem dX5_buy_107 : decode cX5_buy 107 = .ok (.iconst 2, 1) := dk_5 (dk_at dksX5_buy_4 13 rfl rfl)
theorem dX5_buy_108 : decode cX5_buy 108 = .ok (.iconst 1, 1) := dk_4 (dk_at dksX5_buy_4 14 rfl rfl)
theorem dX5_buy_109 : decode cX5_buy 109 = .ok (.iload 4, 2) := dk_21 4 (dk_at dksX5_buy_4 15 rfl rfl)
theorem dX5_buy_111 : decode cX5_buy 111 = .ok (.invokevirtual 77, 3) := dk_182 0 77 (dk_at dksX5_buy_4 17 rfl rfl)
theorem dX5_buy_114 : decode cX5_buy 114 = .ok (.ireturn, 1) := dk_172 (dk_at dksX5_buy_4 20 rfl rfl)
theorem dX5_buy_115 : decode cX5_buy 115 = .ok (.iload 6, 2) := dk_21 6 (dk_at dksX5_buy_4 21 rfl rfl)
theorem dX5_buy_117 : decode cX5_buy 117 = .ok (.aload_n 0, 1) := dk_42 (dk_at dksX5_buy_4 23 rfl rfl)
theorem dX5_buy_118 : decode cX5_buy 118 = .ok (.getfield 7, 3) := dk_180 0 7 (dk_at dksX5_buy_5 0 rfl rfl)
theorem dX5_buy_121 : decode cX5_buy 121 = .ok (.bipush 6, 2) := dk_16 6 (dk_at dksX5_buy_5 3 rfl rfl)
theorem dX5_buy_123 : decode cX5_buy 123 = .ok (.iaload, 1) := dk_46 (dk_at dksX5_buy_5 5 rfl rfl)
theorem dX5_buy_124 : decode cX5_buy 124 = .ok (.if_icmp .le 20, 3) := dk_164 0 20 (dk_at dksX5_buy_5 6 rfl rfl)
theorem dX5_buy_127 : decode cX5_buy 127 = .ok (.aload_n 0, 1) := dk_42 (dk_at dksX5_buy_5 9 rfl rfl)
theorem dX5_buy_128 : decode cX5_buy 128 = .ok (.iconst 2, 1) := dk_5 (dk_at dksX5_buy_5 10 rfl rfl)
theorem dX5_buy_129 : decode cX5_buy 129 = .ok (.iconst 5, 1) := dk_8 (dk_at dksX5_buy_5 11 rfl rfl)
theorem dX5_buy_130 : decode cX5_buy 130 = .ok (.iload 6, 2) := dk_21 6 (dk_at dksX5_buy_5 12 rfl rfl)
theorem dX5_buy_132 : decode cX5_buy 132 = .ok (.aload_n 0, 1) := dk_42 (dk_at dksX5_buy_5 14 rfl rfl)
theorem dX5_buy_133 : decode cX5_buy 133 = .ok (.getfield 7, 3) := dk_180 0 7 (dk_at dksX5_buy_5 15 rfl rfl)
theorem dX5_buy_136 : decode cX5_buy 136 = .ok (.bipush 6, 2) := dk_16 6 (dk_at dksX5_buy_5 18 rfl rfl)
theorem dX5_buy_138 : decode cX5_buy 138 = .ok (.iaload, 1) := dk_46 (dk_at dksX5_buy_5 20 rfl rfl)
theorem dX5_buy_139 : decode cX5_buy 139 = .ok (.isub, 1) := dk_100 (dk_at dksX5_buy_5 21 rfl rfl)
theorem dX5_buy_140 : decode cX5_buy 140 = .ok (.invokevirtual 77, 3) := dk_182 0 77 (dk_at dksX5_buy_6 0 rfl rfl)
theorem dX5_buy_143 : decode cX5_buy 143 = .ok (.ireturn, 1) := dk_172 (dk_at dksX5_buy_6 3 rfl rfl)
theorem dX5_buy_144 : decode cX5_buy 144 = .ok (.aload_n 0, 1) := dk_42 (dk_at dksX5_buy_6 4 rfl rfl)
theorem dX5_buy_145 : decode cX5_buy 145 = .ok (.aload_n 0, 1) := dk_42 (dk_at dksX5_buy_6 5 rfl rfl)
theorem dX5_buy_146 : decode cX5_buy 146 = .ok (.getfield 7, 3) := dk_180 0 7 (dk_at dksX5_buy_6 6 rfl rfl)
theorem dX5_buy_149 : decode cX5_buy 149 = .ok (.invokevirtual 81, 3) := dk_182 0 81 (dk_at dksX5_buy_6 9 rfl rfl)
theorem dX5_buy_152 : decode cX5_buy 152 = .ok (.aload_n 0, 1) := dk_42 (dk_at dksX5_buy_6 12 rfl rfl)
theorem dX5_buy_153 : decode cX5_buy 153 = .ok (.getfield 7, 3) := dk_180 0 7 (dk_at dksX5_buy_6 13 rfl rfl)
theorem dX5_buy_156 : decode cX5_buy 156 = .ok (.bipush 6, 2) := dk_16 6 (dk_at dksX5_buy_6 16 rfl rfl)
theorem dX5_buy_158 : decode cX5_buy 158 = .ok (.dup2, 1) := dk_92 (dk_at dksX5_buy_6 18 rfl rfl)
theorem dX5_buy_159 : decode cX5_buy 159 = .ok (.iaload, 1) := dk_46 (dk_at dksX5_buy_6 19 rfl rfl)
theorem dX5_buy_160 : decode cX5_buy 160 = .ok (.iload 6, 2) := dk_21 6 (dk_at dksX5_buy_6 20 rfl rfl)
theorem dX5_buy_162 : decode cX5_buy 162 = .ok (.isub, 1) := dk_100 (dk_at dksX5_buy_6 22 rfl rfl)
theorem dX5_buy_163 : decode cX5_buy 163 = .ok (.iastore, 1) := dk_79 (dk_at dksX5_buy_6 23 rfl rfl)
theorem dX5_buy_164 : decode cX5_buy 164 = .ok (.aload_n 0, 1) := dk_42 (dk_at dksX5_buy_7 0 rfl rfl)
theorem dX5_buy_165 : decode cX5_buy 165 = .ok (.getfield 7, 3) := dk_180 0 7 (dk_at dksX5_buy_7 1 rfl rfl)
theorem dX5_buy_168 : decode cX5_buy 168 = .ok (.iconst 1, 1) := dk_4 (dk_at dksX5_buy_7 4 rfl rfl)
theorem dX5_buy_169 : decode cX5_buy 169 = .ok (.iload_n 1, 1) := dk_27 (dk_at dksX5_buy_7 5 rfl rfl)
theorem dX5_buy_170 : decode cX5_buy 170 = .ok (.iadd, 1) := dk_96 (dk_at dksX5_buy_7 6 rfl rfl)
theorem dX5_buy_171 : decode cX5_buy 171 = .ok (.iload 5, 2) := dk_21 5 (dk_at dksX5_buy_7 7 rfl rfl)
theorem dX5_buy_173 : decode cX5_buy 173 = .ok (.iastore, 1) := dk_79 (dk_at dksX5_buy_7 9 rfl rfl)
theorem dX5_buy_174 : decode cX5_buy 174 = .ok (.iload 5, 2) := dk_21 5 (dk_at dksX5_buy_7 10 rfl rfl)
theorem dX5_buy_176 : decode cX5_buy 176 = .ok (.ireturn, 1) := dk_172 (dk_at dksX5_buy_7 12 rfl rfl)
abbrev cX5_in : ByteArray := prog_18_method_6_code
def yX5_in : MethodName := ⟨RX5, "in", "(III)Z"⟩
def dkwX5_in_0 : List UInt8 := [26, 27, 161, 0, 12, 26, 28, 163, 0, 7, 4, 167, 0, 4, 3, 172]
abbrev dktX5_in_0 : List UInt8 := dkwX5_in_0 ++ []
theorem dksX5_in_0 : cX5_in.data.toList.drop 0 = dktX5_in_0 := by decide +kernel
theorem dX5_in_0 : decode cX5_in 0 = .ok (.iload_n 0, 1) := dk_26 (dk_at dksX5_in_0 0 rfl rfl)
theorem dX5_in_1 : decode cX5_in 1 = .ok (.iload_n 1, 1) := dk_27 (dk_at dksX5_in_0 1 rfl rfl)
theorem dX5_in_2 : decode cX5_in 2 = .ok (.if_icmp .lt 12, 3) := dk_161 0 12 (dk_at dksX5_in_0 2 rfl rfl)
theorem dX5_in_5 : decode cX5_in 5 = .ok (.iload_n 0, 1) := dk_26 (dk_at dksX5_in_0 5 rfl rfl)
theorem dX5_in_6 : decode cX5_in 6 = .ok (.iload_n 2, 1) := dk_28 (dk_at dksX5_in_0 6 rfl rfl)
theorem dX5_in_7 : decode cX5_in 7 = .ok (.if_icmp .gt 7, 3) := dk_163 0 7 (dk_at dksX5_in_0 7 rfl rfl)
theorem dX5_in_10 : decode cX5_in 10 = .ok (.iconst 1, 1) := dk_4 (dk_at dksX5_in_0 10 rfl rfl)
theorem dX5_in_11 : decode cX5_in 11 = .ok (.goto 4, 3) := dk_167 0 4 (dk_at dksX5_in_0 11 rfl rfl)
theorem dX5_in_14 : decode cX5_in 14 = .ok (.iconst 0, 1) := dk_3 (dk_at dksX5_in_0 14 rfl rfl)
theorem dX5_in_15 : decode cX5_in 15 = .ok (.ireturn, 1) := dk_172 (dk_at dksX5_in_0 15 rfl rfl)
abbrev cX5_fails : ByteArray := prog_18_method_4_code
def yX5_fails : MethodName := ⟨RX5, "fails", "(I)Z"⟩
def dkwX5_fails_0 : List UInt8 := [42, 27, 181, 0, 45, 27, 158, 0, 7, 4, 167, 0, 4, 3, 172]
abbrev dktX5_fails_0 : List UInt8 := dkwX5_fails_0 ++ []
theorem dksX5_fails_0 : cX5_fails.data.toList.drop 0 = dktX5_fails_0 := by decide +kernel
theorem dX5_fails_0 : decode cX5_fails 0 = .ok (.aload_n 0, 1) := dk_42 (dk_at dksX5_fails_0 0 rfl rfl)
theorem dX5_fails_1 : decode cX5_fails 1 = .ok (.iload_n 1, 1) := dk_27 (dk_at dksX5_fails_0 1 rfl rfl)
theorem dX5_fails_2 : decode cX5_fails 2 = .ok (.putfield 45, 3) := dk_181 0 45 (dk_at dksX5_fails_0 2 rfl rfl)
theorem dX5_fails_5 : decode cX5_fails 5 = .ok (.iload_n 1, 1) := dk_27 (dk_at dksX5_fails_0 5 rfl rfl)
theorem dX5_fails_6 : decode cX5_fails 6 = .ok (.ifCond .le 7, 3) := dk_158 0 7 (dk_at dksX5_fails_0 6 rfl rfl)
theorem dX5_fails_9 : decode cX5_fails 9 = .ok (.iconst 1, 1) := dk_4 (dk_at dksX5_fails_0 9 rfl rfl)
theorem dX5_fails_10 : decode cX5_fails 10 = .ok (.goto 4, 3) := dk_167 0 4 (dk_at dksX5_fails_0 10 rfl rfl)
theorem dX5_fails_13 : decode cX5_fails 13 = .ok (.iconst 0, 1) := dk_3 (dk_at dksX5_fails_0 13 rfl rfl)
theorem dX5_fails_14 : decode cX5_fails 14 = .ok (.ireturn, 1) := dk_172 (dk_at dksX5_fails_0 14 rfl rfl)
abbrev cX5_refuses : ByteArray := prog_18_method_5_code
def yX5_refuses : MethodName := ⟨RX5, "refuses", "(III)I"⟩
def dkwX5_refuses_0 : List UInt8 := [42, 27, 181, 0, 45, 42, 28, 181, 0, 48, 42, 29, 181, 0, 51, 3, 172]
abbrev dktX5_refuses_0 : List UInt8 := dkwX5_refuses_0 ++ []
theorem dksX5_refuses_0 : cX5_refuses.data.toList.drop 0 = dktX5_refuses_0 := by decide +kernel
theorem dX5_refuses_0 : decode cX5_refuses 0 = .ok (.aload_n 0, 1) := dk_42 (dk_at dksX5_refuses_0 0 rfl rfl)
theorem dX5_refuses_1 : decode cX5_refuses 1 = .ok (.iload_n 1, 1) := dk_27 (dk_at dksX5_refuses_0 1 rfl rfl)
theorem dX5_refuses_2 : decode cX5_refuses 2 = .ok (.putfield 45, 3) := dk_181 0 45 (dk_at dksX5_refuses_0 2 rfl rfl)
theorem dX5_refuses_5 : decode cX5_refuses 5 = .ok (.aload_n 0, 1) := dk_42 (dk_at dksX5_refuses_0 5 rfl rfl)
theorem dX5_refuses_6 : decode cX5_refuses 6 = .ok (.iload_n 2, 1) := dk_28 (dk_at dksX5_refuses_0 6 rfl rfl)
theorem dX5_refuses_7 : decode cX5_refuses 7 = .ok (.putfield 48, 3) := dk_181 0 48 (dk_at dksX5_refuses_0 7 rfl rfl)
theorem dX5_refuses_10 : decode cX5_refuses 10 = .ok (.aload_n 0, 1) := dk_42 (dk_at dksX5_refuses_0 10 rfl rfl)
theorem dX5_refuses_11 : decode cX5_refuses 11 = .ok (.iload_n 3, 1) := dk_29 (dk_at dksX5_refuses_0 11 rfl rfl)
theorem dX5_refuses_12 : decode cX5_refuses 12 = .ok (.putfield 51, 3) := dk_181 0 51 (dk_at dksX5_refuses_0 12 rfl rfl)
theorem dX5_refuses_15 : decode cX5_refuses 15 = .ok (.iconst 0, 1) := dk_3 (dk_at dksX5_refuses_0 15 rfl rfl)
theorem dX5_refuses_16 : decode cX5_refuses 16 = .ok (.ireturn, 1) := dk_172 (dk_at dksX5_refuses_0 16 rfl rfl)
abbrev cX5_keeps : ByteArray := prog_18_method_10_code
def yX5_keeps : MethodName := ⟨RX5, "keeps", "([I)V"⟩
def dkwX5_keeps_3 : List UInt8 := [17, 0, 221, 42, 180, 0, 58, 104, 184, 0, 61, 42, 89, 180, 0, 58, 4, 96, 181, 0, 58, 177]
abbrev dktX5_keeps_3 : List UInt8 := dkwX5_keeps_3 ++ []
def dkwX5_keeps_2 : List UInt8 := [132, 2, 1, 167, 255, 230, 42, 89, 180, 0, 58, 4, 100, 181, 0, 58, 43, 3, 42, 180, 0, 13]
abbrev dktX5_keeps_2 : List UInt8 := dkwX5_keeps_2 ++ dktX5_keeps_3
def dkwX5_keeps_1 : List UInt8 := [28, 17, 6, 11, 162, 0, 25, 42, 180, 0, 13, 28, 42, 180, 0, 13, 28, 17, 0, 221, 96, 46, 79]
abbrev dktX5_keeps_1 : List UInt8 := dkwX5_keeps_1 ++ dktX5_keeps_2
def dkwX5_keeps_0 : List UInt8 := [42, 3, 181, 0, 45, 42, 180, 0, 54, 153, 0, 4, 177, 42, 180, 0, 58, 16, 8, 160, 0, 44, 3, 61]
abbrev dktX5_keeps_0 : List UInt8 := dkwX5_keeps_0 ++ dktX5_keeps_1
theorem dksX5_keeps_0 : cX5_keeps.data.toList.drop 0 = dktX5_keeps_0 := by decide +kernel
theorem dksX5_keeps_1 : cX5_keeps.data.toList.drop 24 = dktX5_keeps_1 := dk_seg dksX5_keeps_0 24 rfl rfl
theorem dksX5_keeps_2 : cX5_keeps.data.toList.drop 47 = dktX5_keeps_2 := dk_seg dksX5_keeps_1 23 rfl rfl
theorem dksX5_keeps_3 : cX5_keeps.data.toList.drop 69 = dktX5_keeps_3 := dk_seg dksX5_keeps_2 22 rfl rfl
theorem dX5_keeps_0 : decode cX5_keeps 0 = .ok (.aload_n 0, 1) := dk_42 (dk_at dksX5_keeps_0 0 rfl rfl)
theorem dX5_keeps_1 : decode cX5_keeps 1 = .ok (.iconst 0, 1) := dk_3 (dk_at dksX5_keeps_0 1 rfl rfl)
theorem dX5_keeps_2 : decode cX5_keeps 2 = .ok (.putfield 45, 3) := dk_181 0 45 (dk_at dksX5_keeps_0 2 rfl rfl)
theorem dX5_keeps_5 : decode cX5_keeps 5 = .ok (.aload_n 0, 1) := dk_42 (dk_at dksX5_keeps_0 5 rfl rfl)
theorem dX5_keeps_6 : decode cX5_keeps 6 = .ok (.getfield 54, 3) := dk_180 0 54 (dk_at dksX5_keeps_0 6 rfl rfl)
theorem dX5_keeps_9 : decode cX5_keeps 9 = .ok (.ifCond .eq 4, 3) := dk_153 0 4 (dk_at dksX5_keeps_0 9 rfl rfl)
theorem dX5_keeps_12 : decode cX5_keeps 12 = .ok (.return_, 1) := dk_177 (dk_at dksX5_keeps_0 12 rfl rfl)
theorem dX5_keeps_13 : decode cX5_keeps 13 = .ok (.aload_n 0, 1) := dk_42 (dk_at dksX5_keeps_0 13 rfl rfl)
theorem dX5_keeps_14 : decode cX5_keeps 14 = .ok (.getfield 58, 3) := dk_180 0 58 (dk_at dksX5_keeps_0 14 rfl rfl)
theorem dX5_keeps_17 : decode cX5_keeps 17 = .ok (.bipush 8, 2) := dk_16 8 (dk_at dksX5_keeps_0 17 rfl rfl)
theorem dX5_keeps_19 : decode cX5_keeps 19 = .ok (.if_icmp .ne 44, 3) := dk_160 0 44 (dk_at dksX5_keeps_0 19 rfl rfl)
theorem dX5_keeps_22 : decode cX5_keeps 22 = .ok (.iconst 0, 1) := dk_3 (dk_at dksX5_keeps_0 22 rfl rfl)
theorem dX5_keeps_23 : decode cX5_keeps 23 = .ok (.istore_n 2, 1) := dk_61 (dk_at dksX5_keeps_0 23 rfl rfl)
theorem dX5_keeps_24 : decode cX5_keeps 24 = .ok (.iload_n 2, 1) := dk_28 (dk_at dksX5_keeps_1 0 rfl rfl)
theorem dX5_keeps_25 : decode cX5_keeps 25 = .ok (.sipush 1547, 3) := dk_17 6 11 (dk_at dksX5_keeps_1 1 rfl rfl)
theorem dX5_keeps_28 : decode cX5_keeps 28 = .ok (.if_icmp .ge 25, 3) := dk_162 0 25 (dk_at dksX5_keeps_1 4 rfl rfl)
theorem dX5_keeps_31 : decode cX5_keeps 31 = .ok (.aload_n 0, 1) := dk_42 (dk_at dksX5_keeps_1 7 rfl rfl)
theorem dX5_keeps_32 : decode cX5_keeps 32 = .ok (.getfield 13, 3) := dk_180 0 13 (dk_at dksX5_keeps_1 8 rfl rfl)
theorem dX5_keeps_35 : decode cX5_keeps 35 = .ok (.iload_n 2, 1) := dk_28 (dk_at dksX5_keeps_1 11 rfl rfl)
theorem dX5_keeps_36 : decode cX5_keeps 36 = .ok (.aload_n 0, 1) := dk_42 (dk_at dksX5_keeps_1 12 rfl rfl)
theorem dX5_keeps_37 : decode cX5_keeps 37 = .ok (.getfield 13, 3) := dk_180 0 13 (dk_at dksX5_keeps_1 13 rfl rfl)
theorem dX5_keeps_40 : decode cX5_keeps 40 = .ok (.iload_n 2, 1) := dk_28 (dk_at dksX5_keeps_1 16 rfl rfl)
theorem dX5_keeps_41 : decode cX5_keeps 41 = .ok (.sipush 221, 3) := dk_17 0 221 (dk_at dksX5_keeps_1 17 rfl rfl)
theorem dX5_keeps_44 : decode cX5_keeps 44 = .ok (.iadd, 1) := dk_96 (dk_at dksX5_keeps_1 20 rfl rfl)
theorem dX5_keeps_45 : decode cX5_keeps 45 = .ok (.iaload, 1) := dk_46 (dk_at dksX5_keeps_1 21 rfl rfl)
theorem dX5_keeps_46 : decode cX5_keeps 46 = .ok (.iastore, 1) := dk_79 (dk_at dksX5_keeps_1 22 rfl rfl)
theorem dX5_keeps_47 : decode cX5_keeps 47 = .ok (.iinc 2 1, 3) := dk_132 2 1 (dk_at dksX5_keeps_2 0 rfl rfl)
theorem dX5_keeps_50 : decode cX5_keeps 50 = .ok (.goto (-26), 3) := dk_167 255 230 (dk_at dksX5_keeps_2 3 rfl rfl)
theorem dX5_keeps_53 : decode cX5_keeps 53 = .ok (.aload_n 0, 1) := dk_42 (dk_at dksX5_keeps_2 6 rfl rfl)
theorem dX5_keeps_54 : decode cX5_keeps 54 = .ok (.dup, 1) := dk_89 (dk_at dksX5_keeps_2 7 rfl rfl)
theorem dX5_keeps_55 : decode cX5_keeps 55 = .ok (.getfield 58, 3) := dk_180 0 58 (dk_at dksX5_keeps_2 8 rfl rfl)
theorem dX5_keeps_58 : decode cX5_keeps 58 = .ok (.iconst 1, 1) := dk_4 (dk_at dksX5_keeps_2 11 rfl rfl)
theorem dX5_keeps_59 : decode cX5_keeps 59 = .ok (.isub, 1) := dk_100 (dk_at dksX5_keeps_2 12 rfl rfl)
theorem dX5_keeps_60 : decode cX5_keeps 60 = .ok (.putfield 58, 3) := dk_181 0 58 (dk_at dksX5_keeps_2 13 rfl rfl)
theorem dX5_keeps_63 : decode cX5_keeps 63 = .ok (.aload_n 1, 1) := dk_43 (dk_at dksX5_keeps_2 16 rfl rfl)
theorem dX5_keeps_64 : decode cX5_keeps 64 = .ok (.iconst 0, 1) := dk_3 (dk_at dksX5_keeps_2 17 rfl rfl)
theorem dX5_keeps_65 : decode cX5_keeps 65 = .ok (.aload_n 0, 1) := dk_42 (dk_at dksX5_keeps_2 18 rfl rfl)
theorem dX5_keeps_66 : decode cX5_keeps 66 = .ok (.getfield 13, 3) := dk_180 0 13 (dk_at dksX5_keeps_2 19 rfl rfl)
theorem dX5_keeps_69 : decode cX5_keeps 69 = .ok (.sipush 221, 3) := dk_17 0 221 (dk_at dksX5_keeps_3 0 rfl rfl)
theorem dX5_keeps_72 : decode cX5_keeps 72 = .ok (.aload_n 0, 1) := dk_42 (dk_at dksX5_keeps_3 3 rfl rfl)
theorem dX5_keeps_73 : decode cX5_keeps 73 = .ok (.getfield 58, 3) := dk_180 0 58 (dk_at dksX5_keeps_3 4 rfl rfl)
theorem dX5_keeps_76 : decode cX5_keeps 76 = .ok (.imul, 1) := dk_104 (dk_at dksX5_keeps_3 7 rfl rfl)
theorem dX5_keeps_77 : decode cX5_keeps 77 = .ok (.invokestatic 61, 3) := dk_184 0 61 (dk_at dksX5_keeps_3 8 rfl rfl)
theorem dX5_keeps_80 : decode cX5_keeps 80 = .ok (.aload_n 0, 1) := dk_42 (dk_at dksX5_keeps_3 11 rfl rfl)
theorem dX5_keeps_81 : decode cX5_keeps 81 = .ok (.dup, 1) := dk_89 (dk_at dksX5_keeps_3 12 rfl rfl)
theorem dX5_keeps_82 : decode cX5_keeps 82 = .ok (.getfield 58, 3) := dk_180 0 58 (dk_at dksX5_keeps_3 13 rfl rfl)
theorem dX5_keeps_85 : decode cX5_keeps 85 = .ok (.iconst 1, 1) := dk_4 (dk_at dksX5_keeps_3 16 rfl rfl)
theorem dX5_keeps_86 : decode cX5_keeps 86 = .ok (.iadd, 1) := dk_96 (dk_at dksX5_keeps_3 17 rfl rfl)
theorem dX5_keeps_87 : decode cX5_keeps 87 = .ok (.putfield 58, 3) := dk_181 0 58 (dk_at dksX5_keeps_3 18 rfl rfl)
theorem dX5_keeps_90 : decode cX5_keeps 90 = .ok (.return_, 1) := dk_177 (dk_at dksX5_keeps_3 21 rfl rfl)
abbrev cX5_copies : ByteArray := prog_18_method_9_code
def yX5_copies : MethodName := ⟨RX5, "copies", "([II[II)V"⟩
def dkwX5_copies_1 : List UInt8 := [132, 4, 1, 167, 255, 233, 177]
abbrev dktX5_copies_1 : List UInt8 := dkwX5_copies_1 ++ []
def dkwX5_copies_0 : List UInt8 := [3, 54, 4, 21, 4, 17, 0, 221, 162, 0, 21, 44, 29, 21, 4, 96, 42, 27, 21, 4, 96, 46, 79]
abbrev dktX5_copies_0 : List UInt8 := dkwX5_copies_0 ++ dktX5_copies_1
theorem dksX5_copies_0 : cX5_copies.data.toList.drop 0 = dktX5_copies_0 := by decide +kernel
theorem dksX5_copies_1 : cX5_copies.data.toList.drop 23 = dktX5_copies_1 := dk_seg dksX5_copies_0 23 rfl rfl
theorem dX5_copies_0 : decode cX5_copies 0 = .ok (.iconst 0, 1) := dk_3 (dk_at dksX5_copies_0 0 rfl rfl)
theorem dX5_copies_1 : decode cX5_copies 1 = .ok (.istore 4, 2) := dk_54 4 (dk_at dksX5_copies_0 1 rfl rfl)
theorem dX5_copies_3 : decode cX5_copies 3 = .ok (.iload 4, 2) := dk_21 4 (dk_at dksX5_copies_0 3 rfl rfl)
theorem dX5_copies_5 : decode cX5_copies 5 = .ok (.sipush 221, 3) := dk_17 0 221 (dk_at dksX5_copies_0 5 rfl rfl)
theorem dX5_copies_8 : decode cX5_copies 8 = .ok (.if_icmp .ge 21, 3) := dk_162 0 21 (dk_at dksX5_copies_0 8 rfl rfl)
theorem dX5_copies_11 : decode cX5_copies 11 = .ok (.aload_n 2, 1) := dk_44 (dk_at dksX5_copies_0 11 rfl rfl)
theorem dX5_copies_12 : decode cX5_copies 12 = .ok (.iload_n 3, 1) := dk_29 (dk_at dksX5_copies_0 12 rfl rfl)
theorem dX5_copies_13 : decode cX5_copies 13 = .ok (.iload 4, 2) := dk_21 4 (dk_at dksX5_copies_0 13 rfl rfl)
theorem dX5_copies_15 : decode cX5_copies 15 = .ok (.iadd, 1) := dk_96 (dk_at dksX5_copies_0 15 rfl rfl)
theorem dX5_copies_16 : decode cX5_copies 16 = .ok (.aload_n 0, 1) := dk_42 (dk_at dksX5_copies_0 16 rfl rfl)
theorem dX5_copies_17 : decode cX5_copies 17 = .ok (.iload_n 1, 1) := dk_27 (dk_at dksX5_copies_0 17 rfl rfl)
theorem dX5_copies_18 : decode cX5_copies 18 = .ok (.iload 4, 2) := dk_21 4 (dk_at dksX5_copies_0 18 rfl rfl)
theorem dX5_copies_20 : decode cX5_copies 20 = .ok (.iadd, 1) := dk_96 (dk_at dksX5_copies_0 20 rfl rfl)
theorem dX5_copies_21 : decode cX5_copies 21 = .ok (.iaload, 1) := dk_46 (dk_at dksX5_copies_0 21 rfl rfl)
theorem dX5_copies_22 : decode cX5_copies 22 = .ok (.iastore, 1) := dk_79 (dk_at dksX5_copies_0 22 rfl rfl)
theorem dX5_copies_23 : decode cX5_copies 23 = .ok (.iinc 4 1, 3) := dk_132 4 1 (dk_at dksX5_copies_1 0 rfl rfl)
theorem dX5_copies_26 : decode cX5_copies 26 = .ok (.goto (-23), 3) := dk_167 255 233 (dk_at dksX5_copies_1 3 rfl rfl)
theorem dX5_copies_29 : decode cX5_copies 29 = .ok (.return_, 1) := dk_177 (dk_at dksX5_copies_1 6 rfl rfl)
abbrev cX5_quernOf : ByteArray := prog_18_method_24_code
def yX5_quernOf : MethodName := ⟨RX5, "quernOf", "(II)I"⟩
def dkwX5_quernOf_2 : List UInt8 := [96, 6, 108, 167, 0, 9, 42, 27, 28, 182, 0, 88, 172]
abbrev dktX5_quernOf_2 : List UInt8 := dkwX5_quernOf_2 ++ []
def dkwX5_quernOf_1 : List UInt8 := [167, 0, 4, 5, 182, 0, 73, 153, 0, 5, 3, 172, 28, 6, 160, 0, 16, 42, 27, 4, 182, 0, 88, 5]
abbrev dktX5_quernOf_1 : List UInt8 := dkwX5_quernOf_1 ++ dktX5_quernOf_2
def dkwX5_quernOf_0 : List UInt8 := [42, 27, 184, 0, 85, 154, 0, 7, 4, 167, 0, 17, 28, 3, 6, 184, 0, 65, 153, 0, 7, 3]
abbrev dktX5_quernOf_0 : List UInt8 := dkwX5_quernOf_0 ++ dktX5_quernOf_1
theorem dksX5_quernOf_0 : cX5_quernOf.data.toList.drop 0 = dktX5_quernOf_0 := by decide +kernel
theorem dksX5_quernOf_1 : cX5_quernOf.data.toList.drop 22 = dktX5_quernOf_1 := dk_seg dksX5_quernOf_0 22 rfl rfl
theorem dksX5_quernOf_2 : cX5_quernOf.data.toList.drop 46 = dktX5_quernOf_2 := dk_seg dksX5_quernOf_1 24 rfl rfl
theorem dX5_quernOf_0 : decode cX5_quernOf 0 = .ok (.aload_n 0, 1) := dk_42 (dk_at dksX5_quernOf_0 0 rfl rfl)
theorem dX5_quernOf_1 : decode cX5_quernOf 1 = .ok (.iload_n 1, 1) := dk_27 (dk_at dksX5_quernOf_0 1 rfl rfl)
theorem dX5_quernOf_2 : decode cX5_quernOf 2 = .ok (.invokestatic 85, 3) := dk_184 0 85 (dk_at dksX5_quernOf_0 2 rfl rfl)
theorem dX5_quernOf_5 : decode cX5_quernOf 5 = .ok (.ifCond .ne 7, 3) := dk_154 0 7 (dk_at dksX5_quernOf_0 5 rfl rfl)
theorem dX5_quernOf_8 : decode cX5_quernOf 8 = .ok (.iconst 1, 1) := dk_4 (dk_at dksX5_quernOf_0 8 rfl rfl)
theorem dX5_quernOf_9 : decode cX5_quernOf 9 = .ok (.goto 17, 3) := dk_167 0 17 (dk_at dksX5_quernOf_0 9 rfl rfl)
theorem dX5_quernOf_12 : decode cX5_quernOf 12 = .ok (.iload_n 2, 1) := dk_28 (dk_at dksX5_quernOf_0 12 rfl rfl)
theorem dX5_quernOf_13 : decode cX5_quernOf 13 = .ok (.iconst 0, 1) := dk_3 (dk_at dksX5_quernOf_0 13 rfl rfl)
theorem dX5_quernOf_14 : decode cX5_quernOf 14 = .ok (.iconst 3, 1) := dk_6 (dk_at dksX5_quernOf_0 14 rfl rfl)
theorem dX5_quernOf_15 : decode cX5_quernOf 15 = .ok (.invokestatic 65, 3) := dk_184 0 65 (dk_at dksX5_quernOf_0 15 rfl rfl)
theorem dX5_quernOf_18 : decode cX5_quernOf 18 = .ok (.ifCond .eq 7, 3) := dk_153 0 7 (dk_at dksX5_quernOf_0 18 rfl rfl)
theorem dX5_quernOf_21 : decode cX5_quernOf 21 = .ok (.iconst 0, 1) := dk_3 (dk_at dksX5_quernOf_0 21 rfl rfl)
theorem dX5_quernOf_22 : decode cX5_quernOf 22 = .ok (.goto 4, 3) := dk_167 0 4 (dk_at dksX5_quernOf_1 0 rfl rfl)
theorem dX5_quernOf_25 : decode cX5_quernOf 25 = .ok (.iconst 2, 1) := dk_5 (dk_at dksX5_quernOf_1 3 rfl rfl)
theorem dX5_quernOf_26 : decode cX5_quernOf 26 = .ok (.invokevirtual 73, 3) := dk_182 0 73 (dk_at dksX5_quernOf_1 4 rfl rfl)
theorem dX5_quernOf_29 : decode cX5_quernOf 29 = .ok (.ifCond .eq 5, 3) := dk_153 0 5 (dk_at dksX5_quernOf_1 7 rfl rfl)
theorem dX5_quernOf_32 : decode cX5_quernOf 32 = .ok (.iconst 0, 1) := dk_3 (dk_at dksX5_quernOf_1 10 rfl rfl)
theorem dX5_quernOf_33 : decode cX5_quernOf 33 = .ok (.ireturn, 1) := dk_172 (dk_at dksX5_quernOf_1 11 rfl rfl)
theorem dX5_quernOf_34 : decode cX5_quernOf 34 = .ok (.iload_n 2, 1) := dk_28 (dk_at dksX5_quernOf_1 12 rfl rfl)
theorem dX5_quernOf_35 : decode cX5_quernOf 35 = .ok (.iconst 3, 1) := dk_6 (dk_at dksX5_quernOf_1 13 rfl rfl)
theorem dX5_quernOf_36 : decode cX5_quernOf 36 = .ok (.if_icmp .ne 16, 3) := dk_160 0 16 (dk_at dksX5_quernOf_1 14 rfl rfl)
theorem dX5_quernOf_39 : decode cX5_quernOf 39 = .ok (.aload_n 0, 1) := dk_42 (dk_at dksX5_quernOf_1 17 rfl rfl)
theorem dX5_quernOf_40 : decode cX5_quernOf 40 = .ok (.iload_n 1, 1) := dk_27 (dk_at dksX5_quernOf_1 18 rfl rfl)
theorem dX5_quernOf_41 : decode cX5_quernOf 41 = .ok (.iconst 1, 1) := dk_4 (dk_at dksX5_quernOf_1 19 rfl rfl)
theorem dX5_quernOf_42 : decode cX5_quernOf 42 = .ok (.invokevirtual 88, 3) := dk_182 0 88 (dk_at dksX5_quernOf_1 20 rfl rfl)
theorem dX5_quernOf_45 : decode cX5_quernOf 45 = .ok (.iconst 2, 1) := dk_5 (dk_at dksX5_quernOf_1 23 rfl rfl)
theorem dX5_quernOf_46 : decode cX5_quernOf 46 = .ok (.iadd, 1) := dk_96 (dk_at dksX5_quernOf_2 0 rfl rfl)
theorem dX5_quernOf_47 : decode cX5_quernOf 47 = .ok (.iconst 3, 1) := dk_6 (dk_at dksX5_quernOf_2 1 rfl rfl)
theorem dX5_quernOf_48 : decode cX5_quernOf 48 = .ok (.idiv, 1) := dk_108 (dk_at dksX5_quernOf_2 2 rfl rfl)
theorem dX5_quernOf_49 : decode cX5_quernOf 49 = .ok (.goto 9, 3) := dk_167 0 9 (dk_at dksX5_quernOf_2 3 rfl rfl)
theorem dX5_quernOf_52 : decode cX5_quernOf 52 = .ok (.aload_n 0, 1) := dk_42 (dk_at dksX5_quernOf_2 6 rfl rfl)
theorem dX5_quernOf_53 : decode cX5_quernOf 53 = .ok (.iload_n 1, 1) := dk_27 (dk_at dksX5_quernOf_2 7 rfl rfl)
theorem dX5_quernOf_54 : decode cX5_quernOf 54 = .ok (.iload_n 2, 1) := dk_28 (dk_at dksX5_quernOf_2 8 rfl rfl)
theorem dX5_quernOf_55 : decode cX5_quernOf 55 = .ok (.invokevirtual 88, 3) := dk_182 0 88 (dk_at dksX5_quernOf_2 9 rfl rfl)
theorem dX5_quernOf_58 : decode cX5_quernOf 58 = .ok (.ireturn, 1) := dk_172 (dk_at dksX5_quernOf_2 12 rfl rfl)
abbrev cX5_isQuern : ByteArray := prog_18_method_11_code
def yX5_isQuern : MethodName := ⟨RX5, "isQuern", "(I)Z"⟩
def dkwX5_isQuern_0 : List UInt8 := [26, 3, 5, 184, 0, 65, 172]
abbrev dktX5_isQuern_0 : List UInt8 := dkwX5_isQuern_0 ++ []
theorem dksX5_isQuern_0 : cX5_isQuern.data.toList.drop 0 = dktX5_isQuern_0 := by decide +kernel
theorem dX5_isQuern_0 : decode cX5_isQuern 0 = .ok (.iload_n 0, 1) := dk_26 (dk_at dksX5_isQuern_0 0 rfl rfl)
theorem dX5_isQuern_1 : decode cX5_isQuern 1 = .ok (.iconst 0, 1) := dk_3 (dk_at dksX5_isQuern_0 1 rfl rfl)
theorem dX5_isQuern_2 : decode cX5_isQuern 2 = .ok (.iconst 2, 1) := dk_5 (dk_at dksX5_isQuern_0 2 rfl rfl)
theorem dX5_isQuern_3 : decode cX5_isQuern 3 = .ok (.invokestatic 65, 3) := dk_184 0 65 (dk_at dksX5_isQuern_0 3 rfl rfl)
theorem dX5_isQuern_6 : decode cX5_isQuern 6 = .ok (.ireturn, 1) := dk_172 (dk_at dksX5_isQuern_0 6 rfl rfl)
abbrev cX5_ofQuern : ByteArray := prog_18_method_15_code
def yX5_ofQuern : MethodName := ⟨RX5, "ofQuern", "(II)I"⟩
def dkwX5_ofQuern_0 : List UInt8 := [42, 180, 0, 7, 16, 16, 6, 27, 104, 96, 28, 96, 46, 172]
abbrev dktX5_ofQuern_0 : List UInt8 := dkwX5_ofQuern_0 ++ []
theorem dksX5_ofQuern_0 : cX5_ofQuern.data.toList.drop 0 = dktX5_ofQuern_0 := by decide +kernel
theorem dX5_ofQuern_0 : decode cX5_ofQuern 0 = .ok (.aload_n 0, 1) := dk_42 (dk_at dksX5_ofQuern_0 0 rfl rfl)
theorem dX5_ofQuern_1 : decode cX5_ofQuern 1 = .ok (.getfield 7, 3) := dk_180 0 7 (dk_at dksX5_ofQuern_0 1 rfl rfl)
theorem dX5_ofQuern_4 : decode cX5_ofQuern 4 = .ok (.bipush 16, 2) := dk_16 16 (dk_at dksX5_ofQuern_0 4 rfl rfl)
theorem dX5_ofQuern_6 : decode cX5_ofQuern 6 = .ok (.iconst 3, 1) := dk_6 (dk_at dksX5_ofQuern_0 6 rfl rfl)
theorem dX5_ofQuern_7 : decode cX5_ofQuern 7 = .ok (.iload_n 1, 1) := dk_27 (dk_at dksX5_ofQuern_0 7 rfl rfl)
theorem dX5_ofQuern_8 : decode cX5_ofQuern 8 = .ok (.imul, 1) := dk_104 (dk_at dksX5_ofQuern_0 8 rfl rfl)
theorem dX5_ofQuern_9 : decode cX5_ofQuern 9 = .ok (.iadd, 1) := dk_96 (dk_at dksX5_ofQuern_0 9 rfl rfl)
theorem dX5_ofQuern_10 : decode cX5_ofQuern 10 = .ok (.iload_n 2, 1) := dk_28 (dk_at dksX5_ofQuern_0 10 rfl rfl)
theorem dX5_ofQuern_11 : decode cX5_ofQuern 11 = .ok (.iadd, 1) := dk_96 (dk_at dksX5_ofQuern_0 11 rfl rfl)
theorem dX5_ofQuern_12 : decode cX5_ofQuern 12 = .ok (.iaload, 1) := dk_46 (dk_at dksX5_ofQuern_0 12 rfl rfl)
theorem dX5_ofQuern_13 : decode cX5_ofQuern 13 = .ok (.ireturn, 1) := dk_172 (dk_at dksX5_ofQuern_0 13 rfl rfl)
abbrev cX5_dress : ByteArray := prog_18_method_25_code
def yX5_dress : MethodName := ⟨RX5, "dress", "(I)I"⟩
def dkwX5_dress_4 : List UInt8 := [79, 42, 180, 0, 7, 16, 16, 6, 27, 104, 96, 16, 9, 79, 28, 172]
abbrev dktX5_dress_4 : List UInt8 := dkwX5_dress_4 ++ []
def dkwX5_dress_3 : List UInt8 := [42, 180, 0, 7, 182, 0, 81, 42, 27, 3, 182, 0, 88, 61, 42, 180, 0, 7, 16, 6, 92, 46, 8, 100]
abbrev dktX5_dress_3 : List UInt8 := dkwX5_dress_3 ++ dktX5_dress_4
def dkwX5_dress_2 : List UInt8 := [16, 6, 46, 8, 162, 0, 19, 42, 5, 8, 8, 42, 180, 0, 7, 16, 6, 46, 100, 182, 0, 77, 172, 42]
abbrev dktX5_dress_2 : List UInt8 := dkwX5_dress_2 ++ dktX5_dress_3
def dkwX5_dress_1 : List UInt8 := [182, 0, 88, 158, 0, 17, 42, 5, 16, 6, 42, 27, 4, 182, 0, 88, 182, 0, 77, 172, 42, 180, 0, 7]
abbrev dktX5_dress_1 : List UInt8 := dkwX5_dress_1 ++ dktX5_dress_2
def dkwX5_dress_0 : List UInt8 := [42, 27, 184, 0, 85, 153, 0, 7, 3, 167, 0, 4, 4, 182, 0, 73, 153, 0, 5, 3, 172, 42, 27, 4]
abbrev dktX5_dress_0 : List UInt8 := dkwX5_dress_0 ++ dktX5_dress_1
theorem dksX5_dress_0 : cX5_dress.data.toList.drop 0 = dktX5_dress_0 := by decide +kernel
theorem dksX5_dress_1 : cX5_dress.data.toList.drop 24 = dktX5_dress_1 := dk_seg dksX5_dress_0 24 rfl rfl
theorem dksX5_dress_2 : cX5_dress.data.toList.drop 48 = dktX5_dress_2 := dk_seg dksX5_dress_1 24 rfl rfl
theorem dksX5_dress_3 : cX5_dress.data.toList.drop 72 = dktX5_dress_3 := dk_seg dksX5_dress_2 24 rfl rfl
theorem dksX5_dress_4 : cX5_dress.data.toList.drop 96 = dktX5_dress_4 := dk_seg dksX5_dress_3 24 rfl rfl
theorem dX5_dress_0 : decode cX5_dress 0 = .ok (.aload_n 0, 1) := dk_42 (dk_at dksX5_dress_0 0 rfl rfl)
theorem dX5_dress_1 : decode cX5_dress 1 = .ok (.iload_n 1, 1) := dk_27 (dk_at dksX5_dress_0 1 rfl rfl)
theorem dX5_dress_2 : decode cX5_dress 2 = .ok (.invokestatic 85, 3) := dk_184 0 85 (dk_at dksX5_dress_0 2 rfl rfl)
theorem dX5_dress_5 : decode cX5_dress 5 = .ok (.ifCond .eq 7, 3) := dk_153 0 7 (dk_at dksX5_dress_0 5 rfl rfl)
theorem dX5_dress_8 : decode cX5_dress 8 = .ok (.iconst 0, 1) := dk_3 (dk_at dksX5_dress_0 8 rfl rfl)
theorem dX5_dress_9 : decode cX5_dress 9 = .ok (.goto 4, 3) := dk_167 0 4 (dk_at dksX5_dress_0 9 rfl rfl)
theorem dX5_dress_12 : decode cX5_dress 12 = .ok (.iconst 1, 1) := dk_4 (dk_at dksX5_dress_0 12 rfl rfl)
theorem dX5_dress_13 : decode cX5_dress 13 = .ok (.invokevirtual 73, 3) := dk_182 0 73 (dk_at dksX5_dress_0 13 rfl rfl)
theorem dX5_dress_16 : decode cX5_dress 16 = .ok (.ifCond .eq 5, 3) := dk_153 0 5 (dk_at dksX5_dress_0 16 rfl rfl)
theorem dX5_dress_19 : decode cX5_dress 19 = .ok (.iconst 0, 1) := dk_3 (dk_at dksX5_dress_0 19 rfl rfl)
theorem dX5_dress_20 : decode cX5_dress 20 = .ok (.ireturn, 1) := dk_172 (dk_at dksX5_dress_0 20 rfl rfl)
theorem dX5_dress_21 : decode cX5_dress 21 = .ok (.aload_n 0, 1) := dk_42 (dk_at dksX5_dress_0 21 rfl rfl)
theorem dX5_dress_22 : decode cX5_dress 22 = .ok (.iload_n 1, 1) := dk_27 (dk_at dksX5_dress_0 22 rfl rfl)
theorem dX5_dress_23 : decode cX5_dress 23 = .ok (.iconst 1, 1) := dk_4 (dk_at dksX5_dress_0 23 rfl rfl)
theorem dX5_dress_24 : decode cX5_dress 24 = .ok (.invokevirtual 88, 3) := dk_182 0 88 (dk_at dksX5_dress_1 0 rfl rfl)
theorem dX5_dress_27 : decode cX5_dress 27 = .ok (.ifCond .le 17, 3) := dk_158 0 17 (dk_at dksX5_dress_1 3 rfl rfl)
theorem dX5_dress_30 : decode cX5_dress 30 = .ok (.aload_n 0, 1) := dk_42 (dk_at dksX5_dress_1 6 rfl rfl)
theorem dX5_dress_31 : decode cX5_dress 31 = .ok (.iconst 2, 1) := dk_5 (dk_at dksX5_dress_1 7 rfl rfl)
theorem dX5_dress_32 : decode cX5_dress 32 = .ok (.bipush 6, 2) := dk_16 6 (dk_at dksX5_dress_1 8 rfl rfl)
theorem dX5_dress_34 : decode cX5_dress 34 = .ok (.aload_n 0, 1) := dk_42 (dk_at dksX5_dress_1 10 rfl rfl)
theorem dX5_dress_35 : decode cX5_dress 35 = .ok (.iload_n 1, 1) := dk_27 (dk_at dksX5_dress_1 11 rfl rfl)
theorem dX5_dress_36 : decode cX5_dress 36 = .ok (.iconst 1, 1) := dk_4 (dk_at dksX5_dress_1 12 rfl rfl)
theorem dX5_dress_37 : decode cX5_dress 37 = .ok (.invokevirtual 88, 3) := dk_182 0 88 (dk_at dksX5_dress_1 13 rfl rfl)
theorem dX5_dress_40 : decode cX5_dress 40 = .ok (.invokevirtual 77, 3) := dk_182 0 77 (dk_at dksX5_dress_1 16 rfl rfl)
theorem dX5_dress_43 : decode cX5_dress 43 = .ok (.ireturn, 1) := dk_172 (dk_at dksX5_dress_1 19 rfl rfl)
theorem dX5_dress_44 : decode cX5_dress 44 = .ok (.aload_n 0, 1) := dk_42 (dk_at dksX5_dress_1 20 rfl rfl)
theorem dX5_dress_45 : decode cX5_dress 45 = .ok (.getfield 7, 3) := dk_180 0 7 (dk_at dksX5_dress_1 21 rfl rfl)
theorem dX5_dress_48 : decode cX5_dress 48 = .ok (.bipush 6, 2) := dk_16 6 (dk_at dksX5_dress_2 0 rfl rfl)
theorem dX5_dress_50 : decode cX5_dress 50 = .ok (.iaload, 1) := dk_46 (dk_at dksX5_dress_2 2 rfl rfl)
theorem dX5_dress_51 : decode cX5_dress 51 = .ok (.iconst 5, 1) := dk_8 (dk_at dksX5_dress_2 3 rfl rfl)
theorem dX5_dress_52 : decode cX5_dress 52 = .ok (.if_icmp .ge 19, 3) := dk_162 0 19 (dk_at dksX5_dress_2 4 rfl rfl)
theorem dX5_dress_55 : decode cX5_dress 55 = .ok (.aload_n 0, 1) := dk_42 (dk_at dksX5_dress_2 7 rfl rfl)
theorem dX5_dress_56 : decode cX5_dress 56 = .ok (.iconst 2, 1) := dk_5 (dk_at dksX5_dress_2 8 rfl rfl)
theorem dX5_dress_57 : decode cX5_dress 57 = .ok (.iconst 5, 1) := dk_8 (dk_at dksX5_dress_2 9 rfl rfl)
theorem dX5_dress_58 : decode cX5_dress 58 = .ok (.iconst 5, 1) := dk_8 (dk_at dksX5_dress_2 10 rfl rfl)
theorem dX5_dress_59 : decode cX5_dress 59 = .ok (.aload_n 0, 1) := dk_42 (dk_at dksX5_dress_2 11 rfl rfl)
theorem dX5_dress_60 : decode cX5_dress 60 = .ok (.getfield 7, 3) := dk_180 0 7 (dk_at dksX5_dress_2 12 rfl rfl)
theorem dX5_dress_63 : decode cX5_dress 63 = .ok (.bipush 6, 2) := dk_16 6 (dk_at dksX5_dress_2 15 rfl rfl)
theorem dX5_dress_65 : decode cX5_dress 65 = .ok (.iaload, 1) := dk_46 (dk_at dksX5_dress_2 17 rfl rfl)
theorem dX5_dress_66 : decode cX5_dress 66 = .ok (.isub, 1) := dk_100 (dk_at dksX5_dress_2 18 rfl rfl)
theorem dX5_dress_67 : decode cX5_dress 67 = .ok (.invokevirtual 77, 3) := dk_182 0 77 (dk_at dksX5_dress_2 19 rfl rfl)
theorem dX5_dress_70 : decode cX5_dress 70 = .ok (.ireturn, 1) := dk_172 (dk_at dksX5_dress_2 22 rfl rfl)
theorem dX5_dress_71 : decode cX5_dress 71 = .ok (.aload_n 0, 1) := dk_42 (dk_at dksX5_dress_2 23 rfl rfl)
theorem dX5_dress_72 : decode cX5_dress 72 = .ok (.aload_n 0, 1) := dk_42 (dk_at dksX5_dress_3 0 rfl rfl)
theorem dX5_dress_73 : decode cX5_dress 73 = .ok (.getfield 7, 3) := dk_180 0 7 (dk_at dksX5_dress_3 1 rfl rfl)
theorem dX5_dress_76 : decode cX5_dress 76 = .ok (.invokevirtual 81, 3) := dk_182 0 81 (dk_at dksX5_dress_3 4 rfl rfl)
theorem dX5_dress_79 : decode cX5_dress 79 = .ok (.aload_n 0, 1) := dk_42 (dk_at dksX5_dress_3 7 rfl rfl)
theorem dX5_dress_80 : decode cX5_dress 80 = .ok (.iload_n 1, 1) := dk_27 (dk_at dksX5_dress_3 8 rfl rfl)
theorem dX5_dress_81 : decode cX5_dress 81 = .ok (.iconst 0, 1) := dk_3 (dk_at dksX5_dress_3 9 rfl rfl)
theorem dX5_dress_82 : decode cX5_dress 82 = .ok (.invokevirtual 88, 3) := dk_182 0 88 (dk_at dksX5_dress_3 10 rfl rfl)
theorem dX5_dress_85 : decode cX5_dress 85 = .ok (.istore_n 2, 1) := dk_61 (dk_at dksX5_dress_3 13 rfl rfl)
theorem dX5_dress_86 : decode cX5_dress 86 = .ok (.aload_n 0, 1) := dk_42 (dk_at dksX5_dress_3 14 rfl rfl)
theorem dX5_dress_87 : decode cX5_dress 87 = .ok (.getfield 7, 3) := dk_180 0 7 (dk_at dksX5_dress_3 15 rfl rfl)
theorem dX5_dress_90 : decode cX5_dress 90 = .ok (.bipush 6, 2) := dk_16 6 (dk_at dksX5_dress_3 18 rfl rfl)
theorem dX5_dress_92 : decode cX5_dress 92 = .ok (.dup2, 1) := dk_92 (dk_at dksX5_dress_3 20 rfl rfl)
theorem dX5_dress_93 : decode cX5_dress 93 = .ok (.iaload, 1) := dk_46 (dk_at dksX5_dress_3 21 rfl rfl)
theorem dX5_dress_94 : decode cX5_dress 94 = .ok (.iconst 5, 1) := dk_8 (dk_at dksX5_dress_3 22 rfl rfl)
theorem dX5_dress_95 : decode cX5_dress 95 = .ok (.isub, 1) := dk_100 (dk_at dksX5_dress_3 23 rfl rfl)
theorem dX5_dress_96 : decode cX5_dress 96 = .ok (.iastore, 1) := dk_79 (dk_at dksX5_dress_4 0 rfl rfl)
theorem dX5_dress_97 : decode cX5_dress 97 = .ok (.aload_n 0, 1) := dk_42 (dk_at dksX5_dress_4 1 rfl rfl)
theorem dX5_dress_98 : decode cX5_dress 98 = .ok (.getfield 7, 3) := dk_180 0 7 (dk_at dksX5_dress_4 2 rfl rfl)
theorem dX5_dress_101 : decode cX5_dress 101 = .ok (.bipush 16, 2) := dk_16 16 (dk_at dksX5_dress_4 5 rfl rfl)
theorem dX5_dress_103 : decode cX5_dress 103 = .ok (.iconst 3, 1) := dk_6 (dk_at dksX5_dress_4 7 rfl rfl)
theorem dX5_dress_104 : decode cX5_dress 104 = .ok (.iload_n 1, 1) := dk_27 (dk_at dksX5_dress_4 8 rfl rfl)
theorem dX5_dress_105 : decode cX5_dress 105 = .ok (.imul, 1) := dk_104 (dk_at dksX5_dress_4 9 rfl rfl)
theorem dX5_dress_106 : decode cX5_dress 106 = .ok (.iadd, 1) := dk_96 (dk_at dksX5_dress_4 10 rfl rfl)
theorem dX5_dress_107 : decode cX5_dress 107 = .ok (.bipush 9, 2) := dk_16 9 (dk_at dksX5_dress_4 11 rfl rfl)
theorem dX5_dress_109 : decode cX5_dress 109 = .ok (.iastore, 1) := dk_79 (dk_at dksX5_dress_4 13 rfl rfl)
theorem dX5_dress_110 : decode cX5_dress 110 = .ok (.iload_n 2, 1) := dk_28 (dk_at dksX5_dress_4 14 rfl rfl)
theorem dX5_dress_111 : decode cX5_dress 111 = .ok (.ireturn, 1) := dk_172 (dk_at dksX5_dress_4 15 rfl rfl)
abbrev cX5_grind : ByteArray := prog_18_method_29_code
def yX5_grind : MethodName := ⟨RX5, "grind", "(IIII)I"⟩
def dkwX5_grind_15 : List UInt8 := [5, 96, 92, 46, 21, 5, 96, 79, 21, 7, 172]
abbrev dktX5_grind_15 : List UInt8 := dkwX5_grind_15 ++ []
def dkwX5_grind_14 : List UInt8 := [180, 0, 7, 16, 16, 6, 27, 104, 96, 4, 96, 21, 6, 79, 42, 180, 0, 7, 16, 16, 6, 27, 104, 96]
abbrev dktX5_grind_14 : List UInt8 := dkwX5_grind_14 ++ dktX5_grind_15
def dkwX5_grind_13 : List UInt8 := [92, 46, 21, 4, 100, 79, 42, 180, 0, 7, 16, 16, 6, 27, 104, 96, 92, 46, 4, 100, 79, 42]
abbrev dktX5_grind_13 : List UInt8 := dkwX5_grind_13 ++ dktX5_grind_14
def dkwX5_grind_12 : List UInt8 := [180, 0, 7, 4, 92, 46, 28, 100, 79, 42, 180, 0, 7, 5, 92, 46, 29, 100, 79, 42, 180, 0, 7, 6]
abbrev dktX5_grind_12 : List UInt8 := dkwX5_grind_12 ++ dktX5_grind_13
def dkwX5_grind_11 : List UInt8 := [182, 0, 88, 100, 182, 0, 100, 42, 21, 7, 6, 42, 27, 28, 29, 21, 4, 182, 0, 104, 182, 0, 100, 42]
abbrev dktX5_grind_11 : List UInt8 := dkwX5_grind_11 ++ dktX5_grind_12
def dkwX5_grind_10 : List UInt8 := [21, 5, 182, 0, 100, 42, 21, 7, 16, 6, 21, 5, 182, 0, 100, 42, 21, 7, 5, 16, 9, 42, 27, 3]
abbrev dktX5_grind_10 : List UInt8 := dkwX5_grind_10 ++ dktX5_grind_11
def dkwX5_grind_9 : List UInt8 := [16, 7, 162, 0, 18, 42, 21, 7, 21, 8, 3, 182, 0, 100, 132, 8, 1, 167, 255, 237, 42, 21, 7, 4]
abbrev dktX5_grind_9 : List UInt8 := dkwX5_grind_9 ++ dktX5_grind_10
def dkwX5_grind_8 : List UInt8 := [180, 0, 7, 16, 7, 46, 54, 7, 42, 180, 0, 7, 16, 7, 92, 46, 4, 96, 79, 3, 54, 8, 21, 8]
abbrev dktX5_grind_8 : List UInt8 := dkwX5_grind_8 ++ dktX5_grind_9
def dkwX5_grind_7 : List UInt8 := [16, 9, 164, 0, 12, 42, 6, 7, 21, 6, 182, 0, 77, 172, 42, 42, 180, 0, 7, 182, 0, 81, 42]
abbrev dktX5_grind_7 : List UInt8 := dkwX5_grind_7 ++ dktX5_grind_8
def dkwX5_grind_6 : List UInt8 := [182, 0, 77, 172, 28, 29, 96, 21, 4, 96, 54, 5, 42, 27, 21, 5, 182, 0, 91, 54, 6, 21, 6]
abbrev dktX5_grind_6 : List UInt8 := dkwX5_grind_6 ++ dktX5_grind_7
def dkwX5_grind_5 : List UInt8 := [180, 0, 7, 6, 46, 182, 0, 77, 172, 42, 27, 3, 182, 0, 88, 154, 0, 11, 42, 6, 6, 27]
abbrev dktX5_grind_5 : List UInt8 := dkwX5_grind_5 ++ dktX5_grind_6
def dkwX5_grind_4 : List UInt8 := [180, 0, 7, 5, 46, 182, 0, 77, 172, 21, 4, 42, 180, 0, 7, 6, 46, 164, 0, 16, 42, 6, 5, 42]
abbrev dktX5_grind_4 : List UInt8 := dkwX5_grind_4 ++ dktX5_grind_5
def dkwX5_grind_3 : List UInt8 := [180, 0, 7, 4, 46, 182, 0, 77, 172, 29, 42, 180, 0, 7, 5, 46, 164, 0, 16, 42, 6, 5, 42]
abbrev dktX5_grind_3 : List UInt8 := dkwX5_grind_3 ++ dktX5_grind_4
def dkwX5_grind_2 : List UInt8 := [42, 6, 4, 16, 12, 182, 0, 77, 172, 28, 42, 180, 0, 7, 4, 46, 164, 0, 16, 42, 6, 5, 42]
abbrev dktX5_grind_2 : List UInt8 := dkwX5_grind_2 ++ dktX5_grind_3
def dkwX5_grind_1 : List UInt8 := [167, 0, 4, 5, 182, 0, 73, 153, 0, 5, 3, 172, 42, 180, 0, 7, 16, 7, 46, 16, 12, 160, 0, 12]
abbrev dktX5_grind_1 : List UInt8 := dkwX5_grind_1 ++ dktX5_grind_2
def dkwX5_grind_0 : List UInt8 := [42, 27, 184, 0, 85, 154, 0, 7, 4, 167, 0, 18, 28, 29, 21, 4, 184, 0, 97, 153, 0, 7, 3]
abbrev dktX5_grind_0 : List UInt8 := dkwX5_grind_0 ++ dktX5_grind_1
theorem dksX5_grind_0 : cX5_grind.data.toList.drop 0 = dktX5_grind_0 := by decide +kernel
theorem dksX5_grind_1 : cX5_grind.data.toList.drop 23 = dktX5_grind_1 := dk_seg dksX5_grind_0 23 rfl rfl
theorem dksX5_grind_2 : cX5_grind.data.toList.drop 47 = dktX5_grind_2 := dk_seg dksX5_grind_1 24 rfl rfl
theorem dksX5_grind_3 : cX5_grind.data.toList.drop 70 = dktX5_grind_3 := dk_seg dksX5_grind_2 23 rfl rfl
theorem dksX5_grind_4 : cX5_grind.data.toList.drop 93 = dktX5_grind_4 := dk_seg dksX5_grind_3 23 rfl rfl
theorem dksX5_grind_5 : cX5_grind.data.toList.drop 117 = dktX5_grind_5 := dk_seg dksX5_grind_4 24 rfl rfl
theorem dksX5_grind_6 : cX5_grind.data.toList.drop 139 = dktX5_grind_6 := dk_seg dksX5_grind_5 22 rfl rfl
theorem dksX5_grind_7 : cX5_grind.data.toList.drop 162 = dktX5_grind_7 := dk_seg dksX5_grind_6 23 rfl rfl
theorem dksX5_grind_8 : cX5_grind.data.toList.drop 185 = dktX5_grind_8 := dk_seg dksX5_grind_7 23 rfl rfl
theorem dksX5_grind_9 : cX5_grind.data.toList.drop 209 = dktX5_grind_9 := dk_seg dksX5_grind_8 24 rfl rfl
theorem dksX5_grind_10 : cX5_grind.data.toList.drop 233 = dktX5_grind_10 := dk_seg dksX5_grind_9 24 rfl rfl
theorem dksX5_grind_11 : cX5_grind.data.toList.drop 257 = dktX5_grind_11 := dk_seg dksX5_grind_10 24 rfl rfl
theorem dksX5_grind_12 : cX5_grind.data.toList.drop 281 = dktX5_grind_12 := dk_seg dksX5_grind_11 24 rfl rfl
theorem dksX5_grind_13 : cX5_grind.data.toList.drop 305 = dktX5_grind_13 := dk_seg dksX5_grind_12 24 rfl rfl
theorem dksX5_grind_14 : cX5_grind.data.toList.drop 327 = dktX5_grind_14 := dk_seg dksX5_grind_13 22 rfl rfl
theorem dksX5_grind_15 : cX5_grind.data.toList.drop 351 = dktX5_grind_15 := dk_seg dksX5_grind_14 24 rfl rfl
theorem dX5_grind_0 : decode cX5_grind 0 = .ok (.aload_n 0, 1) := dk_42 (dk_at dksX5_grind_0 0 rfl rfl)
theorem dX5_grind_1 : decode cX5_grind 1 = .ok (.iload_n 1, 1) := dk_27 (dk_at dksX5_grind_0 1 rfl rfl)
theorem dX5_grind_2 : decode cX5_grind 2 = .ok (.invokestatic 85, 3) := dk_184 0 85 (dk_at dksX5_grind_0 2 rfl rfl)
theorem dX5_grind_5 : decode cX5_grind 5 = .ok (.ifCond .ne 7, 3) := dk_154 0 7 (dk_at dksX5_grind_0 5 rfl rfl)
theorem dX5_grind_8 : decode cX5_grind 8 = .ok (.iconst 1, 1) := dk_4 (dk_at dksX5_grind_0 8 rfl rfl)
theorem dX5_grind_9 : decode cX5_grind 9 = .ok (.goto 18, 3) := dk_167 0 18 (dk_at dksX5_grind_0 9 rfl rfl)
theorem dX5_grind_12 : decode cX5_grind 12 = .ok (.iload_n 2, 1) := dk_28 (dk_at dksX5_grind_0 12 rfl rfl)
theorem dX5_grind_13 : decode cX5_grind 13 = .ok (.iload_n 3, 1) := dk_29 (dk_at dksX5_grind_0 13 rfl rfl)
theorem dX5_grind_14 : decode cX5_grind 14 = .ok (.iload 4, 2) := dk_21 4 (dk_at dksX5_grind_0 14 rfl rfl)
theorem dX5_grind_16 : decode cX5_grind 16 = .ok (.invokestatic 97, 3) := dk_184 0 97 (dk_at dksX5_grind_0 16 rfl rfl)
theorem dX5_grind_19 : decode cX5_grind 19 = .ok (.ifCond .eq 7, 3) := dk_153 0 7 (dk_at dksX5_grind_0 19 rfl rfl)
theorem dX5_grind_22 : decode cX5_grind 22 = .ok (.iconst 0, 1) := dk_3 (dk_at dksX5_grind_0 22 rfl rfl)
theorem dX5_grind_23 : decode cX5_grind 23 = .ok (.goto 4, 3) := dk_167 0 4 (dk_at dksX5_grind_1 0 rfl rfl)
theorem dX5_grind_26 : decode cX5_grind 26 = .ok (.iconst 2, 1) := dk_5 (dk_at dksX5_grind_1 3 rfl rfl)
theorem dX5_grind_27 : decode cX5_grind 27 = .ok (.invokevirtual 73, 3) := dk_182 0 73 (dk_at dksX5_grind_1 4 rfl rfl)
theorem dX5_grind_30 : decode cX5_grind 30 = .ok (.ifCond .eq 5, 3) := dk_153 0 5 (dk_at dksX5_grind_1 7 rfl rfl)
theorem dX5_grind_33 : decode cX5_grind 33 = .ok (.iconst 0, 1) := dk_3 (dk_at dksX5_grind_1 10 rfl rfl)
theorem dX5_grind_34 : decode cX5_grind 34 = .ok (.ireturn, 1) := dk_172 (dk_at dksX5_grind_1 11 rfl rfl)
theorem dX5_grind_35 : decode cX5_grind 35 = .ok (.aload_n 0, 1) := dk_42 (dk_at dksX5_grind_1 12 rfl rfl)
theorem dX5_grind_36 : decode cX5_grind 36 = .ok (.getfield 7, 3) := dk_180 0 7 (dk_at dksX5_grind_1 13 rfl rfl)
theorem dX5_grind_39 : decode cX5_grind 39 = .ok (.bipush 7, 2) := dk_16 7 (dk_at dksX5_grind_1 16 rfl rfl)
theorem dX5_grind_41 : decode cX5_grind 41 = .ok (.iaload, 1) := dk_46 (dk_at dksX5_grind_1 18 rfl rfl)
theorem dX5_grind_42 : decode cX5_grind 42 = .ok (.bipush 12, 2) := dk_16 12 (dk_at dksX5_grind_1 19 rfl rfl)
theorem dX5_grind_44 : decode cX5_grind 44 = .ok (.if_icmp .ne 12, 3) := dk_160 0 12 (dk_at dksX5_grind_1 21 rfl rfl)
theorem dX5_grind_47 : decode cX5_grind 47 = .ok (.aload_n 0, 1) := dk_42 (dk_at dksX5_grind_2 0 rfl rfl)
theorem dX5_grind_48 : decode cX5_grind 48 = .ok (.iconst 3, 1) := dk_6 (dk_at dksX5_grind_2 1 rfl rfl)
theorem dX5_grind_49 : decode cX5_grind 49 = .ok (.iconst 1, 1) := dk_4 (dk_at dksX5_grind_2 2 rfl rfl)
theorem dX5_grind_50 : decode cX5_grind 50 = .ok (.bipush 12, 2) := dk_16 12 (dk_at dksX5_grind_2 3 rfl rfl)
theorem dX5_grind_52 : decode cX5_grind 52 = .ok (.invokevirtual 77, 3) := dk_182 0 77 (dk_at dksX5_grind_2 5 rfl rfl)
theorem dX5_grind_55 : decode cX5_grind 55 = .ok (.ireturn, 1) := dk_172 (dk_at dksX5_grind_2 8 rfl rfl)
theorem dX5_grind_56 : decode cX5_grind 56 = .ok (.iload_n 2, 1) := dk_28 (dk_at dksX5_grind_2 9 rfl rfl)
theorem dX5_grind_57 : decode cX5_grind 57 = .ok (.aload_n 0, 1) := dk_42 (dk_at dksX5_grind_2 10 rfl rfl)
theorem dX5_grind_58 : decode cX5_grind 58 = .ok (.getfield 7, 3) := dk_180 0 7 (dk_at dksX5_grind_2 11 rfl rfl)
theorem dX5_grind_61 : decode cX5_grind 61 = .ok (.iconst 1, 1) := dk_4 (dk_at dksX5_grind_2 14 rfl rfl)
theorem dX5_grind_62 : decode cX5_grind 62 = .ok (.iaload, 1) := dk_46 (dk_at dksX5_grind_2 15 rfl rfl)
theorem dX5_grind_63 : decode cX5_grind 63 = .ok (.if_icmp .le 16, 3) := dk_164 0 16 (dk_at dksX5_grind_2 16 rfl rfl)
theorem dX5_grind_66 : decode cX5_grind 66 = .ok (.aload_n 0, 1) := dk_42 (dk_at dksX5_grind_2 19 rfl rfl)
theorem dX5_grind_67 : decode cX5_grind 67 = .ok (.iconst 3, 1) := dk_6 (dk_at dksX5_grind_2 20 rfl rfl)
theorem dX5_grind_68 : decode cX5_grind 68 = .ok (.iconst 2, 1) := dk_5 (dk_at dksX5_grind_2 21 rfl rfl)
theorem dX5_grind_69 : decode cX5_grind 69 = .ok (.aload_n 0, 1) := dk_42 (dk_at dksX5_grind_2 22 rfl rfl)
theorem dX5_grind_70 : decode cX5_grind 70 = .ok (.getfield 7, 3) := dk_180 0 7 (dk_at dksX5_grind_3 0 rfl rfl)
theorem dX5_grind_73 : decode cX5_grind 73 = .ok (.iconst 1, 1) := dk_4 (dk_at dksX5_grind_3 3 rfl rfl)
theorem dX5_grind_74 : decode cX5_grind 74 = .ok (.iaload, 1) := dk_46 (dk_at dksX5_grind_3 4 rfl rfl)
theorem dX5_grind_75 : decode cX5_grind 75 = .ok (.invokevirtual 77, 3) := dk_182 0 77 (dk_at dksX5_grind_3 5 rfl rfl)
theorem dX5_grind_78 : decode cX5_grind 78 = .ok (.ireturn, 1) := dk_172 (dk_at dksX5_grind_3 8 rfl rfl)
theorem dX5_grind_79 : decode cX5_grind 79 = .ok (.iload_n 3, 1) := dk_29 (dk_at dksX5_grind_3 9 rfl rfl)
theorem dX5_grind_80 : decode cX5_grind 80 = .ok (.aload_n 0, 1) := dk_42 (dk_at dksX5_grind_3 10 rfl rfl)
theorem dX5_grind_81 : decode cX5_grind 81 = .ok (.getfield 7, 3) := dk_180 0 7 (dk_at dksX5_grind_3 11 rfl rfl)
theorem dX5_grind_84 : decode cX5_grind 84 = .ok (.iconst 2, 1) := dk_5 (dk_at dksX5_grind_3 14 rfl rfl)
theorem dX5_grind_85 : decode cX5_grind 85 = .ok (.iaload, 1) := dk_46 (dk_at dksX5_grind_3 15 rfl rfl)
theorem dX5_grind_86 : decode cX5_grind 86 = .ok (.if_icmp .le 16, 3) := dk_164 0 16 (dk_at dksX5_grind_3 16 rfl rfl)
theorem dX5_grind_89 : decode cX5_grind 89 = .ok (.aload_n 0, 1) := dk_42 (dk_at dksX5_grind_3 19 rfl rfl)
theorem dX5_grind_90 : decode cX5_grind 90 = .ok (.iconst 3, 1) := dk_6 (dk_at dksX5_grind_3 20 rfl rfl)
theorem dX5_grind_91 : decode cX5_grind 91 = .ok (.iconst 2, 1) := dk_5 (dk_at dksX5_grind_3 21 rfl rfl)
theorem dX5_grind_92 : decode cX5_grind 92 = .ok (.aload_n 0, 1) := dk_42 (dk_at dksX5_grind_3 22 rfl rfl)
theorem dX5_grind_93 : decode cX5_grind 93 = .ok (.getfield 7, 3) := dk_180 0 7 (dk_at dksX5_grind_4 0 rfl rfl)
theorem dX5_grind_96 : decode cX5_grind 96 = .ok (.iconst 2, 1) := dk_5 (dk_at dksX5_grind_4 3 rfl rfl)
theorem dX5_grind_97 : decode cX5_grind 97 = .ok (.iaload, 1) := dk_46 (dk_at dksX5_grind_4 4 rfl rfl)
theorem dX5_grind_98 : decode cX5_grind 98 = .ok (.invokevirtual 77, 3) := dk_182 0 77 (dk_at dksX5_grind_4 5 rfl rfl)
theorem dX5_grind_101 : decode cX5_grind 101 = .ok (.ireturn, 1) := dk_172 (dk_at dksX5_grind_4 8 rfl rfl)
theorem dX5_grind_102 : decode cX5_grind 102 = .ok (.iload 4, 2) := dk_21 4 (dk_at dksX5_grind_4 9 rfl rfl)
theorem dX5_grind_104 : decode cX5_grind 104 = .ok (.aload_n 0, 1) := dk_42 (dk_at dksX5_grind_4 11 rfl rfl)
theorem dX5_grind_105 : decode cX5_grind 105 = .ok (.getfield 7, 3) := dk_180 0 7 (dk_at dksX5_grind_4 12 rfl rfl)
theorem dX5_grind_108 : decode cX5_grind 108 = .ok (.iconst 3, 1) := dk_6 (dk_at dksX5_grind_4 15 rfl rfl)
theorem dX5_grind_109 : decode cX5_grind 109 = .ok (.iaload, 1) := dk_46 (dk_at dksX5_grind_4 16 rfl rfl)
theorem dX5_grind_110 : decode cX5_grind 110 = .ok (.if_icmp .le 16, 3) := dk_164 0 16 (dk_at dksX5_grind_4 17 rfl rfl)
theorem dX5_grind_113 : decode cX5_grind 113 = .ok (.aload_n 0, 1) := dk_42 (dk_at dksX5_grind_4 20 rfl rfl)
theorem dX5_grind_114 : decode cX5_grind 114 = .ok (.iconst 3, 1) := dk_6 (dk_at dksX5_grind_4 21 rfl rfl)
theorem dX5_grind_115 : decode cX5_grind 115 = .ok (.iconst 2, 1) := dk_5 (dk_at dksX5_grind_4 22 rfl rfl)
theorem dX5_grind_116 : decode cX5_grind 116 = .ok (.aload_n 0, 1) := dk_42 (dk_at dksX5_grind_4 23 rfl rfl)
theorem dX5_grind_117 : decode cX5_grind 117 = .ok (.getfield 7, 3) := dk_180 0 7 (dk_at dksX5_grind_5 0 rfl rfl)
theorem dX5_grind_120 : decode cX5_grind 120 = .ok (.iconst 3, 1) := dk_6 (dk_at dksX5_grind_5 3 rfl rfl)
theorem dX5_grind_121 : decode cX5_grind 121 = .ok (.iaload, 1) := dk_46 (dk_at dksX5_grind_5 4 rfl rfl)
theorem dX5_grind_122 : decode cX5_grind 122 = .ok (.invokevirtual 77, 3) := dk_182 0 77 (dk_at dksX5_grind_5 5 rfl rfl)
theorem dX5_grind_125 : decode cX5_grind 125 = .ok (.ireturn, 1) := dk_172 (dk_at dksX5_grind_5 8 rfl rfl)
theorem dX5_grind_126 : decode cX5_grind 126 = .ok (.aload_n 0, 1) := dk_42 (dk_at dksX5_grind_5 9 rfl rfl)
theorem dX5_grind_127 : decode cX5_grind 127 = .ok (.iload_n 1, 1) := dk_27 (dk_at dksX5_grind_5 10 rfl rfl)
theorem dX5_grind_128 : decode cX5_grind 128 = .ok (.iconst 0, 1) := dk_3 (dk_at dksX5_grind_5 11 rfl rfl)
theorem dX5_grind_129 : decode cX5_grind 129 = .ok (.invokevirtual 88, 3) := dk_182 0 88 (dk_at dksX5_grind_5 12 rfl rfl)
theorem dX5_grind_132 : decode cX5_grind 132 = .ok (.ifCond .ne 11, 3) := dk_154 0 11 (dk_at dksX5_grind_5 15 rfl rfl)
theorem dX5_grind_135 : decode cX5_grind 135 = .ok (.aload_n 0, 1) := dk_42 (dk_at dksX5_grind_5 18 rfl rfl)
theorem dX5_grind_136 : decode cX5_grind 136 = .ok (.iconst 3, 1) := dk_6 (dk_at dksX5_grind_5 19 rfl rfl)
theorem dX5_grind_137 : decode cX5_grind 137 = .ok (.iconst 3, 1) := dk_6 (dk_at dksX5_grind_5 20 rfl rfl)
theorem dX5_grind_138 : decode cX5_grind 138 = .ok (.iload_n 1, 1) := dk_27 (dk_at dksX5_grind_5 21 rfl rfl)
theorem dX5_grind_139 : decode cX5_grind 139 = .ok (.invokevirtual 77, 3) := dk_182 0 77 (dk_at dksX5_grind_6 0 rfl rfl)
theorem dX5_grind_142 : decode cX5_grind 142 = .ok (.ireturn, 1) := dk_172 (dk_at dksX5_grind_6 3 rfl rfl)
theorem dX5_grind_143 : decode cX5_grind 143 = .ok (.iload_n 2, 1) := dk_28 (dk_at dksX5_grind_6 4 rfl rfl)
theorem dX5_grind_144 : decode cX5_grind 144 = .ok (.iload_n 3, 1) := dk_29 (dk_at dksX5_grind_6 5 rfl rfl)
theorem dX5_grind_145 : decode cX5_grind 145 = .ok (.iadd, 1) := dk_96 (dk_at dksX5_grind_6 6 rfl rfl)
theorem dX5_grind_146 : decode cX5_grind 146 = .ok (.iload 4, 2) := dk_21 4 (dk_at dksX5_grind_6 7 rfl rfl)
theorem dX5_grind_148 : decode cX5_grind 148 = .ok (.iadd, 1) := dk_96 (dk_at dksX5_grind_6 9 rfl rfl)
theorem dX5_grind_149 : decode cX5_grind 149 = .ok (.istore 5, 2) := dk_54 5 (dk_at dksX5_grind_6 10 rfl rfl)
theorem dX5_grind_151 : decode cX5_grind 151 = .ok (.aload_n 0, 1) := dk_42 (dk_at dksX5_grind_6 12 rfl rfl)
theorem dX5_grind_152 : decode cX5_grind 152 = .ok (.iload_n 1, 1) := dk_27 (dk_at dksX5_grind_6 13 rfl rfl)
theorem dX5_grind_153 : decode cX5_grind 153 = .ok (.iload 5, 2) := dk_21 5 (dk_at dksX5_grind_6 14 rfl rfl)
theorem dX5_grind_155 : decode cX5_grind 155 = .ok (.invokevirtual 91, 3) := dk_182 0 91 (dk_at dksX5_grind_6 16 rfl rfl)
theorem dX5_grind_158 : decode cX5_grind 158 = .ok (.istore 6, 2) := dk_54 6 (dk_at dksX5_grind_6 19 rfl rfl)
theorem dX5_grind_160 : decode cX5_grind 160 = .ok (.iload 6, 2) := dk_21 6 (dk_at dksX5_grind_6 21 rfl rfl)
theorem dX5_grind_162 : decode cX5_grind 162 = .ok (.bipush 9, 2) := dk_16 9 (dk_at dksX5_grind_7 0 rfl rfl)
theorem dX5_grind_164 : decode cX5_grind 164 = .ok (.if_icmp .le 12, 3) := dk_164 0 12 (dk_at dksX5_grind_7 2 rfl rfl)
theorem dX5_grind_167 : decode cX5_grind 167 = .ok (.aload_n 0, 1) := dk_42 (dk_at dksX5_grind_7 5 rfl rfl)
theorem dX5_grind_168 : decode cX5_grind 168 = .ok (.iconst 3, 1) := dk_6 (dk_at dksX5_grind_7 6 rfl rfl)
theorem dX5_grind_169 : decode cX5_grind 169 = .ok (.iconst 4, 1) := dk_7 (dk_at dksX5_grind_7 7 rfl rfl)
theorem dX5_grind_170 : decode cX5_grind 170 = .ok (.iload 6, 2) := dk_21 6 (dk_at dksX5_grind_7 8 rfl rfl)
theorem dX5_grind_172 : decode cX5_grind 172 = .ok (.invokevirtual 77, 3) := dk_182 0 77 (dk_at dksX5_grind_7 10 rfl rfl)
theorem dX5_grind_175 : decode cX5_grind 175 = .ok (.ireturn, 1) := dk_172 (dk_at dksX5_grind_7 13 rfl rfl)
theorem dX5_grind_176 : decode cX5_grind 176 = .ok (.aload_n 0, 1) := dk_42 (dk_at dksX5_grind_7 14 rfl rfl)
theorem dX5_grind_177 : decode cX5_grind 177 = .ok (.aload_n 0, 1) := dk_42 (dk_at dksX5_grind_7 15 rfl rfl)
theorem dX5_grind_178 : decode cX5_grind 178 = .ok (.getfield 7, 3) := dk_180 0 7 (dk_at dksX5_grind_7 16 rfl rfl)
theorem dX5_grind_181 : decode cX5_grind 181 = .ok (.invokevirtual 81, 3) := dk_182 0 81 (dk_at dksX5_grind_7 19 rfl rfl)
theorem dX5_grind_184 : decode cX5_grind 184 = .ok (.aload_n 0, 1) := dk_42 (dk_at dksX5_grind_7 22 rfl rfl)
theorem dX5_grind_185 : decode cX5_grind 185 = .ok (.getfield 7, 3) := dk_180 0 7 (dk_at dksX5_grind_8 0 rfl rfl)
theorem dX5_grind_188 : decode cX5_grind 188 = .ok (.bipush 7, 2) := dk_16 7 (dk_at dksX5_grind_8 3 rfl rfl)
theorem dX5_grind_190 : decode cX5_grind 190 = .ok (.iaload, 1) := dk_46 (dk_at dksX5_grind_8 5 rfl rfl)
theorem dX5_grind_191 : decode cX5_grind 191 = .ok (.istore 7, 2) := dk_54 7 (dk_at dksX5_grind_8 6 rfl rfl)
theorem dX5_grind_193 : decode cX5_grind 193 = .ok (.aload_n 0, 1) := dk_42 (dk_at dksX5_grind_8 8 rfl rfl)
theorem dX5_grind_194 : decode cX5_grind 194 = .ok (.getfield 7, 3) := dk_180 0 7 (dk_at dksX5_grind_8 9 rfl rfl)
theorem dX5_grind_197 : decode cX5_grind 197 = .ok (.bipush 7, 2) := dk_16 7 (dk_at dksX5_grind_8 12 rfl rfl)
theorem dX5_grind_199 : decode cX5_grind 199 = .ok (.dup2, 1) := dk_92 (dk_at dksX5_grind_8 14 rfl rfl)
theorem dX5_grind_200 : decode cX5_grind 200 = .ok (.iaload, 1) := dk_46 (dk_at dksX5_grind_8 15 rfl rfl)
theorem dX5_grind_201 : decode cX5_grind 201 = .ok (.iconst 1, 1) := dk_4 (dk_at dksX5_grind_8 16 rfl rfl)
theorem dX5_grind_202 : decode cX5_grind 202 = .ok (.iadd, 1) := dk_96 (dk_at dksX5_grind_8 17 rfl rfl)
theorem dX5_grind_203 : decode cX5_grind 203 = .ok (.iastore, 1) := dk_79 (dk_at dksX5_grind_8 18 rfl rfl)
theorem dX5_grind_204 : decode cX5_grind 204 = .ok (.iconst 0, 1) := dk_3 (dk_at dksX5_grind_8 19 rfl rfl)
theorem dX5_grind_205 : decode cX5_grind 205 = .ok (.istore 8, 2) := dk_54 8 (dk_at dksX5_grind_8 20 rfl rfl)
theorem dX5_grind_207 : decode cX5_grind 207 = .ok (.iload 8, 2) := dk_21 8 (dk_at dksX5_grind_8 22 rfl rfl)
theorem dX5_grind_209 : decode cX5_grind 209 = .ok (.bipush 7, 2) := dk_16 7 (dk_at dksX5_grind_9 0 rfl rfl)
theorem dX5_grind_211 : decode cX5_grind 211 = .ok (.if_icmp .ge 18, 3) := dk_162 0 18 (dk_at dksX5_grind_9 2 rfl rfl)
theorem dX5_grind_214 : decode cX5_grind 214 = .ok (.aload_n 0, 1) := dk_42 (dk_at dksX5_grind_9 5 rfl rfl)
theorem dX5_grind_215 : decode cX5_grind 215 = .ok (.iload 7, 2) := dk_21 7 (dk_at dksX5_grind_9 6 rfl rfl)
theorem dX5_grind_217 : decode cX5_grind 217 = .ok (.iload 8, 2) := dk_21 8 (dk_at dksX5_grind_9 8 rfl rfl)
theorem dX5_grind_219 : decode cX5_grind 219 = .ok (.iconst 0, 1) := dk_3 (dk_at dksX5_grind_9 10 rfl rfl)
theorem dX5_grind_220 : decode cX5_grind 220 = .ok (.invokevirtual 100, 3) := dk_182 0 100 (dk_at dksX5_grind_9 11 rfl rfl)
theorem dX5_grind_223 : decode cX5_grind 223 = .ok (.iinc 8 1, 3) := dk_132 8 1 (dk_at dksX5_grind_9 14 rfl rfl)
theorem dX5_grind_226 : decode cX5_grind 226 = .ok (.goto (-19), 3) := dk_167 255 237 (dk_at dksX5_grind_9 17 rfl rfl)
theorem dX5_grind_229 : decode cX5_grind 229 = .ok (.aload_n 0, 1) := dk_42 (dk_at dksX5_grind_9 20 rfl rfl)
theorem dX5_grind_230 : decode cX5_grind 230 = .ok (.iload 7, 2) := dk_21 7 (dk_at dksX5_grind_9 21 rfl rfl)
theorem dX5_grind_232 : decode cX5_grind 232 = .ok (.iconst 1, 1) := dk_4 (dk_at dksX5_grind_9 23 rfl rfl)
theorem dX5_grind_233 : decode cX5_grind 233 = .ok (.iload 5, 2) := dk_21 5 (dk_at dksX5_grind_10 0 rfl rfl)
theorem dX5_grind_235 : decode cX5_grind 235 = .ok (.invokevirtual 100, 3) := dk_182 0 100 (dk_at dksX5_grind_10 2 rfl rfl)
theorem dX5_grind_238 : decode cX5_grind 238 = .ok (.aload_n 0, 1) := dk_42 (dk_at dksX5_grind_10 5 rfl rfl)
theorem dX5_grind_239 : decode cX5_grind 239 = .ok (.iload 7, 2) := dk_21 7 (dk_at dksX5_grind_10 6 rfl rfl)
theorem dX5_grind_241 : decode cX5_grind 241 = .ok (.bipush 6, 2) := dk_16 6 (dk_at dksX5_grind_10 8 rfl rfl)
theorem dX5_grind_243 : decode cX5_grind 243 = .ok (.iload 5, 2) := dk_21 5 (dk_at dksX5_grind_10 10 rfl rfl)
theorem dX5_grind_245 : decode cX5_grind 245 = .ok (.invokevirtual 100, 3) := dk_182 0 100 (dk_at dksX5_grind_10 12 rfl rfl)
theorem dX5_grind_248 : decode cX5_grind 248 = .ok (.aload_n 0, 1) := dk_42 (dk_at dksX5_grind_10 15 rfl rfl)
theorem dX5_grind_249 : decode cX5_grind 249 = .ok (.iload 7, 2) := dk_21 7 (dk_at dksX5_grind_10 16 rfl rfl)
theorem dX5_grind_251 : decode cX5_grind 251 = .ok (.iconst 2, 1) := dk_5 (dk_at dksX5_grind_10 18 rfl rfl)
theorem dX5_grind_252 : decode cX5_grind 252 = .ok (.bipush 9, 2) := dk_16 9 (dk_at dksX5_grind_10 19 rfl rfl)
theorem dX5_grind_254 : decode cX5_grind 254 = .ok (.aload_n 0, 1) := dk_42 (dk_at dksX5_grind_10 21 rfl rfl)
theorem dX5_grind_255 : decode cX5_grind 255 = .ok (.iload_n 1, 1) := dk_27 (dk_at dksX5_grind_10 22 rfl rfl)
theorem dX5_grind_256 : decode cX5_grind 256 = .ok (.iconst 0, 1) := dk_3 (dk_at dksX5_grind_10 23 rfl rfl)
theorem dX5_grind_257 : decode cX5_grind 257 = .ok (.invokevirtual 88, 3) := dk_182 0 88 (dk_at dksX5_grind_11 0 rfl rfl)
theorem dX5_grind_260 : decode cX5_grind 260 = .ok (.isub, 1) := dk_100 (dk_at dksX5_grind_11 3 rfl rfl)
theorem dX5_grind_261 : decode cX5_grind 261 = .ok (.invokevirtual 100, 3) := dk_182 0 100 (dk_at dksX5_grind_11 4 rfl rfl)
theorem dX5_grind_264 : decode cX5_grind 264 = .ok (.aload_n 0, 1) := dk_42 (dk_at dksX5_grind_11 7 rfl rfl)
theorem dX5_grind_265 : decode cX5_grind 265 = .ok (.iload 7, 2) := dk_21 7 (dk_at dksX5_grind_11 8 rfl rfl)
theorem dX5_grind_267 : decode cX5_grind 267 = .ok (.iconst 3, 1) := dk_6 (dk_at dksX5_grind_11 10 rfl rfl)
theorem dX5_grind_268 : decode cX5_grind 268 = .ok (.aload_n 0, 1) := dk_42 (dk_at dksX5_grind_11 11 rfl rfl)
theorem dX5_grind_269 : decode cX5_grind 269 = .ok (.iload_n 1, 1) := dk_27 (dk_at dksX5_grind_11 12 rfl rfl)
theorem dX5_grind_270 : decode cX5_grind 270 = .ok (.iload_n 2, 1) := dk_28 (dk_at dksX5_grind_11 13 rfl rfl)
theorem dX5_grind_271 : decode cX5_grind 271 = .ok (.iload_n 3, 1) := dk_29 (dk_at dksX5_grind_11 14 rfl rfl)
theorem dX5_grind_272 : decode cX5_grind 272 = .ok (.iload 4, 2) := dk_21 4 (dk_at dksX5_grind_11 15 rfl rfl)
theorem dX5_grind_274 : decode cX5_grind 274 = .ok (.invokevirtual 104, 3) := dk_182 0 104 (dk_at dksX5_grind_11 17 rfl rfl)
theorem dX5_grind_277 : decode cX5_grind 277 = .ok (.invokevirtual 100, 3) := dk_182 0 100 (dk_at dksX5_grind_11 20 rfl rfl)
theorem dX5_grind_280 : decode cX5_grind 280 = .ok (.aload_n 0, 1) := dk_42 (dk_at dksX5_grind_11 23 rfl rfl)
theorem dX5_grind_281 : decode cX5_grind 281 = .ok (.getfield 7, 3) := dk_180 0 7 (dk_at dksX5_grind_12 0 rfl rfl)
theorem dX5_grind_284 : decode cX5_grind 284 = .ok (.iconst 1, 1) := dk_4 (dk_at dksX5_grind_12 3 rfl rfl)
theorem dX5_grind_285 : decode cX5_grind 285 = .ok (.dup2, 1) := dk_92 (dk_at dksX5_grind_12 4 rfl rfl)
theorem dX5_grind_286 : decode cX5_grind 286 = .ok (.iaload, 1) := dk_46 (dk_at dksX5_grind_12 5 rfl rfl)
theorem dX5_grind_287 : decode cX5_grind 287 = .ok (.iload_n 2, 1) := dk_28 (dk_at dksX5_grind_12 6 rfl rfl)
theorem dX5_grind_288 : decode cX5_grind 288 = .ok (.isub, 1) := dk_100 (dk_at dksX5_grind_12 7 rfl rfl)
theorem dX5_grind_289 : decode cX5_grind 289 = .ok (.iastore, 1) := dk_79 (dk_at dksX5_grind_12 8 rfl rfl)
theorem dX5_grind_290 : decode cX5_grind 290 = .ok (.aload_n 0, 1) := dk_42 (dk_at dksX5_grind_12 9 rfl rfl)
theorem dX5_grind_291 : decode cX5_grind 291 = .ok (.getfield 7, 3) := dk_180 0 7 (dk_at dksX5_grind_12 10 rfl rfl)
theorem dX5_grind_294 : decode cX5_grind 294 = .ok (.iconst 2, 1) := dk_5 (dk_at dksX5_grind_12 13 rfl rfl)
theorem dX5_grind_295 : decode cX5_grind 295 = .ok (.dup2, 1) := dk_92 (dk_at dksX5_grind_12 14 rfl rfl)
theorem dX5_grind_296 : decode cX5_grind 296 = .ok (.iaload, 1) := dk_46 (dk_at dksX5_grind_12 15 rfl rfl)
theorem dX5_grind_297 : decode cX5_grind 297 = .ok (.iload_n 3, 1) := dk_29 (dk_at dksX5_grind_12 16 rfl rfl)
theorem dX5_grind_298 : decode cX5_grind 298 = .ok (.isub, 1) := dk_100 (dk_at dksX5_grind_12 17 rfl rfl)
theorem dX5_grind_299 : decode cX5_grind 299 = .ok (.iastore, 1) := dk_79 (dk_at dksX5_grind_12 18 rfl rfl)
theorem dX5_grind_300 : decode cX5_grind 300 = .ok (.aload_n 0, 1) := dk_42 (dk_at dksX5_grind_12 19 rfl rfl)
theorem dX5_grind_301 : decode cX5_grind 301 = .ok (.getfield 7, 3) := dk_180 0 7 (dk_at dksX5_grind_12 20 rfl rfl)
theorem dX5_grind_304 : decode cX5_grind 304 = .ok (.iconst 3, 1) := dk_6 (dk_at dksX5_grind_12 23 rfl rfl)
theorem dX5_grind_305 : decode cX5_grind 305 = .ok (.dup2, 1) := dk_92 (dk_at dksX5_grind_13 0 rfl rfl)
theorem dX5_grind_306 : decode cX5_grind 306 = .ok (.iaload, 1) := dk_46 (dk_at dksX5_grind_13 1 rfl rfl)
theorem dX5_grind_307 : decode cX5_grind 307 = .ok (.iload 4, 2) := dk_21 4 (dk_at dksX5_grind_13 2 rfl rfl)
theorem dX5_grind_309 : decode cX5_grind 309 = .ok (.isub, 1) := dk_100 (dk_at dksX5_grind_13 4 rfl rfl)
theorem dX5_grind_310 : decode cX5_grind 310 = .ok (.iastore, 1) := dk_79 (dk_at dksX5_grind_13 5 rfl rfl)
theorem dX5_grind_311 : decode cX5_grind 311 = .ok (.aload_n 0, 1) := dk_42 (dk_at dksX5_grind_13 6 rfl rfl)
theorem dX5_grind_312 : decode cX5_grind 312 = .ok (.getfield 7, 3) := dk_180 0 7 (dk_at dksX5_grind_13 7 rfl rfl)
theorem dX5_grind_315 : decode cX5_grind 315 = .ok (.bipush 16, 2) := dk_16 16 (dk_at dksX5_grind_13 10 rfl rfl)
theorem dX5_grind_317 : decode cX5_grind 317 = .ok (.iconst 3, 1) := dk_6 (dk_at dksX5_grind_13 12 rfl rfl)
theorem dX5_grind_318 : decode cX5_grind 318 = .ok (.iload_n 1, 1) := dk_27 (dk_at dksX5_grind_13 13 rfl rfl)
theorem dX5_grind_319 : decode cX5_grind 319 = .ok (.imul, 1) := dk_104 (dk_at dksX5_grind_13 14 rfl rfl)
theorem dX5_grind_320 : decode cX5_grind 320 = .ok (.iadd, 1) := dk_96 (dk_at dksX5_grind_13 15 rfl rfl)
theorem dX5_grind_321 : decode cX5_grind 321 = .ok (.dup2, 1) := dk_92 (dk_at dksX5_grind_13 16 rfl rfl)
theorem dX5_grind_322 : decode cX5_grind 322 = .ok (.iaload, 1) := dk_46 (dk_at dksX5_grind_13 17 rfl rfl)
theorem dX5_grind_323 : decode cX5_grind 323 = .ok (.iconst 1, 1) := dk_4 (dk_at dksX5_grind_13 18 rfl rfl)
theorem dX5_grind_324 : decode cX5_grind 324 = .ok (.isub, 1) := dk_100 (dk_at dksX5_grind_13 19 rfl rfl)
theorem dX5_grind_325 : decode cX5_grind 325 = .ok (.iastore, 1) := dk_79 (dk_at dksX5_grind_13 20 rfl rfl)
theorem dX5_grind_326 : decode cX5_grind 326 = .ok (.aload_n 0, 1) := dk_42 (dk_at dksX5_grind_13 21 rfl rfl)
theorem dX5_grind_327 : decode cX5_grind 327 = .ok (.getfield 7, 3) := dk_180 0 7 (dk_at dksX5_grind_14 0 rfl rfl)
theorem dX5_grind_330 : decode cX5_grind 330 = .ok (.bipush 16, 2) := dk_16 16 (dk_at dksX5_grind_14 3 rfl rfl)
theorem dX5_grind_332 : decode cX5_grind 332 = .ok (.iconst 3, 1) := dk_6 (dk_at dksX5_grind_14 5 rfl rfl)
theorem dX5_grind_333 : decode cX5_grind 333 = .ok (.iload_n 1, 1) := dk_27 (dk_at dksX5_grind_14 6 rfl rfl)
theorem dX5_grind_334 : decode cX5_grind 334 = .ok (.imul, 1) := dk_104 (dk_at dksX5_grind_14 7 rfl rfl)
theorem dX5_grind_335 : decode cX5_grind 335 = .ok (.iadd, 1) := dk_96 (dk_at dksX5_grind_14 8 rfl rfl)
theorem dX5_grind_336 : decode cX5_grind 336 = .ok (.iconst 1, 1) := dk_4 (dk_at dksX5_grind_14 9 rfl rfl)
theorem dX5_grind_337 : decode cX5_grind 337 = .ok (.iadd, 1) := dk_96 (dk_at dksX5_grind_14 10 rfl rfl)
theorem dX5_grind_338 : decode cX5_grind 338 = .ok (.iload 6, 2) := dk_21 6 (dk_at dksX5_grind_14 11 rfl rfl)
theorem dX5_grind_340 : decode cX5_grind 340 = .ok (.iastore, 1) := dk_79 (dk_at dksX5_grind_14 13 rfl rfl)
theorem dX5_grind_341 : decode cX5_grind 341 = .ok (.aload_n 0, 1) := dk_42 (dk_at dksX5_grind_14 14 rfl rfl)
theorem dX5_grind_342 : decode cX5_grind 342 = .ok (.getfield 7, 3) := dk_180 0 7 (dk_at dksX5_grind_14 15 rfl rfl)
theorem dX5_grind_345 : decode cX5_grind 345 = .ok (.bipush 16, 2) := dk_16 16 (dk_at dksX5_grind_14 18 rfl rfl)
theorem dX5_grind_347 : decode cX5_grind 347 = .ok (.iconst 3, 1) := dk_6 (dk_at dksX5_grind_14 20 rfl rfl)
theorem dX5_grind_348 : decode cX5_grind 348 = .ok (.iload_n 1, 1) := dk_27 (dk_at dksX5_grind_14 21 rfl rfl)
theorem dX5_grind_349 : decode cX5_grind 349 = .ok (.imul, 1) := dk_104 (dk_at dksX5_grind_14 22 rfl rfl)
theorem dX5_grind_350 : decode cX5_grind 350 = .ok (.iadd, 1) := dk_96 (dk_at dksX5_grind_14 23 rfl rfl)
theorem dX5_grind_351 : decode cX5_grind 351 = .ok (.iconst 2, 1) := dk_5 (dk_at dksX5_grind_15 0 rfl rfl)
theorem dX5_grind_352 : decode cX5_grind 352 = .ok (.iadd, 1) := dk_96 (dk_at dksX5_grind_15 1 rfl rfl)
theorem dX5_grind_353 : decode cX5_grind 353 = .ok (.dup2, 1) := dk_92 (dk_at dksX5_grind_15 2 rfl rfl)
theorem dX5_grind_354 : decode cX5_grind 354 = .ok (.iaload, 1) := dk_46 (dk_at dksX5_grind_15 3 rfl rfl)
theorem dX5_grind_355 : decode cX5_grind 355 = .ok (.iload 5, 2) := dk_21 5 (dk_at dksX5_grind_15 4 rfl rfl)
theorem dX5_grind_357 : decode cX5_grind 357 = .ok (.iadd, 1) := dk_96 (dk_at dksX5_grind_15 6 rfl rfl)
theorem dX5_grind_358 : decode cX5_grind 358 = .ok (.iastore, 1) := dk_79 (dk_at dksX5_grind_15 7 rfl rfl)
theorem dX5_grind_359 : decode cX5_grind 359 = .ok (.iload 7, 2) := dk_21 7 (dk_at dksX5_grind_15 8 rfl rfl)
theorem dX5_grind_361 : decode cX5_grind 361 = .ok (.ireturn, 1) := dk_172 (dk_at dksX5_grind_15 10 rfl rfl)
abbrev cX5_isMix : ByteArray := prog_18_method_26_code
def yX5_isMix : MethodName := ⟨RX5, "isMix", "(III)Z"⟩
def dkwX5_isMix_2 : List UInt8 := [167, 0, 4, 3, 172]
abbrev dktX5_isMix_2 : List UInt8 := dkwX5_isMix_2 ++ []
def dkwX5_isMix_1 : List UInt8 := [28, 16, 60, 163, 0, 22, 26, 27, 96, 28, 96, 16, 10, 16, 60, 184, 0, 65, 153, 0, 7, 4]
abbrev dktX5_isMix_1 : List UInt8 := dkwX5_isMix_1 ++ dktX5_isMix_2
def dkwX5_isMix_0 : List UInt8 := [26, 155, 0, 48, 27, 155, 0, 44, 28, 155, 0, 40, 26, 16, 60, 163, 0, 34, 27, 16, 60, 163, 0, 28]
abbrev dktX5_isMix_0 : List UInt8 := dkwX5_isMix_0 ++ dktX5_isMix_1
theorem dksX5_isMix_0 : cX5_isMix.data.toList.drop 0 = dktX5_isMix_0 := by decide +kernel
theorem dksX5_isMix_1 : cX5_isMix.data.toList.drop 24 = dktX5_isMix_1 := dk_seg dksX5_isMix_0 24 rfl rfl
theorem dksX5_isMix_2 : cX5_isMix.data.toList.drop 46 = dktX5_isMix_2 := dk_seg dksX5_isMix_1 22 rfl rfl
theorem dX5_isMix_0 : decode cX5_isMix 0 = .ok (.iload_n 0, 1) := dk_26 (dk_at dksX5_isMix_0 0 rfl rfl)
theorem dX5_isMix_1 : decode cX5_isMix 1 = .ok (.ifCond .lt 48, 3) := dk_155 0 48 (dk_at dksX5_isMix_0 1 rfl rfl)
theorem dX5_isMix_4 : decode cX5_isMix 4 = .ok (.iload_n 1, 1) := dk_27 (dk_at dksX5_isMix_0 4 rfl rfl)
theorem dX5_isMix_5 : decode cX5_isMix 5 = .ok (.ifCond .lt 44, 3) := dk_155 0 44 (dk_at dksX5_isMix_0 5 rfl rfl)
theorem dX5_isMix_8 : decode cX5_isMix 8 = .ok (.iload_n 2, 1) := dk_28 (dk_at dksX5_isMix_0 8 rfl rfl)
theorem dX5_isMix_9 : decode cX5_isMix 9 = .ok (.ifCond .lt 40, 3) := dk_155 0 40 (dk_at dksX5_isMix_0 9 rfl rfl)
theorem dX5_isMix_12 : decode cX5_isMix 12 = .ok (.iload_n 0, 1) := dk_26 (dk_at dksX5_isMix_0 12 rfl rfl)
theorem dX5_isMix_13 : decode cX5_isMix 13 = .ok (.bipush 60, 2) := dk_16 60 (dk_at dksX5_isMix_0 13 rfl rfl)
theorem dX5_isMix_15 : decode cX5_isMix 15 = .ok (.if_icmp .gt 34, 3) := dk_163 0 34 (dk_at dksX5_isMix_0 15 rfl rfl)
theorem dX5_isMix_18 : decode cX5_isMix 18 = .ok (.iload_n 1, 1) := dk_27 (dk_at dksX5_isMix_0 18 rfl rfl)
theorem dX5_isMix_19 : decode cX5_isMix 19 = .ok (.bipush 60, 2) := dk_16 60 (dk_at dksX5_isMix_0 19 rfl rfl)
theorem dX5_isMix_21 : decode cX5_isMix 21 = .ok (.if_icmp .gt 28, 3) := dk_163 0 28 (dk_at dksX5_isMix_0 21 rfl rfl)
theorem dX5_isMix_24 : decode cX5_isMix 24 = .ok (.iload_n 2, 1) := dk_28 (dk_at dksX5_isMix_1 0 rfl rfl)
theorem dX5_isMix_25 : decode cX5_isMix 25 = .ok (.bipush 60, 2) := dk_16 60 (dk_at dksX5_isMix_1 1 rfl rfl)
theorem dX5_isMix_27 : decode cX5_isMix 27 = .ok (.if_icmp .gt 22, 3) := dk_163 0 22 (dk_at dksX5_isMix_1 3 rfl rfl)
theorem dX5_isMix_30 : decode cX5_isMix 30 = .ok (.iload_n 0, 1) := dk_26 (dk_at dksX5_isMix_1 6 rfl rfl)
theorem dX5_isMix_31 : decode cX5_isMix 31 = .ok (.iload_n 1, 1) := dk_27 (dk_at dksX5_isMix_1 7 rfl rfl)
theorem dX5_isMix_32 : decode cX5_isMix 32 = .ok (.iadd, 1) := dk_96 (dk_at dksX5_isMix_1 8 rfl rfl)
theorem dX5_isMix_33 : decode cX5_isMix 33 = .ok (.iload_n 2, 1) := dk_28 (dk_at dksX5_isMix_1 9 rfl rfl)
theorem dX5_isMix_34 : decode cX5_isMix 34 = .ok (.iadd, 1) := dk_96 (dk_at dksX5_isMix_1 10 rfl rfl)
theorem dX5_isMix_35 : decode cX5_isMix 35 = .ok (.bipush 10, 2) := dk_16 10 (dk_at dksX5_isMix_1 11 rfl rfl)
theorem dX5_isMix_37 : decode cX5_isMix 37 = .ok (.bipush 60, 2) := dk_16 60 (dk_at dksX5_isMix_1 13 rfl rfl)
theorem dX5_isMix_39 : decode cX5_isMix 39 = .ok (.invokestatic 65, 3) := dk_184 0 65 (dk_at dksX5_isMix_1 15 rfl rfl)
theorem dX5_isMix_42 : decode cX5_isMix 42 = .ok (.ifCond .eq 7, 3) := dk_153 0 7 (dk_at dksX5_isMix_1 18 rfl rfl)
theorem dX5_isMix_45 : decode cX5_isMix 45 = .ok (.iconst 1, 1) := dk_4 (dk_at dksX5_isMix_1 21 rfl rfl)
theorem dX5_isMix_46 : decode cX5_isMix 46 = .ok (.goto 4, 3) := dk_167 0 4 (dk_at dksX5_isMix_2 0 rfl rfl)
theorem dX5_isMix_49 : decode cX5_isMix 49 = .ok (.iconst 0, 1) := dk_3 (dk_at dksX5_isMix_2 3 rfl rfl)
theorem dX5_isMix_50 : decode cX5_isMix 50 = .ok (.ireturn, 1) := dk_172 (dk_at dksX5_isMix_2 4 rfl rfl)
abbrev cX5_heatBy : ByteArray := prog_18_method_27_code
def yX5_heatBy : MethodName := ⟨RX5, "heatBy", "(II)I"⟩
def dkwX5_heatBy_0 : List UInt8 := [42, 27, 4, 182, 0, 88, 28, 16, 9, 96, 16, 10, 108, 96, 172]
abbrev dktX5_heatBy_0 : List UInt8 := dkwX5_heatBy_0 ++ []
theorem dksX5_heatBy_0 : cX5_heatBy.data.toList.drop 0 = dktX5_heatBy_0 := by decide +kernel
theorem dX5_heatBy_0 : decode cX5_heatBy 0 = .ok (.aload_n 0, 1) := dk_42 (dk_at dksX5_heatBy_0 0 rfl rfl)
theorem dX5_heatBy_1 : decode cX5_heatBy 1 = .ok (.iload_n 1, 1) := dk_27 (dk_at dksX5_heatBy_0 1 rfl rfl)
theorem dX5_heatBy_2 : decode cX5_heatBy 2 = .ok (.iconst 1, 1) := dk_4 (dk_at dksX5_heatBy_0 2 rfl rfl)
theorem dX5_heatBy_3 : decode cX5_heatBy 3 = .ok (.invokevirtual 88, 3) := dk_182 0 88 (dk_at dksX5_heatBy_0 3 rfl rfl)
theorem dX5_heatBy_6 : decode cX5_heatBy 6 = .ok (.iload_n 2, 1) := dk_28 (dk_at dksX5_heatBy_0 6 rfl rfl)
theorem dX5_heatBy_7 : decode cX5_heatBy 7 = .ok (.bipush 9, 2) := dk_16 9 (dk_at dksX5_heatBy_0 7 rfl rfl)
theorem dX5_heatBy_9 : decode cX5_heatBy 9 = .ok (.iadd, 1) := dk_96 (dk_at dksX5_heatBy_0 9 rfl rfl)
theorem dX5_heatBy_10 : decode cX5_heatBy 10 = .ok (.bipush 10, 2) := dk_16 10 (dk_at dksX5_heatBy_0 10 rfl rfl)
theorem dX5_heatBy_12 : decode cX5_heatBy 12 = .ok (.idiv, 1) := dk_108 (dk_at dksX5_heatBy_0 12 rfl rfl)
theorem dX5_heatBy_13 : decode cX5_heatBy 13 = .ok (.iadd, 1) := dk_96 (dk_at dksX5_heatBy_0 13 rfl rfl)
theorem dX5_heatBy_14 : decode cX5_heatBy 14 = .ok (.ireturn, 1) := dk_172 (dk_at dksX5_heatBy_0 14 rfl rfl)
abbrev cX5_laysBatch : ByteArray := prog_18_method_17_code
def yX5_laysBatch : MethodName := ⟨RX5, "laysBatch", "(III)V"⟩
def dkwX5_laysBatch_0 : List UInt8 := [42, 180, 0, 7, 16, 25, 16, 7, 27, 104, 96, 28, 96, 29, 79, 177]
abbrev dktX5_laysBatch_0 : List UInt8 := dkwX5_laysBatch_0 ++ []
theorem dksX5_laysBatch_0 : cX5_laysBatch.data.toList.drop 0 = dktX5_laysBatch_0 := by decide +kernel
theorem dX5_laysBatch_0 : decode cX5_laysBatch 0 = .ok (.aload_n 0, 1) := dk_42 (dk_at dksX5_laysBatch_0 0 rfl rfl)
theorem dX5_laysBatch_1 : decode cX5_laysBatch 1 = .ok (.getfield 7, 3) := dk_180 0 7 (dk_at dksX5_laysBatch_0 1 rfl rfl)
theorem dX5_laysBatch_4 : decode cX5_laysBatch 4 = .ok (.bipush 25, 2) := dk_16 25 (dk_at dksX5_laysBatch_0 4 rfl rfl)
theorem dX5_laysBatch_6 : decode cX5_laysBatch 6 = .ok (.bipush 7, 2) := dk_16 7 (dk_at dksX5_laysBatch_0 6 rfl rfl)
theorem dX5_laysBatch_8 : decode cX5_laysBatch 8 = .ok (.iload_n 1, 1) := dk_27 (dk_at dksX5_laysBatch_0 8 rfl rfl)
theorem dX5_laysBatch_9 : decode cX5_laysBatch 9 = .ok (.imul, 1) := dk_104 (dk_at dksX5_laysBatch_0 9 rfl rfl)
theorem dX5_laysBatch_10 : decode cX5_laysBatch 10 = .ok (.iadd, 1) := dk_96 (dk_at dksX5_laysBatch_0 10 rfl rfl)
theorem dX5_laysBatch_11 : decode cX5_laysBatch 11 = .ok (.iload_n 2, 1) := dk_28 (dk_at dksX5_laysBatch_0 11 rfl rfl)
theorem dX5_laysBatch_12 : decode cX5_laysBatch 12 = .ok (.iadd, 1) := dk_96 (dk_at dksX5_laysBatch_0 12 rfl rfl)
theorem dX5_laysBatch_13 : decode cX5_laysBatch 13 = .ok (.iload_n 3, 1) := dk_29 (dk_at dksX5_laysBatch_0 13 rfl rfl)
theorem dX5_laysBatch_14 : decode cX5_laysBatch 14 = .ok (.iastore, 1) := dk_79 (dk_at dksX5_laysBatch_0 14 rfl rfl)
theorem dX5_laysBatch_15 : decode cX5_laysBatch 15 = .ok (.return_, 1) := dk_177 (dk_at dksX5_laysBatch_0 15 rfl rfl)
abbrev cX5_biteBy : ByteArray := prog_18_method_28_code
def yX5_biteBy : MethodName := ⟨RX5, "biteBy", "(IIII)I"⟩
def dkwX5_biteBy_1 : List UInt8 := [108, 5, 3, 42, 27, 21, 5, 182, 0, 91, 8, 100, 184, 0, 94, 104, 100, 184, 0, 94, 172]
abbrev dktX5_biteBy_1 : List UInt8 := dkwX5_biteBy_1 ++ []
def dkwX5_biteBy_0 : List UInt8 := [28, 29, 96, 21, 4, 96, 54, 5, 4, 16, 10, 28, 5, 29, 104, 96, 6, 21, 4, 104, 96, 104, 21, 5]
abbrev dktX5_biteBy_0 : List UInt8 := dkwX5_biteBy_0 ++ dktX5_biteBy_1
theorem dksX5_biteBy_0 : cX5_biteBy.data.toList.drop 0 = dktX5_biteBy_0 := by decide +kernel
theorem dksX5_biteBy_1 : cX5_biteBy.data.toList.drop 24 = dktX5_biteBy_1 := dk_seg dksX5_biteBy_0 24 rfl rfl
theorem dX5_biteBy_0 : decode cX5_biteBy 0 = .ok (.iload_n 2, 1) := dk_28 (dk_at dksX5_biteBy_0 0 rfl rfl)
theorem dX5_biteBy_1 : decode cX5_biteBy 1 = .ok (.iload_n 3, 1) := dk_29 (dk_at dksX5_biteBy_0 1 rfl rfl)
theorem dX5_biteBy_2 : decode cX5_biteBy 2 = .ok (.iadd, 1) := dk_96 (dk_at dksX5_biteBy_0 2 rfl rfl)
theorem dX5_biteBy_3 : decode cX5_biteBy 3 = .ok (.iload 4, 2) := dk_21 4 (dk_at dksX5_biteBy_0 3 rfl rfl)
theorem dX5_biteBy_5 : decode cX5_biteBy 5 = .ok (.iadd, 1) := dk_96 (dk_at dksX5_biteBy_0 5 rfl rfl)
theorem dX5_biteBy_6 : decode cX5_biteBy 6 = .ok (.istore 5, 2) := dk_54 5 (dk_at dksX5_biteBy_0 6 rfl rfl)
theorem dX5_biteBy_8 : decode cX5_biteBy 8 = .ok (.iconst 1, 1) := dk_4 (dk_at dksX5_biteBy_0 8 rfl rfl)
theorem dX5_biteBy_9 : decode cX5_biteBy 9 = .ok (.bipush 10, 2) := dk_16 10 (dk_at dksX5_biteBy_0 9 rfl rfl)
theorem dX5_biteBy_11 : decode cX5_biteBy 11 = .ok (.iload_n 2, 1) := dk_28 (dk_at dksX5_biteBy_0 11 rfl rfl)
theorem dX5_biteBy_12 : decode cX5_biteBy 12 = .ok (.iconst 2, 1) := dk_5 (dk_at dksX5_biteBy_0 12 rfl rfl)
theorem dX5_biteBy_13 : decode cX5_biteBy 13 = .ok (.iload_n 3, 1) := dk_29 (dk_at dksX5_biteBy_0 13 rfl rfl)
theorem dX5_biteBy_14 : decode cX5_biteBy 14 = .ok (.imul, 1) := dk_104 (dk_at dksX5_biteBy_0 14 rfl rfl)
theorem dX5_biteBy_15 : decode cX5_biteBy 15 = .ok (.iadd, 1) := dk_96 (dk_at dksX5_biteBy_0 15 rfl rfl)
theorem dX5_biteBy_16 : decode cX5_biteBy 16 = .ok (.iconst 3, 1) := dk_6 (dk_at dksX5_biteBy_0 16 rfl rfl)
theorem dX5_biteBy_17 : decode cX5_biteBy 17 = .ok (.iload 4, 2) := dk_21 4 (dk_at dksX5_biteBy_0 17 rfl rfl)
theorem dX5_biteBy_19 : decode cX5_biteBy 19 = .ok (.imul, 1) := dk_104 (dk_at dksX5_biteBy_0 19 rfl rfl)
theorem dX5_biteBy_20 : decode cX5_biteBy 20 = .ok (.iadd, 1) := dk_96 (dk_at dksX5_biteBy_0 20 rfl rfl)
theorem dX5_biteBy_21 : decode cX5_biteBy 21 = .ok (.imul, 1) := dk_104 (dk_at dksX5_biteBy_0 21 rfl rfl)
theorem dX5_biteBy_22 : decode cX5_biteBy 22 = .ok (.iload 5, 2) := dk_21 5 (dk_at dksX5_biteBy_0 22 rfl rfl)
theorem dX5_biteBy_24 : decode cX5_biteBy 24 = .ok (.idiv, 1) := dk_108 (dk_at dksX5_biteBy_1 0 rfl rfl)
theorem dX5_biteBy_25 : decode cX5_biteBy 25 = .ok (.iconst 2, 1) := dk_5 (dk_at dksX5_biteBy_1 1 rfl rfl)
theorem dX5_biteBy_26 : decode cX5_biteBy 26 = .ok (.iconst 0, 1) := dk_3 (dk_at dksX5_biteBy_1 2 rfl rfl)
theorem dX5_biteBy_27 : decode cX5_biteBy 27 = .ok (.aload_n 0, 1) := dk_42 (dk_at dksX5_biteBy_1 3 rfl rfl)
theorem dX5_biteBy_28 : decode cX5_biteBy 28 = .ok (.iload_n 1, 1) := dk_27 (dk_at dksX5_biteBy_1 4 rfl rfl)
theorem dX5_biteBy_29 : decode cX5_biteBy 29 = .ok (.iload 5, 2) := dk_21 5 (dk_at dksX5_biteBy_1 5 rfl rfl)
theorem dX5_biteBy_31 : decode cX5_biteBy 31 = .ok (.invokevirtual 91, 3) := dk_182 0 91 (dk_at dksX5_biteBy_1 7 rfl rfl)
theorem dX5_biteBy_34 : decode cX5_biteBy 34 = .ok (.iconst 5, 1) := dk_8 (dk_at dksX5_biteBy_1 10 rfl rfl)
theorem dX5_biteBy_35 : decode cX5_biteBy 35 = .ok (.isub, 1) := dk_100 (dk_at dksX5_biteBy_1 11 rfl rfl)
theorem dX5_biteBy_36 : decode cX5_biteBy 36 = .ok (.invokestatic 94, 3) := dk_184 0 94 (dk_at dksX5_biteBy_1 12 rfl rfl)
theorem dX5_biteBy_39 : decode cX5_biteBy 39 = .ok (.imul, 1) := dk_104 (dk_at dksX5_biteBy_1 15 rfl rfl)
theorem dX5_biteBy_40 : decode cX5_biteBy 40 = .ok (.isub, 1) := dk_100 (dk_at dksX5_biteBy_1 16 rfl rfl)
theorem dX5_biteBy_41 : decode cX5_biteBy 41 = .ok (.invokestatic 94, 3) := dk_184 0 94 (dk_at dksX5_biteBy_1 17 rfl rfl)
theorem dX5_biteBy_44 : decode cX5_biteBy 44 = .ok (.ireturn, 1) := dk_172 (dk_at dksX5_biteBy_1 20 rfl rfl)
abbrev cX5_more : ByteArray := prog_18_method_8_code
def yX5_more : MethodName := ⟨RX5, "more", "(II)I"⟩
def dkwX5_more_0 : List UInt8 := [26, 27, 164, 0, 7, 26, 167, 0, 4, 27, 172]
abbrev dktX5_more_0 : List UInt8 := dkwX5_more_0 ++ []
theorem dksX5_more_0 : cX5_more.data.toList.drop 0 = dktX5_more_0 := by decide +kernel
theorem dX5_more_0 : decode cX5_more 0 = .ok (.iload_n 0, 1) := dk_26 (dk_at dksX5_more_0 0 rfl rfl)
theorem dX5_more_1 : decode cX5_more 1 = .ok (.iload_n 1, 1) := dk_27 (dk_at dksX5_more_0 1 rfl rfl)
theorem dX5_more_2 : decode cX5_more 2 = .ok (.if_icmp .le 7, 3) := dk_164 0 7 (dk_at dksX5_more_0 2 rfl rfl)
theorem dX5_more_5 : decode cX5_more 5 = .ok (.iload_n 0, 1) := dk_26 (dk_at dksX5_more_0 5 rfl rfl)
theorem dX5_more_6 : decode cX5_more 6 = .ok (.goto 4, 3) := dk_167 0 4 (dk_at dksX5_more_0 6 rfl rfl)
theorem dX5_more_9 : decode cX5_more 9 = .ok (.iload_n 1, 1) := dk_27 (dk_at dksX5_more_0 9 rfl rfl)
theorem dX5_more_10 : decode cX5_more 10 = .ok (.ireturn, 1) := dk_172 (dk_at dksX5_more_0 10 rfl rfl)
abbrev cX5_biteOf : ByteArray := prog_18_method_30_code
def yX5_biteOf : MethodName := ⟨RX5, "biteOf", "(IIII)I"⟩
def dkwX5_biteOf_1 : List UInt8 := [167, 0, 4, 5, 182, 0, 73, 153, 0, 7, 3, 167, 0, 12, 42, 27, 28, 29, 21, 4, 182, 0, 104, 172]
abbrev dktX5_biteOf_1 : List UInt8 := dkwX5_biteOf_1 ++ []
def dkwX5_biteOf_0 : List UInt8 := [42, 27, 184, 0, 85, 154, 0, 7, 4, 167, 0, 18, 28, 29, 21, 4, 184, 0, 97, 153, 0, 7, 3]
abbrev dktX5_biteOf_0 : List UInt8 := dkwX5_biteOf_0 ++ dktX5_biteOf_1
theorem dksX5_biteOf_0 : cX5_biteOf.data.toList.drop 0 = dktX5_biteOf_0 := by decide +kernel
theorem dksX5_biteOf_1 : cX5_biteOf.data.toList.drop 23 = dktX5_biteOf_1 := dk_seg dksX5_biteOf_0 23 rfl rfl
theorem dX5_biteOf_0 : decode cX5_biteOf 0 = .ok (.aload_n 0, 1) := dk_42 (dk_at dksX5_biteOf_0 0 rfl rfl)
theorem dX5_biteOf_1 : decode cX5_biteOf 1 = .ok (.iload_n 1, 1) := dk_27 (dk_at dksX5_biteOf_0 1 rfl rfl)
theorem dX5_biteOf_2 : decode cX5_biteOf 2 = .ok (.invokestatic 85, 3) := dk_184 0 85 (dk_at dksX5_biteOf_0 2 rfl rfl)
theorem dX5_biteOf_5 : decode cX5_biteOf 5 = .ok (.ifCond .ne 7, 3) := dk_154 0 7 (dk_at dksX5_biteOf_0 5 rfl rfl)
theorem dX5_biteOf_8 : decode cX5_biteOf 8 = .ok (.iconst 1, 1) := dk_4 (dk_at dksX5_biteOf_0 8 rfl rfl)
theorem dX5_biteOf_9 : decode cX5_biteOf 9 = .ok (.goto 18, 3) := dk_167 0 18 (dk_at dksX5_biteOf_0 9 rfl rfl)
theorem dX5_biteOf_12 : decode cX5_biteOf 12 = .ok (.iload_n 2, 1) := dk_28 (dk_at dksX5_biteOf_0 12 rfl rfl)
theorem dX5_biteOf_13 : decode cX5_biteOf 13 = .ok (.iload_n 3, 1) := dk_29 (dk_at dksX5_biteOf_0 13 rfl rfl)
theorem dX5_biteOf_14 : decode cX5_biteOf 14 = .ok (.iload 4, 2) := dk_21 4 (dk_at dksX5_biteOf_0 14 rfl rfl)
theorem dX5_biteOf_16 : decode cX5_biteOf 16 = .ok (.invokestatic 97, 3) := dk_184 0 97 (dk_at dksX5_biteOf_0 16 rfl rfl)
theorem dX5_biteOf_19 : decode cX5_biteOf 19 = .ok (.ifCond .eq 7, 3) := dk_153 0 7 (dk_at dksX5_biteOf_0 19 rfl rfl)
theorem dX5_biteOf_22 : decode cX5_biteOf 22 = .ok (.iconst 0, 1) := dk_3 (dk_at dksX5_biteOf_0 22 rfl rfl)
theorem dX5_biteOf_23 : decode cX5_biteOf 23 = .ok (.goto 4, 3) := dk_167 0 4 (dk_at dksX5_biteOf_1 0 rfl rfl)
theorem dX5_biteOf_26 : decode cX5_biteOf 26 = .ok (.iconst 2, 1) := dk_5 (dk_at dksX5_biteOf_1 3 rfl rfl)
theorem dX5_biteOf_27 : decode cX5_biteOf 27 = .ok (.invokevirtual 73, 3) := dk_182 0 73 (dk_at dksX5_biteOf_1 4 rfl rfl)
theorem dX5_biteOf_30 : decode cX5_biteOf 30 = .ok (.ifCond .eq 7, 3) := dk_153 0 7 (dk_at dksX5_biteOf_1 7 rfl rfl)
theorem dX5_biteOf_33 : decode cX5_biteOf 33 = .ok (.iconst 0, 1) := dk_3 (dk_at dksX5_biteOf_1 10 rfl rfl)
theorem dX5_biteOf_34 : decode cX5_biteOf 34 = .ok (.goto 12, 3) := dk_167 0 12 (dk_at dksX5_biteOf_1 11 rfl rfl)
theorem dX5_biteOf_37 : decode cX5_biteOf 37 = .ok (.aload_n 0, 1) := dk_42 (dk_at dksX5_biteOf_1 14 rfl rfl)
theorem dX5_biteOf_38 : decode cX5_biteOf 38 = .ok (.iload_n 1, 1) := dk_27 (dk_at dksX5_biteOf_1 15 rfl rfl)
theorem dX5_biteOf_39 : decode cX5_biteOf 39 = .ok (.iload_n 2, 1) := dk_28 (dk_at dksX5_biteOf_1 16 rfl rfl)
theorem dX5_biteOf_40 : decode cX5_biteOf 40 = .ok (.iload_n 3, 1) := dk_29 (dk_at dksX5_biteOf_1 17 rfl rfl)
theorem dX5_biteOf_41 : decode cX5_biteOf 41 = .ok (.iload 4, 2) := dk_21 4 (dk_at dksX5_biteOf_1 18 rfl rfl)
theorem dX5_biteOf_43 : decode cX5_biteOf 43 = .ok (.invokevirtual 104, 3) := dk_182 0 104 (dk_at dksX5_biteOf_1 20 rfl rfl)
theorem dX5_biteOf_46 : decode cX5_biteOf 46 = .ok (.ireturn, 1) := dk_172 (dk_at dksX5_biteOf_1 23 rfl rfl)
abbrev cX5_mix : ByteArray := prog_18_method_32_code
def yX5_mix : MethodName := ⟨RX5, "mix", "(II)I"⟩
def dkwX5_mix_5 : List UInt8 := [172]
abbrev dktX5_mix_5 : List UInt8 := dkwX5_mix_5 ++ []
def dkwX5_mix_4 : List UInt8 := [92, 46, 28, 100, 79, 42, 27, 3, 4, 182, 0, 100, 42, 27, 7, 28, 182, 0, 100, 42, 27, 182, 0, 114]
abbrev dktX5_mix_4 : List UInt8 := dkwX5_mix_4 ++ dktX5_mix_5
def dkwX5_mix_3 : List UInt8 := [5, 42, 180, 0, 7, 7, 46, 182, 0, 77, 172, 42, 42, 180, 0, 7, 182, 0, 81, 42, 180, 0, 7, 7]
abbrev dktX5_mix_3 : List UInt8 := dkwX5_mix_3 ++ dktX5_mix_4
def dkwX5_mix_2 : List UInt8 := [16, 7, 42, 27, 3, 182, 0, 108, 182, 0, 77, 172, 28, 42, 180, 0, 7, 7, 46, 164, 0, 16, 42, 6]
abbrev dktX5_mix_2 : List UInt8 := dkwX5_mix_2 ++ dktX5_mix_3
def dkwX5_mix_1 : List UInt8 := [167, 0, 4, 5, 182, 0, 73, 153, 0, 5, 3, 172, 42, 27, 3, 182, 0, 108, 153, 0, 17, 42, 6]
abbrev dktX5_mix_1 : List UInt8 := dkwX5_mix_1 ++ dktX5_mix_2
def dkwX5_mix_0 : List UInt8 := [42, 42, 27, 182, 0, 111, 154, 0, 7, 4, 167, 0, 18, 28, 4, 16, 20, 184, 0, 65, 153, 0, 7, 3]
abbrev dktX5_mix_0 : List UInt8 := dkwX5_mix_0 ++ dktX5_mix_1
theorem dksX5_mix_0 : cX5_mix.data.toList.drop 0 = dktX5_mix_0 := by decide +kernel
theorem dksX5_mix_1 : cX5_mix.data.toList.drop 24 = dktX5_mix_1 := dk_seg dksX5_mix_0 24 rfl rfl
theorem dksX5_mix_2 : cX5_mix.data.toList.drop 47 = dktX5_mix_2 := dk_seg dksX5_mix_1 23 rfl rfl
theorem dksX5_mix_3 : cX5_mix.data.toList.drop 71 = dktX5_mix_3 := dk_seg dksX5_mix_2 24 rfl rfl
theorem dksX5_mix_4 : cX5_mix.data.toList.drop 95 = dktX5_mix_4 := dk_seg dksX5_mix_3 24 rfl rfl
theorem dksX5_mix_5 : cX5_mix.data.toList.drop 119 = dktX5_mix_5 := dk_seg dksX5_mix_4 24 rfl rfl
theorem dX5_mix_0 : decode cX5_mix 0 = .ok (.aload_n 0, 1) := dk_42 (dk_at dksX5_mix_0 0 rfl rfl)
theorem dX5_mix_1 : decode cX5_mix 1 = .ok (.aload_n 0, 1) := dk_42 (dk_at dksX5_mix_0 1 rfl rfl)
theorem dX5_mix_2 : decode cX5_mix 2 = .ok (.iload_n 1, 1) := dk_27 (dk_at dksX5_mix_0 2 rfl rfl)
theorem dX5_mix_3 : decode cX5_mix 3 = .ok (.invokevirtual 111, 3) := dk_182 0 111 (dk_at dksX5_mix_0 3 rfl rfl)
theorem dX5_mix_6 : decode cX5_mix 6 = .ok (.ifCond .ne 7, 3) := dk_154 0 7 (dk_at dksX5_mix_0 6 rfl rfl)
theorem dX5_mix_9 : decode cX5_mix 9 = .ok (.iconst 1, 1) := dk_4 (dk_at dksX5_mix_0 9 rfl rfl)
theorem dX5_mix_10 : decode cX5_mix 10 = .ok (.goto 18, 3) := dk_167 0 18 (dk_at dksX5_mix_0 10 rfl rfl)
theorem dX5_mix_13 : decode cX5_mix 13 = .ok (.iload_n 2, 1) := dk_28 (dk_at dksX5_mix_0 13 rfl rfl)
theorem dX5_mix_14 : decode cX5_mix 14 = .ok (.iconst 1, 1) := dk_4 (dk_at dksX5_mix_0 14 rfl rfl)
theorem dX5_mix_15 : decode cX5_mix 15 = .ok (.bipush 20, 2) := dk_16 20 (dk_at dksX5_mix_0 15 rfl rfl)
theorem dX5_mix_17 : decode cX5_mix 17 = .ok (.invokestatic 65, 3) := dk_184 0 65 (dk_at dksX5_mix_0 17 rfl rfl)
theorem dX5_mix_20 : decode cX5_mix 20 = .ok (.ifCond .eq 7, 3) := dk_153 0 7 (dk_at dksX5_mix_0 20 rfl rfl)
theorem dX5_mix_23 : decode cX5_mix 23 = .ok (.iconst 0, 1) := dk_3 (dk_at dksX5_mix_0 23 rfl rfl)
theorem dX5_mix_24 : decode cX5_mix 24 = .ok (.goto 4, 3) := dk_167 0 4 (dk_at dksX5_mix_1 0 rfl rfl)
theorem dX5_mix_27 : decode cX5_mix 27 = .ok (.iconst 2, 1) := dk_5 (dk_at dksX5_mix_1 3 rfl rfl)
theorem dX5_mix_28 : decode cX5_mix 28 = .ok (.invokevirtual 73, 3) := dk_182 0 73 (dk_at dksX5_mix_1 4 rfl rfl)
theorem dX5_mix_31 : decode cX5_mix 31 = .ok (.ifCond .eq 5, 3) := dk_153 0 5 (dk_at dksX5_mix_1 7 rfl rfl)
theorem dX5_mix_34 : decode cX5_mix 34 = .ok (.iconst 0, 1) := dk_3 (dk_at dksX5_mix_1 10 rfl rfl)
theorem dX5_mix_35 : decode cX5_mix 35 = .ok (.ireturn, 1) := dk_172 (dk_at dksX5_mix_1 11 rfl rfl)
theorem dX5_mix_36 : decode cX5_mix 36 = .ok (.aload_n 0, 1) := dk_42 (dk_at dksX5_mix_1 12 rfl rfl)
theorem dX5_mix_37 : decode cX5_mix 37 = .ok (.iload_n 1, 1) := dk_27 (dk_at dksX5_mix_1 13 rfl rfl)
theorem dX5_mix_38 : decode cX5_mix 38 = .ok (.iconst 0, 1) := dk_3 (dk_at dksX5_mix_1 14 rfl rfl)
theorem dX5_mix_39 : decode cX5_mix 39 = .ok (.invokevirtual 108, 3) := dk_182 0 108 (dk_at dksX5_mix_1 15 rfl rfl)
theorem dX5_mix_42 : decode cX5_mix 42 = .ok (.ifCond .eq 17, 3) := dk_153 0 17 (dk_at dksX5_mix_1 18 rfl rfl)
theorem dX5_mix_45 : decode cX5_mix 45 = .ok (.aload_n 0, 1) := dk_42 (dk_at dksX5_mix_1 21 rfl rfl)
theorem dX5_mix_46 : decode cX5_mix 46 = .ok (.iconst 3, 1) := dk_6 (dk_at dksX5_mix_1 22 rfl rfl)
theorem dX5_mix_47 : decode cX5_mix 47 = .ok (.bipush 7, 2) := dk_16 7 (dk_at dksX5_mix_2 0 rfl rfl)
theorem dX5_mix_49 : decode cX5_mix 49 = .ok (.aload_n 0, 1) := dk_42 (dk_at dksX5_mix_2 2 rfl rfl)
theorem dX5_mix_50 : decode cX5_mix 50 = .ok (.iload_n 1, 1) := dk_27 (dk_at dksX5_mix_2 3 rfl rfl)
theorem dX5_mix_51 : decode cX5_mix 51 = .ok (.iconst 0, 1) := dk_3 (dk_at dksX5_mix_2 4 rfl rfl)
theorem dX5_mix_52 : decode cX5_mix 52 = .ok (.invokevirtual 108, 3) := dk_182 0 108 (dk_at dksX5_mix_2 5 rfl rfl)
theorem dX5_mix_55 : decode cX5_mix 55 = .ok (.invokevirtual 77, 3) := dk_182 0 77 (dk_at dksX5_mix_2 8 rfl rfl)
theorem dX5_mix_58 : decode cX5_mix 58 = .ok (.ireturn, 1) := dk_172 (dk_at dksX5_mix_2 11 rfl rfl)
theorem dX5_mix_59 : decode cX5_mix 59 = .ok (.iload_n 2, 1) := dk_28 (dk_at dksX5_mix_2 12 rfl rfl)
theorem dX5_mix_60 : decode cX5_mix 60 = .ok (.aload_n 0, 1) := dk_42 (dk_at dksX5_mix_2 13 rfl rfl)
theorem dX5_mix_61 : decode cX5_mix 61 = .ok (.getfield 7, 3) := dk_180 0 7 (dk_at dksX5_mix_2 14 rfl rfl)
theorem dX5_mix_64 : decode cX5_mix 64 = .ok (.iconst 4, 1) := dk_7 (dk_at dksX5_mix_2 17 rfl rfl)
theorem dX5_mix_65 : decode cX5_mix 65 = .ok (.iaload, 1) := dk_46 (dk_at dksX5_mix_2 18 rfl rfl)
theorem dX5_mix_66 : decode cX5_mix 66 = .ok (.if_icmp .le 16, 3) := dk_164 0 16 (dk_at dksX5_mix_2 19 rfl rfl)
theorem dX5_mix_69 : decode cX5_mix 69 = .ok (.aload_n 0, 1) := dk_42 (dk_at dksX5_mix_2 22 rfl rfl)
theorem dX5_mix_70 : decode cX5_mix 70 = .ok (.iconst 3, 1) := dk_6 (dk_at dksX5_mix_2 23 rfl rfl)
theorem dX5_mix_71 : decode cX5_mix 71 = .ok (.iconst 2, 1) := dk_5 (dk_at dksX5_mix_3 0 rfl rfl)
theorem dX5_mix_72 : decode cX5_mix 72 = .ok (.aload_n 0, 1) := dk_42 (dk_at dksX5_mix_3 1 rfl rfl)
theorem dX5_mix_73 : decode cX5_mix 73 = .ok (.getfield 7, 3) := dk_180 0 7 (dk_at dksX5_mix_3 2 rfl rfl)
theorem dX5_mix_76 : decode cX5_mix 76 = .ok (.iconst 4, 1) := dk_7 (dk_at dksX5_mix_3 5 rfl rfl)
theorem dX5_mix_77 : decode cX5_mix 77 = .ok (.iaload, 1) := dk_46 (dk_at dksX5_mix_3 6 rfl rfl)
theorem dX5_mix_78 : decode cX5_mix 78 = .ok (.invokevirtual 77, 3) := dk_182 0 77 (dk_at dksX5_mix_3 7 rfl rfl)
theorem dX5_mix_81 : decode cX5_mix 81 = .ok (.ireturn, 1) := dk_172 (dk_at dksX5_mix_3 10 rfl rfl)
theorem dX5_mix_82 : decode cX5_mix 82 = .ok (.aload_n 0, 1) := dk_42 (dk_at dksX5_mix_3 11 rfl rfl)
theorem dX5_mix_83 : decode cX5_mix 83 = .ok (.aload_n 0, 1) := dk_42 (dk_at dksX5_mix_3 12 rfl rfl)
theorem dX5_mix_84 : decode cX5_mix 84 = .ok (.getfield 7, 3) := dk_180 0 7 (dk_at dksX5_mix_3 13 rfl rfl)
theorem dX5_mix_87 : decode cX5_mix 87 = .ok (.invokevirtual 81, 3) := dk_182 0 81 (dk_at dksX5_mix_3 16 rfl rfl)
theorem dX5_mix_90 : decode cX5_mix 90 = .ok (.aload_n 0, 1) := dk_42 (dk_at dksX5_mix_3 19 rfl rfl)
theorem dX5_mix_91 : decode cX5_mix 91 = .ok (.getfield 7, 3) := dk_180 0 7 (dk_at dksX5_mix_3 20 rfl rfl)
theorem dX5_mix_94 : decode cX5_mix 94 = .ok (.iconst 4, 1) := dk_7 (dk_at dksX5_mix_3 23 rfl rfl)
theorem dX5_mix_95 : decode cX5_mix 95 = .ok (.dup2, 1) := dk_92 (dk_at dksX5_mix_4 0 rfl rfl)
theorem dX5_mix_96 : decode cX5_mix 96 = .ok (.iaload, 1) := dk_46 (dk_at dksX5_mix_4 1 rfl rfl)
theorem dX5_mix_97 : decode cX5_mix 97 = .ok (.iload_n 2, 1) := dk_28 (dk_at dksX5_mix_4 2 rfl rfl)
theorem dX5_mix_98 : decode cX5_mix 98 = .ok (.isub, 1) := dk_100 (dk_at dksX5_mix_4 3 rfl rfl)
theorem dX5_mix_99 : decode cX5_mix 99 = .ok (.iastore, 1) := dk_79 (dk_at dksX5_mix_4 4 rfl rfl)
theorem dX5_mix_100 : decode cX5_mix 100 = .ok (.aload_n 0, 1) := dk_42 (dk_at dksX5_mix_4 5 rfl rfl)
theorem dX5_mix_101 : decode cX5_mix 101 = .ok (.iload_n 1, 1) := dk_27 (dk_at dksX5_mix_4 6 rfl rfl)
theorem dX5_mix_102 : decode cX5_mix 102 = .ok (.iconst 0, 1) := dk_3 (dk_at dksX5_mix_4 7 rfl rfl)
theorem dX5_mix_103 : decode cX5_mix 103 = .ok (.iconst 1, 1) := dk_4 (dk_at dksX5_mix_4 8 rfl rfl)
theorem dX5_mix_104 : decode cX5_mix 104 = .ok (.invokevirtual 100, 3) := dk_182 0 100 (dk_at dksX5_mix_4 9 rfl rfl)
theorem dX5_mix_107 : decode cX5_mix 107 = .ok (.aload_n 0, 1) := dk_42 (dk_at dksX5_mix_4 12 rfl rfl)
theorem dX5_mix_108 : decode cX5_mix 108 = .ok (.iload_n 1, 1) := dk_27 (dk_at dksX5_mix_4 13 rfl rfl)
theorem dX5_mix_109 : decode cX5_mix 109 = .ok (.iconst 4, 1) := dk_7 (dk_at dksX5_mix_4 14 rfl rfl)
theorem dX5_mix_110 : decode cX5_mix 110 = .ok (.iload_n 2, 1) := dk_28 (dk_at dksX5_mix_4 15 rfl rfl)
theorem dX5_mix_111 : decode cX5_mix 111 = .ok (.invokevirtual 100, 3) := dk_182 0 100 (dk_at dksX5_mix_4 16 rfl rfl)
theorem dX5_mix_114 : decode cX5_mix 114 = .ok (.aload_n 0, 1) := dk_42 (dk_at dksX5_mix_4 19 rfl rfl)
theorem dX5_mix_115 : decode cX5_mix 115 = .ok (.iload_n 1, 1) := dk_27 (dk_at dksX5_mix_4 20 rfl rfl)
theorem dX5_mix_116 : decode cX5_mix 116 = .ok (.invokevirtual 114, 3) := dk_182 0 114 (dk_at dksX5_mix_4 21 rfl rfl)
theorem dX5_mix_119 : decode cX5_mix 119 = .ok (.ireturn, 1) := dk_172 (dk_at dksX5_mix_5 0 rfl rfl)
abbrev cX5_isBatch : ByteArray := prog_18_method_12_code
def yX5_isBatch : MethodName := ⟨RX5, "isBatch", "(I)Z"⟩
def dkwX5_isBatch_0 : List UInt8 := [27, 3, 42, 180, 0, 7, 16, 7, 46, 4, 100, 184, 0, 65, 172]
abbrev dktX5_isBatch_0 : List UInt8 := dkwX5_isBatch_0 ++ []
theorem dksX5_isBatch_0 : cX5_isBatch.data.toList.drop 0 = dktX5_isBatch_0 := by decide +kernel
theorem dX5_isBatch_0 : decode cX5_isBatch 0 = .ok (.iload_n 1, 1) := dk_27 (dk_at dksX5_isBatch_0 0 rfl rfl)
theorem dX5_isBatch_1 : decode cX5_isBatch 1 = .ok (.iconst 0, 1) := dk_3 (dk_at dksX5_isBatch_0 1 rfl rfl)
theorem dX5_isBatch_2 : decode cX5_isBatch 2 = .ok (.aload_n 0, 1) := dk_42 (dk_at dksX5_isBatch_0 2 rfl rfl)
theorem dX5_isBatch_3 : decode cX5_isBatch 3 = .ok (.getfield 7, 3) := dk_180 0 7 (dk_at dksX5_isBatch_0 3 rfl rfl)
theorem dX5_isBatch_6 : decode cX5_isBatch 6 = .ok (.bipush 7, 2) := dk_16 7 (dk_at dksX5_isBatch_0 6 rfl rfl)
theorem dX5_isBatch_8 : decode cX5_isBatch 8 = .ok (.iaload, 1) := dk_46 (dk_at dksX5_isBatch_0 8 rfl rfl)
theorem dX5_isBatch_9 : decode cX5_isBatch 9 = .ok (.iconst 1, 1) := dk_4 (dk_at dksX5_isBatch_0 9 rfl rfl)
theorem dX5_isBatch_10 : decode cX5_isBatch 10 = .ok (.isub, 1) := dk_100 (dk_at dksX5_isBatch_0 10 rfl rfl)
theorem dX5_isBatch_11 : decode cX5_isBatch 11 = .ok (.invokestatic 65, 3) := dk_184 0 65 (dk_at dksX5_isBatch_0 11 rfl rfl)
theorem dX5_isBatch_14 : decode cX5_isBatch 14 = .ok (.ireturn, 1) := dk_172 (dk_at dksX5_isBatch_0 14 rfl rfl)
abbrev cX5_ofBatch : ByteArray := prog_18_method_16_code
def yX5_ofBatch : MethodName := ⟨RX5, "ofBatch", "(II)I"⟩
def dkwX5_ofBatch_0 : List UInt8 := [42, 180, 0, 7, 16, 25, 16, 7, 27, 104, 96, 28, 96, 46, 172]
abbrev dktX5_ofBatch_0 : List UInt8 := dkwX5_ofBatch_0 ++ []
theorem dksX5_ofBatch_0 : cX5_ofBatch.data.toList.drop 0 = dktX5_ofBatch_0 := by decide +kernel
theorem dX5_ofBatch_0 : decode cX5_ofBatch 0 = .ok (.aload_n 0, 1) := dk_42 (dk_at dksX5_ofBatch_0 0 rfl rfl)
theorem dX5_ofBatch_1 : decode cX5_ofBatch 1 = .ok (.getfield 7, 3) := dk_180 0 7 (dk_at dksX5_ofBatch_0 1 rfl rfl)
theorem dX5_ofBatch_4 : decode cX5_ofBatch 4 = .ok (.bipush 25, 2) := dk_16 25 (dk_at dksX5_ofBatch_0 4 rfl rfl)
theorem dX5_ofBatch_6 : decode cX5_ofBatch 6 = .ok (.bipush 7, 2) := dk_16 7 (dk_at dksX5_ofBatch_0 6 rfl rfl)
theorem dX5_ofBatch_8 : decode cX5_ofBatch 8 = .ok (.iload_n 1, 1) := dk_27 (dk_at dksX5_ofBatch_0 8 rfl rfl)
theorem dX5_ofBatch_9 : decode cX5_ofBatch 9 = .ok (.imul, 1) := dk_104 (dk_at dksX5_ofBatch_0 9 rfl rfl)
theorem dX5_ofBatch_10 : decode cX5_ofBatch 10 = .ok (.iadd, 1) := dk_96 (dk_at dksX5_ofBatch_0 10 rfl rfl)
theorem dX5_ofBatch_11 : decode cX5_ofBatch 11 = .ok (.iload_n 2, 1) := dk_28 (dk_at dksX5_ofBatch_0 11 rfl rfl)
theorem dX5_ofBatch_12 : decode cX5_ofBatch 12 = .ok (.iadd, 1) := dk_96 (dk_at dksX5_ofBatch_0 12 rfl rfl)
theorem dX5_ofBatch_13 : decode cX5_ofBatch 13 = .ok (.iaload, 1) := dk_46 (dk_at dksX5_ofBatch_0 13 rfl rfl)
theorem dX5_ofBatch_14 : decode cX5_ofBatch 14 = .ok (.ireturn, 1) := dk_172 (dk_at dksX5_ofBatch_0 14 rfl rfl)
abbrev cX5_ripeIn : ByteArray := prog_18_method_31_code
def yX5_ripeIn : MethodName := ⟨RX5, "ripeIn", "(I)I"⟩
def dkwX5_ripeIn_0 : List UInt8 := [5, 42, 27, 5, 182, 0, 108, 96, 42, 27, 7, 182, 0, 108, 7, 108, 96, 172]
abbrev dktX5_ripeIn_0 : List UInt8 := dkwX5_ripeIn_0 ++ []
theorem dksX5_ripeIn_0 : cX5_ripeIn.data.toList.drop 0 = dktX5_ripeIn_0 := by decide +kernel
theorem dX5_ripeIn_0 : decode cX5_ripeIn 0 = .ok (.iconst 2, 1) := dk_5 (dk_at dksX5_ripeIn_0 0 rfl rfl)
theorem dX5_ripeIn_1 : decode cX5_ripeIn 1 = .ok (.aload_n 0, 1) := dk_42 (dk_at dksX5_ripeIn_0 1 rfl rfl)
theorem dX5_ripeIn_2 : decode cX5_ripeIn 2 = .ok (.iload_n 1, 1) := dk_27 (dk_at dksX5_ripeIn_0 2 rfl rfl)
theorem dX5_ripeIn_3 : decode cX5_ripeIn 3 = .ok (.iconst 2, 1) := dk_5 (dk_at dksX5_ripeIn_0 3 rfl rfl)
theorem dX5_ripeIn_4 : decode cX5_ripeIn 4 = .ok (.invokevirtual 108, 3) := dk_182 0 108 (dk_at dksX5_ripeIn_0 4 rfl rfl)
theorem dX5_ripeIn_7 : decode cX5_ripeIn 7 = .ok (.iadd, 1) := dk_96 (dk_at dksX5_ripeIn_0 7 rfl rfl)
theorem dX5_ripeIn_8 : decode cX5_ripeIn 8 = .ok (.aload_n 0, 1) := dk_42 (dk_at dksX5_ripeIn_0 8 rfl rfl)
theorem dX5_ripeIn_9 : decode cX5_ripeIn 9 = .ok (.iload_n 1, 1) := dk_27 (dk_at dksX5_ripeIn_0 9 rfl rfl)
theorem dX5_ripeIn_10 : decode cX5_ripeIn 10 = .ok (.iconst 4, 1) := dk_7 (dk_at dksX5_ripeIn_0 10 rfl rfl)
theorem dX5_ripeIn_11 : decode cX5_ripeIn 11 = .ok (.invokevirtual 108, 3) := dk_182 0 108 (dk_at dksX5_ripeIn_0 11 rfl rfl)
theorem dX5_ripeIn_14 : decode cX5_ripeIn 14 = .ok (.iconst 4, 1) := dk_7 (dk_at dksX5_ripeIn_0 14 rfl rfl)
theorem dX5_ripeIn_15 : decode cX5_ripeIn 15 = .ok (.idiv, 1) := dk_108 (dk_at dksX5_ripeIn_0 15 rfl rfl)
theorem dX5_ripeIn_16 : decode cX5_ripeIn 16 = .ok (.iadd, 1) := dk_96 (dk_at dksX5_ripeIn_0 16 rfl rfl)
theorem dX5_ripeIn_17 : decode cX5_ripeIn 17 = .ok (.ireturn, 1) := dk_172 (dk_at dksX5_ripeIn_0 17 rfl rfl)
abbrev cX5_batchOf : ByteArray := prog_18_method_33_code
def yX5_batchOf : MethodName := ⟨RX5, "batchOf", "(II)I"⟩
def dkwX5_batchOf_1 : List UInt8 := [167, 0, 4, 5, 182, 0, 73, 153, 0, 7, 3, 167, 0, 9, 42, 27, 28, 182, 0, 108, 172]
abbrev dktX5_batchOf_1 : List UInt8 := dkwX5_batchOf_1 ++ []
def dkwX5_batchOf_0 : List UInt8 := [42, 42, 27, 182, 0, 111, 154, 0, 7, 4, 167, 0, 18, 28, 3, 16, 6, 184, 0, 65, 153, 0, 7, 3]
abbrev dktX5_batchOf_0 : List UInt8 := dkwX5_batchOf_0 ++ dktX5_batchOf_1
theorem dksX5_batchOf_0 : cX5_batchOf.data.toList.drop 0 = dktX5_batchOf_0 := by decide +kernel
theorem dksX5_batchOf_1 : cX5_batchOf.data.toList.drop 24 = dktX5_batchOf_1 := dk_seg dksX5_batchOf_0 24 rfl rfl
theorem dX5_batchOf_0 : decode cX5_batchOf 0 = .ok (.aload_n 0, 1) := dk_42 (dk_at dksX5_batchOf_0 0 rfl rfl)
theorem dX5_batchOf_1 : decode cX5_batchOf 1 = .ok (.aload_n 0, 1) := dk_42 (dk_at dksX5_batchOf_0 1 rfl rfl)
theorem dX5_batchOf_2 : decode cX5_batchOf 2 = .ok (.iload_n 1, 1) := dk_27 (dk_at dksX5_batchOf_0 2 rfl rfl)
theorem dX5_batchOf_3 : decode cX5_batchOf 3 = .ok (.invokevirtual 111, 3) := dk_182 0 111 (dk_at dksX5_batchOf_0 3 rfl rfl)
theorem dX5_batchOf_6 : decode cX5_batchOf 6 = .ok (.ifCond .ne 7, 3) := dk_154 0 7 (dk_at dksX5_batchOf_0 6 rfl rfl)
theorem dX5_batchOf_9 : decode cX5_batchOf 9 = .ok (.iconst 1, 1) := dk_4 (dk_at dksX5_batchOf_0 9 rfl rfl)
theorem dX5_batchOf_10 : decode cX5_batchOf 10 = .ok (.goto 18, 3) := dk_167 0 18 (dk_at dksX5_batchOf_0 10 rfl rfl)
theorem dX5_batchOf_13 : decode cX5_batchOf 13 = .ok (.iload_n 2, 1) := dk_28 (dk_at dksX5_batchOf_0 13 rfl rfl)
theorem dX5_batchOf_14 : decode cX5_batchOf 14 = .ok (.iconst 0, 1) := dk_3 (dk_at dksX5_batchOf_0 14 rfl rfl)
theorem dX5_batchOf_15 : decode cX5_batchOf 15 = .ok (.bipush 6, 2) := dk_16 6 (dk_at dksX5_batchOf_0 15 rfl rfl)
theorem dX5_batchOf_17 : decode cX5_batchOf 17 = .ok (.invokestatic 65, 3) := dk_184 0 65 (dk_at dksX5_batchOf_0 17 rfl rfl)
theorem dX5_batchOf_20 : decode cX5_batchOf 20 = .ok (.ifCond .eq 7, 3) := dk_153 0 7 (dk_at dksX5_batchOf_0 20 rfl rfl)
theorem dX5_batchOf_23 : decode cX5_batchOf 23 = .ok (.iconst 0, 1) := dk_3 (dk_at dksX5_batchOf_0 23 rfl rfl)
theorem dX5_batchOf_24 : decode cX5_batchOf 24 = .ok (.goto 4, 3) := dk_167 0 4 (dk_at dksX5_batchOf_1 0 rfl rfl)
theorem dX5_batchOf_27 : decode cX5_batchOf 27 = .ok (.iconst 2, 1) := dk_5 (dk_at dksX5_batchOf_1 3 rfl rfl)
theorem dX5_batchOf_28 : decode cX5_batchOf 28 = .ok (.invokevirtual 73, 3) := dk_182 0 73 (dk_at dksX5_batchOf_1 4 rfl rfl)
theorem dX5_batchOf_31 : decode cX5_batchOf 31 = .ok (.ifCond .eq 7, 3) := dk_153 0 7 (dk_at dksX5_batchOf_1 7 rfl rfl)
theorem dX5_batchOf_34 : decode cX5_batchOf 34 = .ok (.iconst 0, 1) := dk_3 (dk_at dksX5_batchOf_1 10 rfl rfl)
theorem dX5_batchOf_35 : decode cX5_batchOf 35 = .ok (.goto 9, 3) := dk_167 0 9 (dk_at dksX5_batchOf_1 11 rfl rfl)
theorem dX5_batchOf_38 : decode cX5_batchOf 38 = .ok (.aload_n 0, 1) := dk_42 (dk_at dksX5_batchOf_1 14 rfl rfl)
theorem dX5_batchOf_39 : decode cX5_batchOf 39 = .ok (.iload_n 1, 1) := dk_27 (dk_at dksX5_batchOf_1 15 rfl rfl)
theorem dX5_batchOf_40 : decode cX5_batchOf 40 = .ok (.iload_n 2, 1) := dk_28 (dk_at dksX5_batchOf_1 16 rfl rfl)
theorem dX5_batchOf_41 : decode cX5_batchOf 41 = .ok (.invokevirtual 108, 3) := dk_182 0 108 (dk_at dksX5_batchOf_1 17 rfl rfl)
theorem dX5_batchOf_44 : decode cX5_batchOf 44 = .ok (.ireturn, 1) := dk_172 (dk_at dksX5_batchOf_1 20 rfl rfl)
abbrev cX5_jar : ByteArray := prog_18_method_34_code
def yX5_jar : MethodName := ⟨RX5, "jar", "(II)I"⟩
def dkwX5_jar_11 : List UInt8 := [3, 5, 182, 0, 100, 42, 180, 0, 7, 16, 8, 46, 4, 100, 172]
abbrev dktX5_jar_11 : List UInt8 := dkwX5_jar_11 ++ []
def dkwX5_jar_10 : List UInt8 := [27, 4, 182, 0, 108, 16, 10, 28, 104, 100, 182, 0, 100, 42, 27, 4, 182, 0, 108, 154, 0, 10, 42, 27]
abbrev dktX5_jar_10 : List UInt8 := dkwX5_jar_10 ++ dktX5_jar_11
def dkwX5_jar_9 : List UInt8 := [8, 92, 46, 28, 100, 79, 42, 27, 8, 42, 27, 8, 182, 0, 108, 28, 96, 182, 0, 100, 42, 27, 4, 42]
abbrev dktX5_jar_9 : List UInt8 := dkwX5_jar_9 ++ dktX5_jar_10
def dkwX5_jar_8 : List UInt8 := [182, 0, 118, 42, 180, 0, 7, 16, 8, 92, 46, 4, 96, 79, 132, 3, 1, 167, 255, 195, 42, 180, 0, 7]
abbrev dktX5_jar_8 : List UInt8 := dkwX5_jar_8 ++ dktX5_jar_9
def dkwX5_jar_7 : List UInt8 := [21, 4, 3, 182, 0, 118, 132, 4, 1, 167, 255, 233, 42, 42, 180, 0, 7, 16, 8, 46, 4, 27]
abbrev dktX5_jar_7 : List UInt8 := dkwX5_jar_7 ++ dktX5_jar_8
def dkwX5_jar_6 : List UInt8 := [3, 62, 29, 28, 162, 0, 62, 3, 54, 4, 21, 4, 7, 162, 0, 23, 42, 42, 180, 0, 7, 16, 8, 46]
abbrev dktX5_jar_6 : List UInt8 := dkwX5_jar_6 ++ dktX5_jar_7
def dkwX5_jar_5 : List UInt8 := [164, 0, 16, 42, 6, 5, 42, 180, 0, 7, 8, 46, 182, 0, 77, 172, 42, 42, 180, 0, 7, 182, 0, 81]
abbrev dktX5_jar_5 : List UInt8 := dkwX5_jar_5 ++ dktX5_jar_6
def dkwX5_jar_4 : List UInt8 := [96, 16, 20, 164, 0, 12, 42, 6, 4, 16, 20, 182, 0, 77, 172, 28, 42, 180, 0, 7, 8, 46]
abbrev dktX5_jar_4 : List UInt8 := dkwX5_jar_4 ++ dktX5_jar_5
def dkwX5_jar_3 : List UInt8 := [164, 0, 16, 42, 6, 5, 42, 27, 4, 182, 0, 108, 182, 0, 77, 172, 42, 180, 0, 7, 16, 8, 46, 28]
abbrev dktX5_jar_3 : List UInt8 := dkwX5_jar_3 ++ dktX5_jar_4
def dkwX5_jar_2 : List UInt8 := [16, 7, 42, 27, 3, 182, 0, 108, 182, 0, 77, 172, 16, 10, 28, 104, 42, 27, 4, 182, 0, 108]
abbrev dktX5_jar_2 : List UInt8 := dkwX5_jar_2 ++ dktX5_jar_3
def dkwX5_jar_1 : List UInt8 := [167, 0, 4, 5, 182, 0, 73, 153, 0, 5, 3, 172, 42, 27, 3, 182, 0, 108, 4, 159, 0, 17, 42, 6]
abbrev dktX5_jar_1 : List UInt8 := dkwX5_jar_1 ++ dktX5_jar_2
def dkwX5_jar_0 : List UInt8 := [42, 42, 27, 182, 0, 111, 154, 0, 7, 4, 167, 0, 18, 28, 4, 16, 6, 184, 0, 65, 153, 0, 7, 3]
abbrev dktX5_jar_0 : List UInt8 := dkwX5_jar_0 ++ dktX5_jar_1
theorem dksX5_jar_0 : cX5_jar.data.toList.drop 0 = dktX5_jar_0 := by decide +kernel
theorem dksX5_jar_1 : cX5_jar.data.toList.drop 24 = dktX5_jar_1 := dk_seg dksX5_jar_0 24 rfl rfl
theorem dksX5_jar_2 : cX5_jar.data.toList.drop 48 = dktX5_jar_2 := dk_seg dksX5_jar_1 24 rfl rfl
theorem dksX5_jar_3 : cX5_jar.data.toList.drop 70 = dktX5_jar_3 := dk_seg dksX5_jar_2 22 rfl rfl
theorem dksX5_jar_4 : cX5_jar.data.toList.drop 94 = dktX5_jar_4 := dk_seg dksX5_jar_3 24 rfl rfl
theorem dksX5_jar_5 : cX5_jar.data.toList.drop 116 = dktX5_jar_5 := dk_seg dksX5_jar_4 22 rfl rfl
theorem dksX5_jar_6 : cX5_jar.data.toList.drop 140 = dktX5_jar_6 := dk_seg dksX5_jar_5 24 rfl rfl
theorem dksX5_jar_7 : cX5_jar.data.toList.drop 164 = dktX5_jar_7 := dk_seg dksX5_jar_6 24 rfl rfl
theorem dksX5_jar_8 : cX5_jar.data.toList.drop 186 = dktX5_jar_8 := dk_seg dksX5_jar_7 22 rfl rfl
theorem dksX5_jar_9 : cX5_jar.data.toList.drop 210 = dktX5_jar_9 := dk_seg dksX5_jar_8 24 rfl rfl
theorem dksX5_jar_10 : cX5_jar.data.toList.drop 234 = dktX5_jar_10 := dk_seg dksX5_jar_9 24 rfl rfl
theorem dksX5_jar_11 : cX5_jar.data.toList.drop 258 = dktX5_jar_11 := dk_seg dksX5_jar_10 24 rfl rfl
theorem dX5_jar_0 : decode cX5_jar 0 = .ok (.aload_n 0, 1) := dk_42 (dk_at dksX5_jar_0 0 rfl rfl)
theorem dX5_jar_1 : decode cX5_jar 1 = .ok (.aload_n 0, 1) := dk_42 (dk_at dksX5_jar_0 1 rfl rfl)
theorem dX5_jar_2 : decode cX5_jar 2 = .ok (.iload_n 1, 1) := dk_27 (dk_at dksX5_jar_0 2 rfl rfl)
theorem dX5_jar_3 : decode cX5_jar 3 = .ok (.invokevirtual 111, 3) := dk_182 0 111 (dk_at dksX5_jar_0 3 rfl rfl)
theorem dX5_jar_6 : decode cX5_jar 6 = .ok (.ifCond .ne 7, 3) := dk_154 0 7 (dk_at dksX5_jar_0 6 rfl rfl)
theorem dX5_jar_9 : decode cX5_jar 9 = .ok (.iconst 1, 1) := dk_4 (dk_at dksX5_jar_0 9 rfl rfl)
theorem dX5_jar_10 : decode cX5_jar 10 = .ok (.goto 18, 3) := dk_167 0 18 (dk_at dksX5_jar_0 10 rfl rfl)
theorem dX5_jar_13 : decode cX5_jar 13 = .ok (.iload_n 2, 1) := dk_28 (dk_at dksX5_jar_0 13 rfl rfl)
theorem dX5_jar_14 : decode cX5_jar 14 = .ok (.iconst 1, 1) := dk_4 (dk_at dksX5_jar_0 14 rfl rfl)
theorem dX5_jar_15 : decode cX5_jar 15 = .ok (.bipush 6, 2) := dk_16 6 (dk_at dksX5_jar_0 15 rfl rfl)
theorem dX5_jar_17 : decode cX5_jar 17 = .ok (.invokestatic 65, 3) := dk_184 0 65 (dk_at dksX5_jar_0 17 rfl rfl)
theorem dX5_jar_20 : decode cX5_jar 20 = .ok (.ifCond .eq 7, 3) := dk_153 0 7 (dk_at dksX5_jar_0 20 rfl rfl)
theorem dX5_jar_23 : decode cX5_jar 23 = .ok (.iconst 0, 1) := dk_3 (dk_at dksX5_jar_0 23 rfl rfl)
theorem dX5_jar_24 : decode cX5_jar 24 = .ok (.goto 4, 3) := dk_167 0 4 (dk_at dksX5_jar_1 0 rfl rfl)
theorem dX5_jar_27 : decode cX5_jar 27 = .ok (.iconst 2, 1) := dk_5 (dk_at dksX5_jar_1 3 rfl rfl)
theorem dX5_jar_28 : decode cX5_jar 28 = .ok (.invokevirtual 73, 3) := dk_182 0 73 (dk_at dksX5_jar_1 4 rfl rfl)
theorem dX5_jar_31 : decode cX5_jar 31 = .ok (.ifCond .eq 5, 3) := dk_153 0 5 (dk_at dksX5_jar_1 7 rfl rfl)
theorem dX5_jar_34 : decode cX5_jar 34 = .ok (.iconst 0, 1) := dk_3 (dk_at dksX5_jar_1 10 rfl rfl)
theorem dX5_jar_35 : decode cX5_jar 35 = .ok (.ireturn, 1) := dk_172 (dk_at dksX5_jar_1 11 rfl rfl)
theorem dX5_jar_36 : decode cX5_jar 36 = .ok (.aload_n 0, 1) := dk_42 (dk_at dksX5_jar_1 12 rfl rfl)
theorem dX5_jar_37 : decode cX5_jar 37 = .ok (.iload_n 1, 1) := dk_27 (dk_at dksX5_jar_1 13 rfl rfl)
theorem dX5_jar_38 : decode cX5_jar 38 = .ok (.iconst 0, 1) := dk_3 (dk_at dksX5_jar_1 14 rfl rfl)
theorem dX5_jar_39 : decode cX5_jar 39 = .ok (.invokevirtual 108, 3) := dk_182 0 108 (dk_at dksX5_jar_1 15 rfl rfl)
theorem dX5_jar_42 : decode cX5_jar 42 = .ok (.iconst 1, 1) := dk_4 (dk_at dksX5_jar_1 18 rfl rfl)
theorem dX5_jar_43 : decode cX5_jar 43 = .ok (.if_icmp .eq 17, 3) := dk_159 0 17 (dk_at dksX5_jar_1 19 rfl rfl)
theorem dX5_jar_46 : decode cX5_jar 46 = .ok (.aload_n 0, 1) := dk_42 (dk_at dksX5_jar_1 22 rfl rfl)
theorem dX5_jar_47 : decode cX5_jar 47 = .ok (.iconst 3, 1) := dk_6 (dk_at dksX5_jar_1 23 rfl rfl)
theorem dX5_jar_48 : decode cX5_jar 48 = .ok (.bipush 7, 2) := dk_16 7 (dk_at dksX5_jar_2 0 rfl rfl)
theorem dX5_jar_50 : decode cX5_jar 50 = .ok (.aload_n 0, 1) := dk_42 (dk_at dksX5_jar_2 2 rfl rfl)
theorem dX5_jar_51 : decode cX5_jar 51 = .ok (.iload_n 1, 1) := dk_27 (dk_at dksX5_jar_2 3 rfl rfl)
theorem dX5_jar_52 : decode cX5_jar 52 = .ok (.iconst 0, 1) := dk_3 (dk_at dksX5_jar_2 4 rfl rfl)
theorem dX5_jar_53 : decode cX5_jar 53 = .ok (.invokevirtual 108, 3) := dk_182 0 108 (dk_at dksX5_jar_2 5 rfl rfl)
theorem dX5_jar_56 : decode cX5_jar 56 = .ok (.invokevirtual 77, 3) := dk_182 0 77 (dk_at dksX5_jar_2 8 rfl rfl)
theorem dX5_jar_59 : decode cX5_jar 59 = .ok (.ireturn, 1) := dk_172 (dk_at dksX5_jar_2 11 rfl rfl)
theorem dX5_jar_60 : decode cX5_jar 60 = .ok (.bipush 10, 2) := dk_16 10 (dk_at dksX5_jar_2 12 rfl rfl)
theorem dX5_jar_62 : decode cX5_jar 62 = .ok (.iload_n 2, 1) := dk_28 (dk_at dksX5_jar_2 14 rfl rfl)
theorem dX5_jar_63 : decode cX5_jar 63 = .ok (.imul, 1) := dk_104 (dk_at dksX5_jar_2 15 rfl rfl)
theorem dX5_jar_64 : decode cX5_jar 64 = .ok (.aload_n 0, 1) := dk_42 (dk_at dksX5_jar_2 16 rfl rfl)
theorem dX5_jar_65 : decode cX5_jar 65 = .ok (.iload_n 1, 1) := dk_27 (dk_at dksX5_jar_2 17 rfl rfl)
theorem dX5_jar_66 : decode cX5_jar 66 = .ok (.iconst 1, 1) := dk_4 (dk_at dksX5_jar_2 18 rfl rfl)
theorem dX5_jar_67 : decode cX5_jar 67 = .ok (.invokevirtual 108, 3) := dk_182 0 108 (dk_at dksX5_jar_2 19 rfl rfl)
theorem dX5_jar_70 : decode cX5_jar 70 = .ok (.if_icmp .le 16, 3) := dk_164 0 16 (dk_at dksX5_jar_3 0 rfl rfl)
theorem dX5_jar_73 : decode cX5_jar 73 = .ok (.aload_n 0, 1) := dk_42 (dk_at dksX5_jar_3 3 rfl rfl)
theorem dX5_jar_74 : decode cX5_jar 74 = .ok (.iconst 3, 1) := dk_6 (dk_at dksX5_jar_3 4 rfl rfl)
theorem dX5_jar_75 : decode cX5_jar 75 = .ok (.iconst 2, 1) := dk_5 (dk_at dksX5_jar_3 5 rfl rfl)
theorem dX5_jar_76 : decode cX5_jar 76 = .ok (.aload_n 0, 1) := dk_42 (dk_at dksX5_jar_3 6 rfl rfl)
theorem dX5_jar_77 : decode cX5_jar 77 = .ok (.iload_n 1, 1) := dk_27 (dk_at dksX5_jar_3 7 rfl rfl)
theorem dX5_jar_78 : decode cX5_jar 78 = .ok (.iconst 1, 1) := dk_4 (dk_at dksX5_jar_3 8 rfl rfl)
theorem dX5_jar_79 : decode cX5_jar 79 = .ok (.invokevirtual 108, 3) := dk_182 0 108 (dk_at dksX5_jar_3 9 rfl rfl)
theorem dX5_jar_82 : decode cX5_jar 82 = .ok (.invokevirtual 77, 3) := dk_182 0 77 (dk_at dksX5_jar_3 12 rfl rfl)
theorem dX5_jar_85 : decode cX5_jar 85 = .ok (.ireturn, 1) := dk_172 (dk_at dksX5_jar_3 15 rfl rfl)
theorem dX5_jar_86 : decode cX5_jar 86 = .ok (.aload_n 0, 1) := dk_42 (dk_at dksX5_jar_3 16 rfl rfl)
theorem dX5_jar_87 : decode cX5_jar 87 = .ok (.getfield 7, 3) := dk_180 0 7 (dk_at dksX5_jar_3 17 rfl rfl)
theorem dX5_jar_90 : decode cX5_jar 90 = .ok (.bipush 8, 2) := dk_16 8 (dk_at dksX5_jar_3 20 rfl rfl)
theorem dX5_jar_92 : decode cX5_jar 92 = .ok (.iaload, 1) := dk_46 (dk_at dksX5_jar_3 22 rfl rfl)
theorem dX5_jar_93 : decode cX5_jar 93 = .ok (.iload_n 2, 1) := dk_28 (dk_at dksX5_jar_3 23 rfl rfl)
theorem dX5_jar_94 : decode cX5_jar 94 = .ok (.iadd, 1) := dk_96 (dk_at dksX5_jar_4 0 rfl rfl)
theorem dX5_jar_95 : decode cX5_jar 95 = .ok (.bipush 20, 2) := dk_16 20 (dk_at dksX5_jar_4 1 rfl rfl)
theorem dX5_jar_97 : decode cX5_jar 97 = .ok (.if_icmp .le 12, 3) := dk_164 0 12 (dk_at dksX5_jar_4 3 rfl rfl)
theorem dX5_jar_100 : decode cX5_jar 100 = .ok (.aload_n 0, 1) := dk_42 (dk_at dksX5_jar_4 6 rfl rfl)
theorem dX5_jar_101 : decode cX5_jar 101 = .ok (.iconst 3, 1) := dk_6 (dk_at dksX5_jar_4 7 rfl rfl)
theorem dX5_jar_102 : decode cX5_jar 102 = .ok (.iconst 1, 1) := dk_4 (dk_at dksX5_jar_4 8 rfl rfl)
theorem dX5_jar_103 : decode cX5_jar 103 = .ok (.bipush 20, 2) := dk_16 20 (dk_at dksX5_jar_4 9 rfl rfl)
theorem dX5_jar_105 : decode cX5_jar 105 = .ok (.invokevirtual 77, 3) := dk_182 0 77 (dk_at dksX5_jar_4 11 rfl rfl)
theorem dX5_jar_108 : decode cX5_jar 108 = .ok (.ireturn, 1) := dk_172 (dk_at dksX5_jar_4 14 rfl rfl)
theorem dX5_jar_109 : decode cX5_jar 109 = .ok (.iload_n 2, 1) := dk_28 (dk_at dksX5_jar_4 15 rfl rfl)
theorem dX5_jar_110 : decode cX5_jar 110 = .ok (.aload_n 0, 1) := dk_42 (dk_at dksX5_jar_4 16 rfl rfl)
theorem dX5_jar_111 : decode cX5_jar 111 = .ok (.getfield 7, 3) := dk_180 0 7 (dk_at dksX5_jar_4 17 rfl rfl)
theorem dX5_jar_114 : decode cX5_jar 114 = .ok (.iconst 5, 1) := dk_8 (dk_at dksX5_jar_4 20 rfl rfl)
theorem dX5_jar_115 : decode cX5_jar 115 = .ok (.iaload, 1) := dk_46 (dk_at dksX5_jar_4 21 rfl rfl)
theorem dX5_jar_116 : decode cX5_jar 116 = .ok (.if_icmp .le 16, 3) := dk_164 0 16 (dk_at dksX5_jar_5 0 rfl rfl)
theorem dX5_jar_119 : decode cX5_jar 119 = .ok (.aload_n 0, 1) := dk_42 (dk_at dksX5_jar_5 3 rfl rfl)
theorem dX5_jar_120 : decode cX5_jar 120 = .ok (.iconst 3, 1) := dk_6 (dk_at dksX5_jar_5 4 rfl rfl)
theorem dX5_jar_121 : decode cX5_jar 121 = .ok (.iconst 2, 1) := dk_5 (dk_at dksX5_jar_5 5 rfl rfl)
theorem dX5_jar_122 : decode cX5_jar 122 = .ok (.aload_n 0, 1) := dk_42 (dk_at dksX5_jar_5 6 rfl rfl)
theorem dX5_jar_123 : decode cX5_jar 123 = .ok (.getfield 7, 3) := dk_180 0 7 (dk_at dksX5_jar_5 7 rfl rfl)
theorem dX5_jar_126 : decode cX5_jar 126 = .ok (.iconst 5, 1) := dk_8 (dk_at dksX5_jar_5 10 rfl rfl)
theorem dX5_jar_127 : decode cX5_jar 127 = .ok (.iaload, 1) := dk_46 (dk_at dksX5_jar_5 11 rfl rfl)
theorem dX5_jar_128 : decode cX5_jar 128 = .ok (.invokevirtual 77, 3) := dk_182 0 77 (dk_at dksX5_jar_5 12 rfl rfl)
theorem dX5_jar_131 : decode cX5_jar 131 = .ok (.ireturn, 1) := dk_172 (dk_at dksX5_jar_5 15 rfl rfl)
theorem dX5_jar_132 : decode cX5_jar 132 = .ok (.aload_n 0, 1) := dk_42 (dk_at dksX5_jar_5 16 rfl rfl)
theorem dX5_jar_133 : decode cX5_jar 133 = .ok (.aload_n 0, 1) := dk_42 (dk_at dksX5_jar_5 17 rfl rfl)
theorem dX5_jar_134 : decode cX5_jar 134 = .ok (.getfield 7, 3) := dk_180 0 7 (dk_at dksX5_jar_5 18 rfl rfl)
theorem dX5_jar_137 : decode cX5_jar 137 = .ok (.invokevirtual 81, 3) := dk_182 0 81 (dk_at dksX5_jar_5 21 rfl rfl)
theorem dX5_jar_140 : decode cX5_jar 140 = .ok (.iconst 0, 1) := dk_3 (dk_at dksX5_jar_6 0 rfl rfl)
theorem dX5_jar_141 : decode cX5_jar 141 = .ok (.istore_n 3, 1) := dk_62 (dk_at dksX5_jar_6 1 rfl rfl)
theorem dX5_jar_142 : decode cX5_jar 142 = .ok (.iload_n 3, 1) := dk_29 (dk_at dksX5_jar_6 2 rfl rfl)
theorem dX5_jar_143 : decode cX5_jar 143 = .ok (.iload_n 2, 1) := dk_28 (dk_at dksX5_jar_6 3 rfl rfl)
theorem dX5_jar_144 : decode cX5_jar 144 = .ok (.if_icmp .ge 62, 3) := dk_162 0 62 (dk_at dksX5_jar_6 4 rfl rfl)
theorem dX5_jar_147 : decode cX5_jar 147 = .ok (.iconst 0, 1) := dk_3 (dk_at dksX5_jar_6 7 rfl rfl)
theorem dX5_jar_148 : decode cX5_jar 148 = .ok (.istore 4, 2) := dk_54 4 (dk_at dksX5_jar_6 8 rfl rfl)
theorem dX5_jar_150 : decode cX5_jar 150 = .ok (.iload 4, 2) := dk_21 4 (dk_at dksX5_jar_6 10 rfl rfl)
theorem dX5_jar_152 : decode cX5_jar 152 = .ok (.iconst 4, 1) := dk_7 (dk_at dksX5_jar_6 12 rfl rfl)
theorem dX5_jar_153 : decode cX5_jar 153 = .ok (.if_icmp .ge 23, 3) := dk_162 0 23 (dk_at dksX5_jar_6 13 rfl rfl)
theorem dX5_jar_156 : decode cX5_jar 156 = .ok (.aload_n 0, 1) := dk_42 (dk_at dksX5_jar_6 16 rfl rfl)
theorem dX5_jar_157 : decode cX5_jar 157 = .ok (.aload_n 0, 1) := dk_42 (dk_at dksX5_jar_6 17 rfl rfl)
theorem dX5_jar_158 : decode cX5_jar 158 = .ok (.getfield 7, 3) := dk_180 0 7 (dk_at dksX5_jar_6 18 rfl rfl)
theorem dX5_jar_161 : decode cX5_jar 161 = .ok (.bipush 8, 2) := dk_16 8 (dk_at dksX5_jar_6 21 rfl rfl)
theorem dX5_jar_163 : decode cX5_jar 163 = .ok (.iaload, 1) := dk_46 (dk_at dksX5_jar_6 23 rfl rfl)
theorem dX5_jar_164 : decode cX5_jar 164 = .ok (.iload 4, 2) := dk_21 4 (dk_at dksX5_jar_7 0 rfl rfl)
theorem dX5_jar_166 : decode cX5_jar 166 = .ok (.iconst 0, 1) := dk_3 (dk_at dksX5_jar_7 2 rfl rfl)
theorem dX5_jar_167 : decode cX5_jar 167 = .ok (.invokevirtual 118, 3) := dk_182 0 118 (dk_at dksX5_jar_7 3 rfl rfl)
theorem dX5_jar_170 : decode cX5_jar 170 = .ok (.iinc 4 1, 3) := dk_132 4 1 (dk_at dksX5_jar_7 6 rfl rfl)
theorem dX5_jar_173 : decode cX5_jar 173 = .ok (.goto (-23), 3) := dk_167 255 233 (dk_at dksX5_jar_7 9 rfl rfl)
theorem dX5_jar_176 : decode cX5_jar 176 = .ok (.aload_n 0, 1) := dk_42 (dk_at dksX5_jar_7 12 rfl rfl)
theorem dX5_jar_177 : decode cX5_jar 177 = .ok (.aload_n 0, 1) := dk_42 (dk_at dksX5_jar_7 13 rfl rfl)
theorem dX5_jar_178 : decode cX5_jar 178 = .ok (.getfield 7, 3) := dk_180 0 7 (dk_at dksX5_jar_7 14 rfl rfl)
theorem dX5_jar_181 : decode cX5_jar 181 = .ok (.bipush 8, 2) := dk_16 8 (dk_at dksX5_jar_7 17 rfl rfl)
theorem dX5_jar_183 : decode cX5_jar 183 = .ok (.iaload, 1) := dk_46 (dk_at dksX5_jar_7 19 rfl rfl)
theorem dX5_jar_184 : decode cX5_jar 184 = .ok (.iconst 1, 1) := dk_4 (dk_at dksX5_jar_7 20 rfl rfl)
theorem dX5_jar_185 : decode cX5_jar 185 = .ok (.iload_n 1, 1) := dk_27 (dk_at dksX5_jar_7 21 rfl rfl)
theorem dX5_jar_186 : decode cX5_jar 186 = .ok (.invokevirtual 118, 3) := dk_182 0 118 (dk_at dksX5_jar_8 0 rfl rfl)
theorem dX5_jar_189 : decode cX5_jar 189 = .ok (.aload_n 0, 1) := dk_42 (dk_at dksX5_jar_8 3 rfl rfl)
theorem dX5_jar_190 : decode cX5_jar 190 = .ok (.getfield 7, 3) := dk_180 0 7 (dk_at dksX5_jar_8 4 rfl rfl)
theorem dX5_jar_193 : decode cX5_jar 193 = .ok (.bipush 8, 2) := dk_16 8 (dk_at dksX5_jar_8 7 rfl rfl)
theorem dX5_jar_195 : decode cX5_jar 195 = .ok (.dup2, 1) := dk_92 (dk_at dksX5_jar_8 9 rfl rfl)
theorem dX5_jar_196 : decode cX5_jar 196 = .ok (.iaload, 1) := dk_46 (dk_at dksX5_jar_8 10 rfl rfl)
theorem dX5_jar_197 : decode cX5_jar 197 = .ok (.iconst 1, 1) := dk_4 (dk_at dksX5_jar_8 11 rfl rfl)
theorem dX5_jar_198 : decode cX5_jar 198 = .ok (.iadd, 1) := dk_96 (dk_at dksX5_jar_8 12 rfl rfl)
theorem dX5_jar_199 : decode cX5_jar 199 = .ok (.iastore, 1) := dk_79 (dk_at dksX5_jar_8 13 rfl rfl)
theorem dX5_jar_200 : decode cX5_jar 200 = .ok (.iinc 3 1, 3) := dk_132 3 1 (dk_at dksX5_jar_8 14 rfl rfl)
theorem dX5_jar_203 : decode cX5_jar 203 = .ok (.goto (-61), 3) := dk_167 255 195 (dk_at dksX5_jar_8 17 rfl rfl)
theorem dX5_jar_206 : decode cX5_jar 206 = .ok (.aload_n 0, 1) := dk_42 (dk_at dksX5_jar_8 20 rfl rfl)
theorem dX5_jar_207 : decode cX5_jar 207 = .ok (.getfield 7, 3) := dk_180 0 7 (dk_at dksX5_jar_8 21 rfl rfl)
theorem dX5_jar_210 : decode cX5_jar 210 = .ok (.iconst 5, 1) := dk_8 (dk_at dksX5_jar_9 0 rfl rfl)
theorem dX5_jar_211 : decode cX5_jar 211 = .ok (.dup2, 1) := dk_92 (dk_at dksX5_jar_9 1 rfl rfl)
theorem dX5_jar_212 : decode cX5_jar 212 = .ok (.iaload, 1) := dk_46 (dk_at dksX5_jar_9 2 rfl rfl)
theorem dX5_jar_213 : decode cX5_jar 213 = .ok (.iload_n 2, 1) := dk_28 (dk_at dksX5_jar_9 3 rfl rfl)
theorem dX5_jar_214 : decode cX5_jar 214 = .ok (.isub, 1) := dk_100 (dk_at dksX5_jar_9 4 rfl rfl)
theorem dX5_jar_215 : decode cX5_jar 215 = .ok (.iastore, 1) := dk_79 (dk_at dksX5_jar_9 5 rfl rfl)
theorem dX5_jar_216 : decode cX5_jar 216 = .ok (.aload_n 0, 1) := dk_42 (dk_at dksX5_jar_9 6 rfl rfl)
theorem dX5_jar_217 : decode cX5_jar 217 = .ok (.iload_n 1, 1) := dk_27 (dk_at dksX5_jar_9 7 rfl rfl)
theorem dX5_jar_218 : decode cX5_jar 218 = .ok (.iconst 5, 1) := dk_8 (dk_at dksX5_jar_9 8 rfl rfl)
theorem dX5_jar_219 : decode cX5_jar 219 = .ok (.aload_n 0, 1) := dk_42 (dk_at dksX5_jar_9 9 rfl rfl)
theorem dX5_jar_220 : decode cX5_jar 220 = .ok (.iload_n 1, 1) := dk_27 (dk_at dksX5_jar_9 10 rfl rfl)
theorem dX5_jar_221 : decode cX5_jar 221 = .ok (.iconst 5, 1) := dk_8 (dk_at dksX5_jar_9 11 rfl rfl)
theorem dX5_jar_222 : decode cX5_jar 222 = .ok (.invokevirtual 108, 3) := dk_182 0 108 (dk_at dksX5_jar_9 12 rfl rfl)
theorem dX5_jar_225 : decode cX5_jar 225 = .ok (.iload_n 2, 1) := dk_28 (dk_at dksX5_jar_9 15 rfl rfl)
theorem dX5_jar_226 : decode cX5_jar 226 = .ok (.iadd, 1) := dk_96 (dk_at dksX5_jar_9 16 rfl rfl)
theorem dX5_jar_227 : decode cX5_jar 227 = .ok (.invokevirtual 100, 3) := dk_182 0 100 (dk_at dksX5_jar_9 17 rfl rfl)
theorem dX5_jar_230 : decode cX5_jar 230 = .ok (.aload_n 0, 1) := dk_42 (dk_at dksX5_jar_9 20 rfl rfl)
theorem dX5_jar_231 : decode cX5_jar 231 = .ok (.iload_n 1, 1) := dk_27 (dk_at dksX5_jar_9 21 rfl rfl)
theorem dX5_jar_232 : decode cX5_jar 232 = .ok (.iconst 1, 1) := dk_4 (dk_at dksX5_jar_9 22 rfl rfl)
theorem dX5_jar_233 : decode cX5_jar 233 = .ok (.aload_n 0, 1) := dk_42 (dk_at dksX5_jar_9 23 rfl rfl)
theorem dX5_jar_234 : decode cX5_jar 234 = .ok (.iload_n 1, 1) := dk_27 (dk_at dksX5_jar_10 0 rfl rfl)
theorem dX5_jar_235 : decode cX5_jar 235 = .ok (.iconst 1, 1) := dk_4 (dk_at dksX5_jar_10 1 rfl rfl)
theorem dX5_jar_236 : decode cX5_jar 236 = .ok (.invokevirtual 108, 3) := dk_182 0 108 (dk_at dksX5_jar_10 2 rfl rfl)
theorem dX5_jar_239 : decode cX5_jar 239 = .ok (.bipush 10, 2) := dk_16 10 (dk_at dksX5_jar_10 5 rfl rfl)
theorem dX5_jar_241 : decode cX5_jar 241 = .ok (.iload_n 2, 1) := dk_28 (dk_at dksX5_jar_10 7 rfl rfl)
theorem dX5_jar_242 : decode cX5_jar 242 = .ok (.imul, 1) := dk_104 (dk_at dksX5_jar_10 8 rfl rfl)
theorem dX5_jar_243 : decode cX5_jar 243 = .ok (.isub, 1) := dk_100 (dk_at dksX5_jar_10 9 rfl rfl)
theorem dX5_jar_244 : decode cX5_jar 244 = .ok (.invokevirtual 100, 3) := dk_182 0 100 (dk_at dksX5_jar_10 10 rfl rfl)
theorem dX5_jar_247 : decode cX5_jar 247 = .ok (.aload_n 0, 1) := dk_42 (dk_at dksX5_jar_10 13 rfl rfl)
theorem dX5_jar_248 : decode cX5_jar 248 = .ok (.iload_n 1, 1) := dk_27 (dk_at dksX5_jar_10 14 rfl rfl)
theorem dX5_jar_249 : decode cX5_jar 249 = .ok (.iconst 1, 1) := dk_4 (dk_at dksX5_jar_10 15 rfl rfl)
theorem dX5_jar_250 : decode cX5_jar 250 = .ok (.invokevirtual 108, 3) := dk_182 0 108 (dk_at dksX5_jar_10 16 rfl rfl)
theorem dX5_jar_253 : decode cX5_jar 253 = .ok (.ifCond .ne 10, 3) := dk_154 0 10 (dk_at dksX5_jar_10 19 rfl rfl)
theorem dX5_jar_256 : decode cX5_jar 256 = .ok (.aload_n 0, 1) := dk_42 (dk_at dksX5_jar_10 22 rfl rfl)
theorem dX5_jar_257 : decode cX5_jar 257 = .ok (.iload_n 1, 1) := dk_27 (dk_at dksX5_jar_10 23 rfl rfl)
theorem dX5_jar_258 : decode cX5_jar 258 = .ok (.iconst 0, 1) := dk_3 (dk_at dksX5_jar_11 0 rfl rfl)
theorem dX5_jar_259 : decode cX5_jar 259 = .ok (.iconst 2, 1) := dk_5 (dk_at dksX5_jar_11 1 rfl rfl)
theorem dX5_jar_260 : decode cX5_jar 260 = .ok (.invokevirtual 100, 3) := dk_182 0 100 (dk_at dksX5_jar_11 2 rfl rfl)
theorem dX5_jar_263 : decode cX5_jar 263 = .ok (.aload_n 0, 1) := dk_42 (dk_at dksX5_jar_11 5 rfl rfl)
theorem dX5_jar_264 : decode cX5_jar 264 = .ok (.getfield 7, 3) := dk_180 0 7 (dk_at dksX5_jar_11 6 rfl rfl)
theorem dX5_jar_267 : decode cX5_jar 267 = .ok (.bipush 8, 2) := dk_16 8 (dk_at dksX5_jar_11 9 rfl rfl)
theorem dX5_jar_269 : decode cX5_jar 269 = .ok (.iaload, 1) := dk_46 (dk_at dksX5_jar_11 11 rfl rfl)
theorem dX5_jar_270 : decode cX5_jar 270 = .ok (.iconst 1, 1) := dk_4 (dk_at dksX5_jar_11 12 rfl rfl)
theorem dX5_jar_271 : decode cX5_jar 271 = .ok (.isub, 1) := dk_100 (dk_at dksX5_jar_11 13 rfl rfl)
theorem dX5_jar_272 : decode cX5_jar 272 = .ok (.ireturn, 1) := dk_172 (dk_at dksX5_jar_11 14 rfl rfl)
abbrev cX5_laysJar : ByteArray := prog_18_method_19_code
def yX5_laysJar : MethodName := ⟨RX5, "laysJar", "(III)V"⟩
def dkwX5_laysJar_0 : List UInt8 := [42, 180, 0, 7, 16, 109, 7, 27, 104, 96, 28, 96, 29, 79, 177]
abbrev dktX5_laysJar_0 : List UInt8 := dkwX5_laysJar_0 ++ []
theorem dksX5_laysJar_0 : cX5_laysJar.data.toList.drop 0 = dktX5_laysJar_0 := by decide +kernel
theorem dX5_laysJar_0 : decode cX5_laysJar 0 = .ok (.aload_n 0, 1) := dk_42 (dk_at dksX5_laysJar_0 0 rfl rfl)
theorem dX5_laysJar_1 : decode cX5_laysJar 1 = .ok (.getfield 7, 3) := dk_180 0 7 (dk_at dksX5_laysJar_0 1 rfl rfl)
theorem dX5_laysJar_4 : decode cX5_laysJar 4 = .ok (.bipush 109, 2) := dk_16 109 (dk_at dksX5_laysJar_0 4 rfl rfl)
theorem dX5_laysJar_6 : decode cX5_laysJar 6 = .ok (.iconst 4, 1) := dk_7 (dk_at dksX5_laysJar_0 6 rfl rfl)
theorem dX5_laysJar_7 : decode cX5_laysJar 7 = .ok (.iload_n 1, 1) := dk_27 (dk_at dksX5_laysJar_0 7 rfl rfl)
theorem dX5_laysJar_8 : decode cX5_laysJar 8 = .ok (.imul, 1) := dk_104 (dk_at dksX5_laysJar_0 8 rfl rfl)
theorem dX5_laysJar_9 : decode cX5_laysJar 9 = .ok (.iadd, 1) := dk_96 (dk_at dksX5_laysJar_0 9 rfl rfl)
theorem dX5_laysJar_10 : decode cX5_laysJar 10 = .ok (.iload_n 2, 1) := dk_28 (dk_at dksX5_laysJar_0 10 rfl rfl)
theorem dX5_laysJar_11 : decode cX5_laysJar 11 = .ok (.iadd, 1) := dk_96 (dk_at dksX5_laysJar_0 11 rfl rfl)
theorem dX5_laysJar_12 : decode cX5_laysJar 12 = .ok (.iload_n 3, 1) := dk_29 (dk_at dksX5_laysJar_0 12 rfl rfl)
theorem dX5_laysJar_13 : decode cX5_laysJar 13 = .ok (.iastore, 1) := dk_79 (dk_at dksX5_laysJar_0 13 rfl rfl)
theorem dX5_laysJar_14 : decode cX5_laysJar 14 = .ok (.return_, 1) := dk_177 (dk_at dksX5_laysJar_0 14 rfl rfl)
abbrev cX5_open : ByteArray := prog_18_method_40_code
def yX5_open : MethodName := ⟨RX5, "open", "(I)I"⟩
def dkwX5_open_2 : List UInt8 := [180, 0, 7, 182, 0, 81, 42, 27, 4, 182, 0, 136, 42, 27, 6, 182, 0, 121, 172]
abbrev dktX5_open_2 : List UInt8 := dkwX5_open_2 ++ []
def dkwX5_open_1 : List UInt8 := [3, 182, 0, 121, 153, 0, 17, 42, 5, 16, 8, 42, 27, 3, 182, 0, 121, 182, 0, 77, 172, 42, 42]
abbrev dktX5_open_1 : List UInt8 := dkwX5_open_1 ++ dktX5_open_2
def dkwX5_open_0 : List UInt8 := [42, 42, 27, 182, 0, 133, 153, 0, 7, 3, 167, 0, 4, 4, 182, 0, 73, 153, 0, 5, 3, 172, 42, 27]
abbrev dktX5_open_0 : List UInt8 := dkwX5_open_0 ++ dktX5_open_1
theorem dksX5_open_0 : cX5_open.data.toList.drop 0 = dktX5_open_0 := by decide +kernel
theorem dksX5_open_1 : cX5_open.data.toList.drop 24 = dktX5_open_1 := dk_seg dksX5_open_0 24 rfl rfl
theorem dksX5_open_2 : cX5_open.data.toList.drop 47 = dktX5_open_2 := dk_seg dksX5_open_1 23 rfl rfl
theorem dX5_open_0 : decode cX5_open 0 = .ok (.aload_n 0, 1) := dk_42 (dk_at dksX5_open_0 0 rfl rfl)
theorem dX5_open_1 : decode cX5_open 1 = .ok (.aload_n 0, 1) := dk_42 (dk_at dksX5_open_0 1 rfl rfl)
theorem dX5_open_2 : decode cX5_open 2 = .ok (.iload_n 1, 1) := dk_27 (dk_at dksX5_open_0 2 rfl rfl)
theorem dX5_open_3 : decode cX5_open 3 = .ok (.invokevirtual 133, 3) := dk_182 0 133 (dk_at dksX5_open_0 3 rfl rfl)
theorem dX5_open_6 : decode cX5_open 6 = .ok (.ifCond .eq 7, 3) := dk_153 0 7 (dk_at dksX5_open_0 6 rfl rfl)
theorem dX5_open_9 : decode cX5_open 9 = .ok (.iconst 0, 1) := dk_3 (dk_at dksX5_open_0 9 rfl rfl)
theorem dX5_open_10 : decode cX5_open 10 = .ok (.goto 4, 3) := dk_167 0 4 (dk_at dksX5_open_0 10 rfl rfl)
theorem dX5_open_13 : decode cX5_open 13 = .ok (.iconst 1, 1) := dk_4 (dk_at dksX5_open_0 13 rfl rfl)
theorem dX5_open_14 : decode cX5_open 14 = .ok (.invokevirtual 73, 3) := dk_182 0 73 (dk_at dksX5_open_0 14 rfl rfl)
theorem dX5_open_17 : decode cX5_open 17 = .ok (.ifCond .eq 5, 3) := dk_153 0 5 (dk_at dksX5_open_0 17 rfl rfl)
theorem dX5_open_20 : decode cX5_open 20 = .ok (.iconst 0, 1) := dk_3 (dk_at dksX5_open_0 20 rfl rfl)
theorem dX5_open_21 : decode cX5_open 21 = .ok (.ireturn, 1) := dk_172 (dk_at dksX5_open_0 21 rfl rfl)
theorem dX5_open_22 : decode cX5_open 22 = .ok (.aload_n 0, 1) := dk_42 (dk_at dksX5_open_0 22 rfl rfl)
theorem dX5_open_23 : decode cX5_open 23 = .ok (.iload_n 1, 1) := dk_27 (dk_at dksX5_open_0 23 rfl rfl)
theorem dX5_open_24 : decode cX5_open 24 = .ok (.iconst 0, 1) := dk_3 (dk_at dksX5_open_1 0 rfl rfl)
theorem dX5_open_25 : decode cX5_open 25 = .ok (.invokevirtual 121, 3) := dk_182 0 121 (dk_at dksX5_open_1 1 rfl rfl)
theorem dX5_open_28 : decode cX5_open 28 = .ok (.ifCond .eq 17, 3) := dk_153 0 17 (dk_at dksX5_open_1 4 rfl rfl)
theorem dX5_open_31 : decode cX5_open 31 = .ok (.aload_n 0, 1) := dk_42 (dk_at dksX5_open_1 7 rfl rfl)
theorem dX5_open_32 : decode cX5_open 32 = .ok (.iconst 2, 1) := dk_5 (dk_at dksX5_open_1 8 rfl rfl)
theorem dX5_open_33 : decode cX5_open 33 = .ok (.bipush 8, 2) := dk_16 8 (dk_at dksX5_open_1 9 rfl rfl)
theorem dX5_open_35 : decode cX5_open 35 = .ok (.aload_n 0, 1) := dk_42 (dk_at dksX5_open_1 11 rfl rfl)
theorem dX5_open_36 : decode cX5_open 36 = .ok (.iload_n 1, 1) := dk_27 (dk_at dksX5_open_1 12 rfl rfl)
theorem dX5_open_37 : decode cX5_open 37 = .ok (.iconst 0, 1) := dk_3 (dk_at dksX5_open_1 13 rfl rfl)
theorem dX5_open_38 : decode cX5_open 38 = .ok (.invokevirtual 121, 3) := dk_182 0 121 (dk_at dksX5_open_1 14 rfl rfl)
theorem dX5_open_41 : decode cX5_open 41 = .ok (.invokevirtual 77, 3) := dk_182 0 77 (dk_at dksX5_open_1 17 rfl rfl)
theorem dX5_open_44 : decode cX5_open 44 = .ok (.ireturn, 1) := dk_172 (dk_at dksX5_open_1 20 rfl rfl)
theorem dX5_open_45 : decode cX5_open 45 = .ok (.aload_n 0, 1) := dk_42 (dk_at dksX5_open_1 21 rfl rfl)
theorem dX5_open_46 : decode cX5_open 46 = .ok (.aload_n 0, 1) := dk_42 (dk_at dksX5_open_1 22 rfl rfl)
theorem dX5_open_47 : decode cX5_open 47 = .ok (.getfield 7, 3) := dk_180 0 7 (dk_at dksX5_open_2 0 rfl rfl)
theorem dX5_open_50 : decode cX5_open 50 = .ok (.invokevirtual 81, 3) := dk_182 0 81 (dk_at dksX5_open_2 3 rfl rfl)
theorem dX5_open_53 : decode cX5_open 53 = .ok (.aload_n 0, 1) := dk_42 (dk_at dksX5_open_2 6 rfl rfl)
theorem dX5_open_54 : decode cX5_open 54 = .ok (.iload_n 1, 1) := dk_27 (dk_at dksX5_open_2 7 rfl rfl)
theorem dX5_open_55 : decode cX5_open 55 = .ok (.iconst 1, 1) := dk_4 (dk_at dksX5_open_2 8 rfl rfl)
theorem dX5_open_56 : decode cX5_open 56 = .ok (.invokevirtual 136, 3) := dk_182 0 136 (dk_at dksX5_open_2 9 rfl rfl)
theorem dX5_open_59 : decode cX5_open 59 = .ok (.aload_n 0, 1) := dk_42 (dk_at dksX5_open_2 12 rfl rfl)
theorem dX5_open_60 : decode cX5_open 60 = .ok (.iload_n 1, 1) := dk_27 (dk_at dksX5_open_2 13 rfl rfl)
theorem dX5_open_61 : decode cX5_open 61 = .ok (.iconst 3, 1) := dk_6 (dk_at dksX5_open_2 14 rfl rfl)
theorem dX5_open_62 : decode cX5_open 62 = .ok (.invokevirtual 121, 3) := dk_182 0 121 (dk_at dksX5_open_2 15 rfl rfl)
theorem dX5_open_65 : decode cX5_open 65 = .ok (.ireturn, 1) := dk_172 (dk_at dksX5_open_2 18 rfl rfl)
abbrev cX5_isJar : ByteArray := prog_18_method_13_code
def yX5_isJar : MethodName := ⟨RX5, "isJar", "(I)Z"⟩
def dkwX5_isJar_0 : List UInt8 := [27, 3, 42, 180, 0, 7, 16, 8, 46, 4, 100, 184, 0, 65, 172]
abbrev dktX5_isJar_0 : List UInt8 := dkwX5_isJar_0 ++ []
theorem dksX5_isJar_0 : cX5_isJar.data.toList.drop 0 = dktX5_isJar_0 := by decide +kernel
theorem dX5_isJar_0 : decode cX5_isJar 0 = .ok (.iload_n 1, 1) := dk_27 (dk_at dksX5_isJar_0 0 rfl rfl)
theorem dX5_isJar_1 : decode cX5_isJar 1 = .ok (.iconst 0, 1) := dk_3 (dk_at dksX5_isJar_0 1 rfl rfl)
theorem dX5_isJar_2 : decode cX5_isJar 2 = .ok (.aload_n 0, 1) := dk_42 (dk_at dksX5_isJar_0 2 rfl rfl)
theorem dX5_isJar_3 : decode cX5_isJar 3 = .ok (.getfield 7, 3) := dk_180 0 7 (dk_at dksX5_isJar_0 3 rfl rfl)
theorem dX5_isJar_6 : decode cX5_isJar 6 = .ok (.bipush 8, 2) := dk_16 8 (dk_at dksX5_isJar_0 6 rfl rfl)
theorem dX5_isJar_8 : decode cX5_isJar 8 = .ok (.iaload, 1) := dk_46 (dk_at dksX5_isJar_0 8 rfl rfl)
theorem dX5_isJar_9 : decode cX5_isJar 9 = .ok (.iconst 1, 1) := dk_4 (dk_at dksX5_isJar_0 9 rfl rfl)
theorem dX5_isJar_10 : decode cX5_isJar 10 = .ok (.isub, 1) := dk_100 (dk_at dksX5_isJar_0 10 rfl rfl)
theorem dX5_isJar_11 : decode cX5_isJar 11 = .ok (.invokestatic 65, 3) := dk_184 0 65 (dk_at dksX5_isJar_0 11 rfl rfl)
theorem dX5_isJar_14 : decode cX5_isJar 14 = .ok (.ireturn, 1) := dk_172 (dk_at dksX5_isJar_0 14 rfl rfl)
abbrev cX5_ofJar : ByteArray := prog_18_method_18_code
def yX5_ofJar : MethodName := ⟨RX5, "ofJar", "(II)I"⟩
def dkwX5_ofJar_0 : List UInt8 := [42, 180, 0, 7, 16, 109, 7, 27, 104, 96, 28, 96, 46, 172]
abbrev dktX5_ofJar_0 : List UInt8 := dkwX5_ofJar_0 ++ []
theorem dksX5_ofJar_0 : cX5_ofJar.data.toList.drop 0 = dktX5_ofJar_0 := by decide +kernel
theorem dX5_ofJar_0 : decode cX5_ofJar 0 = .ok (.aload_n 0, 1) := dk_42 (dk_at dksX5_ofJar_0 0 rfl rfl)
theorem dX5_ofJar_1 : decode cX5_ofJar 1 = .ok (.getfield 7, 3) := dk_180 0 7 (dk_at dksX5_ofJar_0 1 rfl rfl)
theorem dX5_ofJar_4 : decode cX5_ofJar 4 = .ok (.bipush 109, 2) := dk_16 109 (dk_at dksX5_ofJar_0 4 rfl rfl)
theorem dX5_ofJar_6 : decode cX5_ofJar 6 = .ok (.iconst 4, 1) := dk_7 (dk_at dksX5_ofJar_0 6 rfl rfl)
theorem dX5_ofJar_7 : decode cX5_ofJar 7 = .ok (.iload_n 1, 1) := dk_27 (dk_at dksX5_ofJar_0 7 rfl rfl)
theorem dX5_ofJar_8 : decode cX5_ofJar 8 = .ok (.imul, 1) := dk_104 (dk_at dksX5_ofJar_0 8 rfl rfl)
theorem dX5_ofJar_9 : decode cX5_ofJar 9 = .ok (.iadd, 1) := dk_96 (dk_at dksX5_ofJar_0 9 rfl rfl)
theorem dX5_ofJar_10 : decode cX5_ofJar 10 = .ok (.iload_n 2, 1) := dk_28 (dk_at dksX5_ofJar_0 10 rfl rfl)
theorem dX5_ofJar_11 : decode cX5_ofJar 11 = .ok (.iadd, 1) := dk_96 (dk_at dksX5_ofJar_0 11 rfl rfl)
theorem dX5_ofJar_12 : decode cX5_ofJar 12 = .ok (.iaload, 1) := dk_46 (dk_at dksX5_ofJar_0 12 rfl rfl)
theorem dX5_ofJar_13 : decode cX5_ofJar 13 = .ok (.ireturn, 1) := dk_172 (dk_at dksX5_ofJar_0 13 rfl rfl)
abbrev cX5_becomes : ByteArray := prog_18_method_39_code
def yX5_becomes : MethodName := ⟨RX5, "becomes", "(II)V"⟩
def dkwX5_becomes_0 : List UInt8 := [42, 27, 6, 42, 27, 182, 0, 130, 182, 0, 118, 42, 27, 3, 28, 182, 0, 118, 177]
abbrev dktX5_becomes_0 : List UInt8 := dkwX5_becomes_0 ++ []
theorem dksX5_becomes_0 : cX5_becomes.data.toList.drop 0 = dktX5_becomes_0 := by decide +kernel
theorem dX5_becomes_0 : decode cX5_becomes 0 = .ok (.aload_n 0, 1) := dk_42 (dk_at dksX5_becomes_0 0 rfl rfl)
theorem dX5_becomes_1 : decode cX5_becomes 1 = .ok (.iload_n 1, 1) := dk_27 (dk_at dksX5_becomes_0 1 rfl rfl)
theorem dX5_becomes_2 : decode cX5_becomes 2 = .ok (.iconst 3, 1) := dk_6 (dk_at dksX5_becomes_0 2 rfl rfl)
theorem dX5_becomes_3 : decode cX5_becomes 3 = .ok (.aload_n 0, 1) := dk_42 (dk_at dksX5_becomes_0 3 rfl rfl)
theorem dX5_becomes_4 : decode cX5_becomes 4 = .ok (.iload_n 1, 1) := dk_27 (dk_at dksX5_becomes_0 4 rfl rfl)
theorem dX5_becomes_5 : decode cX5_becomes 5 = .ok (.invokevirtual 130, 3) := dk_182 0 130 (dk_at dksX5_becomes_0 5 rfl rfl)
theorem dX5_becomes_8 : decode cX5_becomes 8 = .ok (.invokevirtual 118, 3) := dk_182 0 118 (dk_at dksX5_becomes_0 8 rfl rfl)
theorem dX5_becomes_11 : decode cX5_becomes 11 = .ok (.aload_n 0, 1) := dk_42 (dk_at dksX5_becomes_0 11 rfl rfl)
theorem dX5_becomes_12 : decode cX5_becomes 12 = .ok (.iload_n 1, 1) := dk_27 (dk_at dksX5_becomes_0 12 rfl rfl)
theorem dX5_becomes_13 : decode cX5_becomes 13 = .ok (.iconst 0, 1) := dk_3 (dk_at dksX5_becomes_0 13 rfl rfl)
theorem dX5_becomes_14 : decode cX5_becomes 14 = .ok (.iload_n 2, 1) := dk_28 (dk_at dksX5_becomes_0 14 rfl rfl)
theorem dX5_becomes_15 : decode cX5_becomes 15 = .ok (.invokevirtual 118, 3) := dk_182 0 118 (dk_at dksX5_becomes_0 15 rfl rfl)
theorem dX5_becomes_18 : decode cX5_becomes 18 = .ok (.return_, 1) := dk_177 (dk_at dksX5_becomes_0 18 rfl rfl)
abbrev cX5_tearOf : ByteArray := prog_18_method_36_code
def yX5_tearOf : MethodName := ⟨RX5, "tearOf", "(I)I"⟩
def dkwX5_tearOf_1 : List UInt8 := [182, 0, 124, 167, 0, 9, 42, 27, 6, 182, 0, 121, 172]
abbrev dktX5_tearOf_1 : List UInt8 := dkwX5_tearOf_1 ++ []
def dkwX5_tearOf_0 : List UInt8 := [42, 27, 3, 182, 0, 121, 154, 0, 22, 42, 42, 27, 4, 182, 0, 121, 42, 27, 5, 182, 0, 121]
abbrev dktX5_tearOf_0 : List UInt8 := dkwX5_tearOf_0 ++ dktX5_tearOf_1
theorem dksX5_tearOf_0 : cX5_tearOf.data.toList.drop 0 = dktX5_tearOf_0 := by decide +kernel
theorem dksX5_tearOf_1 : cX5_tearOf.data.toList.drop 22 = dktX5_tearOf_1 := dk_seg dksX5_tearOf_0 22 rfl rfl
theorem dX5_tearOf_0 : decode cX5_tearOf 0 = .ok (.aload_n 0, 1) := dk_42 (dk_at dksX5_tearOf_0 0 rfl rfl)
theorem dX5_tearOf_1 : decode cX5_tearOf 1 = .ok (.iload_n 1, 1) := dk_27 (dk_at dksX5_tearOf_0 1 rfl rfl)
theorem dX5_tearOf_2 : decode cX5_tearOf 2 = .ok (.iconst 0, 1) := dk_3 (dk_at dksX5_tearOf_0 2 rfl rfl)
theorem dX5_tearOf_3 : decode cX5_tearOf 3 = .ok (.invokevirtual 121, 3) := dk_182 0 121 (dk_at dksX5_tearOf_0 3 rfl rfl)
theorem dX5_tearOf_6 : decode cX5_tearOf 6 = .ok (.ifCond .ne 22, 3) := dk_154 0 22 (dk_at dksX5_tearOf_0 6 rfl rfl)
theorem dX5_tearOf_9 : decode cX5_tearOf 9 = .ok (.aload_n 0, 1) := dk_42 (dk_at dksX5_tearOf_0 9 rfl rfl)
theorem dX5_tearOf_10 : decode cX5_tearOf 10 = .ok (.aload_n 0, 1) := dk_42 (dk_at dksX5_tearOf_0 10 rfl rfl)
theorem dX5_tearOf_11 : decode cX5_tearOf 11 = .ok (.iload_n 1, 1) := dk_27 (dk_at dksX5_tearOf_0 11 rfl rfl)
theorem dX5_tearOf_12 : decode cX5_tearOf 12 = .ok (.iconst 1, 1) := dk_4 (dk_at dksX5_tearOf_0 12 rfl rfl)
theorem dX5_tearOf_13 : decode cX5_tearOf 13 = .ok (.invokevirtual 121, 3) := dk_182 0 121 (dk_at dksX5_tearOf_0 13 rfl rfl)
theorem dX5_tearOf_16 : decode cX5_tearOf 16 = .ok (.aload_n 0, 1) := dk_42 (dk_at dksX5_tearOf_0 16 rfl rfl)
theorem dX5_tearOf_17 : decode cX5_tearOf 17 = .ok (.iload_n 1, 1) := dk_27 (dk_at dksX5_tearOf_0 17 rfl rfl)
theorem dX5_tearOf_18 : decode cX5_tearOf 18 = .ok (.iconst 2, 1) := dk_5 (dk_at dksX5_tearOf_0 18 rfl rfl)
theorem dX5_tearOf_19 : decode cX5_tearOf 19 = .ok (.invokevirtual 121, 3) := dk_182 0 121 (dk_at dksX5_tearOf_0 19 rfl rfl)
theorem dX5_tearOf_22 : decode cX5_tearOf 22 = .ok (.invokevirtual 124, 3) := dk_182 0 124 (dk_at dksX5_tearOf_1 0 rfl rfl)
theorem dX5_tearOf_25 : decode cX5_tearOf 25 = .ok (.goto 9, 3) := dk_167 0 9 (dk_at dksX5_tearOf_1 3 rfl rfl)
theorem dX5_tearOf_28 : decode cX5_tearOf 28 = .ok (.aload_n 0, 1) := dk_42 (dk_at dksX5_tearOf_1 6 rfl rfl)
theorem dX5_tearOf_29 : decode cX5_tearOf 29 = .ok (.iload_n 1, 1) := dk_27 (dk_at dksX5_tearOf_1 7 rfl rfl)
theorem dX5_tearOf_30 : decode cX5_tearOf 30 = .ok (.iconst 3, 1) := dk_6 (dk_at dksX5_tearOf_1 8 rfl rfl)
theorem dX5_tearOf_31 : decode cX5_tearOf 31 = .ok (.invokevirtual 121, 3) := dk_182 0 121 (dk_at dksX5_tearOf_1 9 rfl rfl)
theorem dX5_tearOf_34 : decode cX5_tearOf 34 = .ok (.ireturn, 1) := dk_172 (dk_at dksX5_tearOf_1 12 rfl rfl)
abbrev cX5_tearAt : ByteArray := prog_18_method_35_code
def yX5_tearAt : MethodName := ⟨RX5, "tearAt", "(II)I"⟩
def dkwX5_tearAt_1 : List UInt8 := [167, 0, 15, 42, 27, 6, 182, 0, 108, 28, 29, 100, 6, 108, 100, 184, 0, 94, 172]
abbrev dktX5_tearAt_1 : List UInt8 := dkwX5_tearAt_1 ++ []
def dkwX5_tearAt_0 : List UInt8 := [42, 27, 182, 0, 114, 62, 3, 28, 29, 163, 0, 16, 42, 27, 6, 182, 0, 108, 28, 104, 29, 108]
abbrev dktX5_tearAt_0 : List UInt8 := dkwX5_tearAt_0 ++ dktX5_tearAt_1
theorem dksX5_tearAt_0 : cX5_tearAt.data.toList.drop 0 = dktX5_tearAt_0 := by decide +kernel
theorem dksX5_tearAt_1 : cX5_tearAt.data.toList.drop 22 = dktX5_tearAt_1 := dk_seg dksX5_tearAt_0 22 rfl rfl
theorem dX5_tearAt_0 : decode cX5_tearAt 0 = .ok (.aload_n 0, 1) := dk_42 (dk_at dksX5_tearAt_0 0 rfl rfl)
theorem dX5_tearAt_1 : decode cX5_tearAt 1 = .ok (.iload_n 1, 1) := dk_27 (dk_at dksX5_tearAt_0 1 rfl rfl)
theorem dX5_tearAt_2 : decode cX5_tearAt 2 = .ok (.invokevirtual 114, 3) := dk_182 0 114 (dk_at dksX5_tearAt_0 2 rfl rfl)
theorem dX5_tearAt_5 : decode cX5_tearAt 5 = .ok (.istore_n 3, 1) := dk_62 (dk_at dksX5_tearAt_0 5 rfl rfl)
theorem dX5_tearAt_6 : decode cX5_tearAt 6 = .ok (.iconst 0, 1) := dk_3 (dk_at dksX5_tearAt_0 6 rfl rfl)
theorem dX5_tearAt_7 : decode cX5_tearAt 7 = .ok (.iload_n 2, 1) := dk_28 (dk_at dksX5_tearAt_0 7 rfl rfl)
theorem dX5_tearAt_8 : decode cX5_tearAt 8 = .ok (.iload_n 3, 1) := dk_29 (dk_at dksX5_tearAt_0 8 rfl rfl)
theorem dX5_tearAt_9 : decode cX5_tearAt 9 = .ok (.if_icmp .gt 16, 3) := dk_163 0 16 (dk_at dksX5_tearAt_0 9 rfl rfl)
theorem dX5_tearAt_12 : decode cX5_tearAt 12 = .ok (.aload_n 0, 1) := dk_42 (dk_at dksX5_tearAt_0 12 rfl rfl)
theorem dX5_tearAt_13 : decode cX5_tearAt 13 = .ok (.iload_n 1, 1) := dk_27 (dk_at dksX5_tearAt_0 13 rfl rfl)
theorem dX5_tearAt_14 : decode cX5_tearAt 14 = .ok (.iconst 3, 1) := dk_6 (dk_at dksX5_tearAt_0 14 rfl rfl)
theorem dX5_tearAt_15 : decode cX5_tearAt 15 = .ok (.invokevirtual 108, 3) := dk_182 0 108 (dk_at dksX5_tearAt_0 15 rfl rfl)
theorem dX5_tearAt_18 : decode cX5_tearAt 18 = .ok (.iload_n 2, 1) := dk_28 (dk_at dksX5_tearAt_0 18 rfl rfl)
theorem dX5_tearAt_19 : decode cX5_tearAt 19 = .ok (.imul, 1) := dk_104 (dk_at dksX5_tearAt_0 19 rfl rfl)
theorem dX5_tearAt_20 : decode cX5_tearAt 20 = .ok (.iload_n 3, 1) := dk_29 (dk_at dksX5_tearAt_0 20 rfl rfl)
theorem dX5_tearAt_21 : decode cX5_tearAt 21 = .ok (.idiv, 1) := dk_108 (dk_at dksX5_tearAt_0 21 rfl rfl)
theorem dX5_tearAt_22 : decode cX5_tearAt 22 = .ok (.goto 15, 3) := dk_167 0 15 (dk_at dksX5_tearAt_1 0 rfl rfl)
theorem dX5_tearAt_25 : decode cX5_tearAt 25 = .ok (.aload_n 0, 1) := dk_42 (dk_at dksX5_tearAt_1 3 rfl rfl)
theorem dX5_tearAt_26 : decode cX5_tearAt 26 = .ok (.iload_n 1, 1) := dk_27 (dk_at dksX5_tearAt_1 4 rfl rfl)
theorem dX5_tearAt_27 : decode cX5_tearAt 27 = .ok (.iconst 3, 1) := dk_6 (dk_at dksX5_tearAt_1 5 rfl rfl)
theorem dX5_tearAt_28 : decode cX5_tearAt 28 = .ok (.invokevirtual 108, 3) := dk_182 0 108 (dk_at dksX5_tearAt_1 6 rfl rfl)
theorem dX5_tearAt_31 : decode cX5_tearAt 31 = .ok (.iload_n 2, 1) := dk_28 (dk_at dksX5_tearAt_1 9 rfl rfl)
theorem dX5_tearAt_32 : decode cX5_tearAt 32 = .ok (.iload_n 3, 1) := dk_29 (dk_at dksX5_tearAt_1 10 rfl rfl)
theorem dX5_tearAt_33 : decode cX5_tearAt 33 = .ok (.isub, 1) := dk_100 (dk_at dksX5_tearAt_1 11 rfl rfl)
theorem dX5_tearAt_34 : decode cX5_tearAt 34 = .ok (.iconst 3, 1) := dk_6 (dk_at dksX5_tearAt_1 12 rfl rfl)
theorem dX5_tearAt_35 : decode cX5_tearAt 35 = .ok (.idiv, 1) := dk_108 (dk_at dksX5_tearAt_1 13 rfl rfl)
theorem dX5_tearAt_36 : decode cX5_tearAt 36 = .ok (.isub, 1) := dk_100 (dk_at dksX5_tearAt_1 14 rfl rfl)
theorem dX5_tearAt_37 : decode cX5_tearAt 37 = .ok (.invokestatic 94, 3) := dk_184 0 94 (dk_at dksX5_tearAt_1 15 rfl rfl)
theorem dX5_tearAt_40 : decode cX5_tearAt 40 = .ok (.ireturn, 1) := dk_172 (dk_at dksX5_tearAt_1 18 rfl rfl)
abbrev cX5_sell : ByteArray := prog_18_method_41_code
def yX5_sell : MethodName := ⟨RX5, "sell", "(I)I"⟩
def dkwX5_sell_4 : List UInt8 := [182, 0, 121, 6, 108, 172]
abbrev dktX5_sell_4 : List UInt8 := dkwX5_sell_4 ++ []
def dkwX5_sell_3 : List UInt8 := [182, 0, 81, 42, 27, 5, 182, 0, 136, 42, 42, 27, 6, 182, 0, 121, 6, 108, 182, 0, 140, 42, 27, 6]
abbrev dktX5_sell_3 : List UInt8 := dkwX5_sell_3 ++ dktX5_sell_4
def dkwX5_sell_2 : List UInt8 := [182, 0, 127, 158, 0, 16, 42, 5, 16, 9, 42, 27, 182, 0, 127, 182, 0, 77, 172, 42, 42, 180, 0, 7]
abbrev dktX5_sell_2 : List UInt8 := dkwX5_sell_2 ++ dktX5_sell_3
def dkwX5_sell_1 : List UInt8 := [3, 182, 0, 121, 153, 0, 17, 42, 5, 16, 8, 42, 27, 3, 182, 0, 121, 182, 0, 77, 172, 42, 27]
abbrev dktX5_sell_1 : List UInt8 := dkwX5_sell_1 ++ dktX5_sell_2
def dkwX5_sell_0 : List UInt8 := [42, 42, 27, 182, 0, 133, 153, 0, 7, 3, 167, 0, 4, 4, 182, 0, 73, 153, 0, 5, 3, 172, 42, 27]
abbrev dktX5_sell_0 : List UInt8 := dkwX5_sell_0 ++ dktX5_sell_1
theorem dksX5_sell_0 : cX5_sell.data.toList.drop 0 = dktX5_sell_0 := by decide +kernel
theorem dksX5_sell_1 : cX5_sell.data.toList.drop 24 = dktX5_sell_1 := dk_seg dksX5_sell_0 24 rfl rfl
theorem dksX5_sell_2 : cX5_sell.data.toList.drop 47 = dktX5_sell_2 := dk_seg dksX5_sell_1 23 rfl rfl
theorem dksX5_sell_3 : cX5_sell.data.toList.drop 71 = dktX5_sell_3 := dk_seg dksX5_sell_2 24 rfl rfl
theorem dksX5_sell_4 : cX5_sell.data.toList.drop 95 = dktX5_sell_4 := dk_seg dksX5_sell_3 24 rfl rfl
theorem dX5_sell_0 : decode cX5_sell 0 = .ok (.aload_n 0, 1) := dk_42 (dk_at dksX5_sell_0 0 rfl rfl)
theorem dX5_sell_1 : decode cX5_sell 1 = .ok (.aload_n 0, 1) := dk_42 (dk_at dksX5_sell_0 1 rfl rfl)
theorem dX5_sell_2 : decode cX5_sell 2 = .ok (.iload_n 1, 1) := dk_27 (dk_at dksX5_sell_0 2 rfl rfl)
theorem dX5_sell_3 : decode cX5_sell 3 = .ok (.invokevirtual 133, 3) := dk_182 0 133 (dk_at dksX5_sell_0 3 rfl rfl)
theorem dX5_sell_6 : decode cX5_sell 6 = .ok (.ifCond .eq 7, 3) := dk_153 0 7 (dk_at dksX5_sell_0 6 rfl rfl)
theorem dX5_sell_9 : decode cX5_sell 9 = .ok (.iconst 0, 1) := dk_3 (dk_at dksX5_sell_0 9 rfl rfl)
theorem dX5_sell_10 : decode cX5_sell 10 = .ok (.goto 4, 3) := dk_167 0 4 (dk_at dksX5_sell_0 10 rfl rfl)
theorem dX5_sell_13 : decode cX5_sell 13 = .ok (.iconst 1, 1) := dk_4 (dk_at dksX5_sell_0 13 rfl rfl)
theorem dX5_sell_14 : decode cX5_sell 14 = .ok (.invokevirtual 73, 3) := dk_182 0 73 (dk_at dksX5_sell_0 14 rfl rfl)
theorem dX5_sell_17 : decode cX5_sell 17 = .ok (.ifCond .eq 5, 3) := dk_153 0 5 (dk_at dksX5_sell_0 17 rfl rfl)
theorem dX5_sell_20 : decode cX5_sell 20 = .ok (.iconst 0, 1) := dk_3 (dk_at dksX5_sell_0 20 rfl rfl)
theorem dX5_sell_21 : decode cX5_sell 21 = .ok (.ireturn, 1) := dk_172 (dk_at dksX5_sell_0 21 rfl rfl)
theorem dX5_sell_22 : decode cX5_sell 22 = .ok (.aload_n 0, 1) := dk_42 (dk_at dksX5_sell_0 22 rfl rfl)
theorem dX5_sell_23 : decode cX5_sell 23 = .ok (.iload_n 1, 1) := dk_27 (dk_at dksX5_sell_0 23 rfl rfl)
theorem dX5_sell_24 : decode cX5_sell 24 = .ok (.iconst 0, 1) := dk_3 (dk_at dksX5_sell_1 0 rfl rfl)
theorem dX5_sell_25 : decode cX5_sell 25 = .ok (.invokevirtual 121, 3) := dk_182 0 121 (dk_at dksX5_sell_1 1 rfl rfl)
theorem dX5_sell_28 : decode cX5_sell 28 = .ok (.ifCond .eq 17, 3) := dk_153 0 17 (dk_at dksX5_sell_1 4 rfl rfl)
theorem dX5_sell_31 : decode cX5_sell 31 = .ok (.aload_n 0, 1) := dk_42 (dk_at dksX5_sell_1 7 rfl rfl)
theorem dX5_sell_32 : decode cX5_sell 32 = .ok (.iconst 2, 1) := dk_5 (dk_at dksX5_sell_1 8 rfl rfl)
theorem dX5_sell_33 : decode cX5_sell 33 = .ok (.bipush 8, 2) := dk_16 8 (dk_at dksX5_sell_1 9 rfl rfl)
theorem dX5_sell_35 : decode cX5_sell 35 = .ok (.aload_n 0, 1) := dk_42 (dk_at dksX5_sell_1 11 rfl rfl)
theorem dX5_sell_36 : decode cX5_sell 36 = .ok (.iload_n 1, 1) := dk_27 (dk_at dksX5_sell_1 12 rfl rfl)
theorem dX5_sell_37 : decode cX5_sell 37 = .ok (.iconst 0, 1) := dk_3 (dk_at dksX5_sell_1 13 rfl rfl)
theorem dX5_sell_38 : decode cX5_sell 38 = .ok (.invokevirtual 121, 3) := dk_182 0 121 (dk_at dksX5_sell_1 14 rfl rfl)
theorem dX5_sell_41 : decode cX5_sell 41 = .ok (.invokevirtual 77, 3) := dk_182 0 77 (dk_at dksX5_sell_1 17 rfl rfl)
theorem dX5_sell_44 : decode cX5_sell 44 = .ok (.ireturn, 1) := dk_172 (dk_at dksX5_sell_1 20 rfl rfl)
theorem dX5_sell_45 : decode cX5_sell 45 = .ok (.aload_n 0, 1) := dk_42 (dk_at dksX5_sell_1 21 rfl rfl)
theorem dX5_sell_46 : decode cX5_sell 46 = .ok (.iload_n 1, 1) := dk_27 (dk_at dksX5_sell_1 22 rfl rfl)
theorem dX5_sell_47 : decode cX5_sell 47 = .ok (.invokevirtual 127, 3) := dk_182 0 127 (dk_at dksX5_sell_2 0 rfl rfl)
theorem dX5_sell_50 : decode cX5_sell 50 = .ok (.ifCond .le 16, 3) := dk_158 0 16 (dk_at dksX5_sell_2 3 rfl rfl)
theorem dX5_sell_53 : decode cX5_sell 53 = .ok (.aload_n 0, 1) := dk_42 (dk_at dksX5_sell_2 6 rfl rfl)
theorem dX5_sell_54 : decode cX5_sell 54 = .ok (.iconst 2, 1) := dk_5 (dk_at dksX5_sell_2 7 rfl rfl)
theorem dX5_sell_55 : decode cX5_sell 55 = .ok (.bipush 9, 2) := dk_16 9 (dk_at dksX5_sell_2 8 rfl rfl)
theorem dX5_sell_57 : decode cX5_sell 57 = .ok (.aload_n 0, 1) := dk_42 (dk_at dksX5_sell_2 10 rfl rfl)
theorem dX5_sell_58 : decode cX5_sell 58 = .ok (.iload_n 1, 1) := dk_27 (dk_at dksX5_sell_2 11 rfl rfl)
theorem dX5_sell_59 : decode cX5_sell 59 = .ok (.invokevirtual 127, 3) := dk_182 0 127 (dk_at dksX5_sell_2 12 rfl rfl)
theorem dX5_sell_62 : decode cX5_sell 62 = .ok (.invokevirtual 77, 3) := dk_182 0 77 (dk_at dksX5_sell_2 15 rfl rfl)
theorem dX5_sell_65 : decode cX5_sell 65 = .ok (.ireturn, 1) := dk_172 (dk_at dksX5_sell_2 18 rfl rfl)
theorem dX5_sell_66 : decode cX5_sell 66 = .ok (.aload_n 0, 1) := dk_42 (dk_at dksX5_sell_2 19 rfl rfl)
theorem dX5_sell_67 : decode cX5_sell 67 = .ok (.aload_n 0, 1) := dk_42 (dk_at dksX5_sell_2 20 rfl rfl)
theorem dX5_sell_68 : decode cX5_sell 68 = .ok (.getfield 7, 3) := dk_180 0 7 (dk_at dksX5_sell_2 21 rfl rfl)
theorem dX5_sell_71 : decode cX5_sell 71 = .ok (.invokevirtual 81, 3) := dk_182 0 81 (dk_at dksX5_sell_3 0 rfl rfl)
theorem dX5_sell_74 : decode cX5_sell 74 = .ok (.aload_n 0, 1) := dk_42 (dk_at dksX5_sell_3 3 rfl rfl)
theorem dX5_sell_75 : decode cX5_sell 75 = .ok (.iload_n 1, 1) := dk_27 (dk_at dksX5_sell_3 4 rfl rfl)
theorem dX5_sell_76 : decode cX5_sell 76 = .ok (.iconst 2, 1) := dk_5 (dk_at dksX5_sell_3 5 rfl rfl)
theorem dX5_sell_77 : decode cX5_sell 77 = .ok (.invokevirtual 136, 3) := dk_182 0 136 (dk_at dksX5_sell_3 6 rfl rfl)
theorem dX5_sell_80 : decode cX5_sell 80 = .ok (.aload_n 0, 1) := dk_42 (dk_at dksX5_sell_3 9 rfl rfl)
theorem dX5_sell_81 : decode cX5_sell 81 = .ok (.aload_n 0, 1) := dk_42 (dk_at dksX5_sell_3 10 rfl rfl)
theorem dX5_sell_82 : decode cX5_sell 82 = .ok (.iload_n 1, 1) := dk_27 (dk_at dksX5_sell_3 11 rfl rfl)
theorem dX5_sell_83 : decode cX5_sell 83 = .ok (.iconst 3, 1) := dk_6 (dk_at dksX5_sell_3 12 rfl rfl)
theorem dX5_sell_84 : decode cX5_sell 84 = .ok (.invokevirtual 121, 3) := dk_182 0 121 (dk_at dksX5_sell_3 13 rfl rfl)
theorem dX5_sell_87 : decode cX5_sell 87 = .ok (.iconst 3, 1) := dk_6 (dk_at dksX5_sell_3 16 rfl rfl)
theorem dX5_sell_88 : decode cX5_sell 88 = .ok (.idiv, 1) := dk_108 (dk_at dksX5_sell_3 17 rfl rfl)
theorem dX5_sell_89 : decode cX5_sell 89 = .ok (.invokevirtual 140, 3) := dk_182 0 140 (dk_at dksX5_sell_3 18 rfl rfl)
theorem dX5_sell_92 : decode cX5_sell 92 = .ok (.aload_n 0, 1) := dk_42 (dk_at dksX5_sell_3 21 rfl rfl)
theorem dX5_sell_93 : decode cX5_sell 93 = .ok (.iload_n 1, 1) := dk_27 (dk_at dksX5_sell_3 22 rfl rfl)
theorem dX5_sell_94 : decode cX5_sell 94 = .ok (.iconst 3, 1) := dk_6 (dk_at dksX5_sell_3 23 rfl rfl)
theorem dX5_sell_95 : decode cX5_sell 95 = .ok (.invokevirtual 121, 3) := dk_182 0 121 (dk_at dksX5_sell_4 0 rfl rfl)
theorem dX5_sell_98 : decode cX5_sell 98 = .ok (.iconst 3, 1) := dk_6 (dk_at dksX5_sell_4 3 rfl rfl)
theorem dX5_sell_99 : decode cX5_sell 99 = .ok (.idiv, 1) := dk_108 (dk_at dksX5_sell_4 4 rfl rfl)
theorem dX5_sell_100 : decode cX5_sell 100 = .ok (.ireturn, 1) := dk_172 (dk_at dksX5_sell_4 5 rfl rfl)
abbrev cX5_missing : ByteArray := prog_18_method_37_code
def yX5_missing : MethodName := ⟨RX5, "missing", "(I)I"⟩
def dkwX5_missing_0 : List UInt8 := [3, 42, 42, 27, 4, 182, 0, 121, 182, 0, 114, 42, 27, 5, 182, 0, 121, 100, 184, 0, 94, 172]
abbrev dktX5_missing_0 : List UInt8 := dkwX5_missing_0 ++ []
theorem dksX5_missing_0 : cX5_missing.data.toList.drop 0 = dktX5_missing_0 := by decide +kernel
theorem dX5_missing_0 : decode cX5_missing 0 = .ok (.iconst 0, 1) := dk_3 (dk_at dksX5_missing_0 0 rfl rfl)
theorem dX5_missing_1 : decode cX5_missing 1 = .ok (.aload_n 0, 1) := dk_42 (dk_at dksX5_missing_0 1 rfl rfl)
theorem dX5_missing_2 : decode cX5_missing 2 = .ok (.aload_n 0, 1) := dk_42 (dk_at dksX5_missing_0 2 rfl rfl)
theorem dX5_missing_3 : decode cX5_missing 3 = .ok (.iload_n 1, 1) := dk_27 (dk_at dksX5_missing_0 3 rfl rfl)
theorem dX5_missing_4 : decode cX5_missing 4 = .ok (.iconst 1, 1) := dk_4 (dk_at dksX5_missing_0 4 rfl rfl)
theorem dX5_missing_5 : decode cX5_missing 5 = .ok (.invokevirtual 121, 3) := dk_182 0 121 (dk_at dksX5_missing_0 5 rfl rfl)
theorem dX5_missing_8 : decode cX5_missing 8 = .ok (.invokevirtual 114, 3) := dk_182 0 114 (dk_at dksX5_missing_0 8 rfl rfl)
theorem dX5_missing_11 : decode cX5_missing 11 = .ok (.aload_n 0, 1) := dk_42 (dk_at dksX5_missing_0 11 rfl rfl)
theorem dX5_missing_12 : decode cX5_missing 12 = .ok (.iload_n 1, 1) := dk_27 (dk_at dksX5_missing_0 12 rfl rfl)
theorem dX5_missing_13 : decode cX5_missing 13 = .ok (.iconst 2, 1) := dk_5 (dk_at dksX5_missing_0 13 rfl rfl)
theorem dX5_missing_14 : decode cX5_missing 14 = .ok (.invokevirtual 121, 3) := dk_182 0 121 (dk_at dksX5_missing_0 14 rfl rfl)
theorem dX5_missing_17 : decode cX5_missing 17 = .ok (.isub, 1) := dk_100 (dk_at dksX5_missing_0 17 rfl rfl)
theorem dX5_missing_18 : decode cX5_missing 18 = .ok (.invokestatic 94, 3) := dk_184 0 94 (dk_at dksX5_missing_0 18 rfl rfl)
theorem dX5_missing_21 : decode cX5_missing 21 = .ok (.ireturn, 1) := dk_172 (dk_at dksX5_missing_0 21 rfl rfl)
abbrev cX5_earns : ByteArray := prog_18_method_21_code
def yX5_earns : MethodName := ⟨RX5, "earns", "(I)V"⟩
def dkwX5_earns_1 : List UInt8 := [16, 6, 46, 27, 96, 184, 0, 69, 79, 177]
abbrev dktX5_earns_1 : List UInt8 := dkwX5_earns_1 ++ []
def dkwX5_earns_0 : List UInt8 := [42, 180, 0, 7, 16, 10, 92, 46, 27, 96, 79, 42, 180, 0, 7, 16, 6, 17, 39, 15, 42, 180, 0, 7]
abbrev dktX5_earns_0 : List UInt8 := dkwX5_earns_0 ++ dktX5_earns_1
theorem dksX5_earns_0 : cX5_earns.data.toList.drop 0 = dktX5_earns_0 := by decide +kernel
theorem dksX5_earns_1 : cX5_earns.data.toList.drop 24 = dktX5_earns_1 := dk_seg dksX5_earns_0 24 rfl rfl
theorem dX5_earns_0 : decode cX5_earns 0 = .ok (.aload_n 0, 1) := dk_42 (dk_at dksX5_earns_0 0 rfl rfl)
theorem dX5_earns_1 : decode cX5_earns 1 = .ok (.getfield 7, 3) := dk_180 0 7 (dk_at dksX5_earns_0 1 rfl rfl)
theorem dX5_earns_4 : decode cX5_earns 4 = .ok (.bipush 10, 2) := dk_16 10 (dk_at dksX5_earns_0 4 rfl rfl)
theorem dX5_earns_6 : decode cX5_earns 6 = .ok (.dup2, 1) := dk_92 (dk_at dksX5_earns_0 6 rfl rfl)
theorem dX5_earns_7 : decode cX5_earns 7 = .ok (.iaload, 1) := dk_46 (dk_at dksX5_earns_0 7 rfl rfl)
theorem dX5_earns_8 : decode cX5_earns 8 = .ok (.iload_n 1, 1) := dk_27 (dk_at dksX5_earns_0 8 rfl rfl)
theorem dX5_earns_9 : decode cX5_earns 9 = .ok (.iadd, 1) := dk_96 (dk_at dksX5_earns_0 9 rfl rfl)
theorem dX5_earns_10 : decode cX5_earns 10 = .ok (.iastore, 1) := dk_79 (dk_at dksX5_earns_0 10 rfl rfl)
theorem dX5_earns_11 : decode cX5_earns 11 = .ok (.aload_n 0, 1) := dk_42 (dk_at dksX5_earns_0 11 rfl rfl)
theorem dX5_earns_12 : decode cX5_earns 12 = .ok (.getfield 7, 3) := dk_180 0 7 (dk_at dksX5_earns_0 12 rfl rfl)
theorem dX5_earns_15 : decode cX5_earns 15 = .ok (.bipush 6, 2) := dk_16 6 (dk_at dksX5_earns_0 15 rfl rfl)
theorem dX5_earns_17 : decode cX5_earns 17 = .ok (.sipush 9999, 3) := dk_17 39 15 (dk_at dksX5_earns_0 17 rfl rfl)
theorem dX5_earns_20 : decode cX5_earns 20 = .ok (.aload_n 0, 1) := dk_42 (dk_at dksX5_earns_0 20 rfl rfl)
theorem dX5_earns_21 : decode cX5_earns 21 = .ok (.getfield 7, 3) := dk_180 0 7 (dk_at dksX5_earns_0 21 rfl rfl)
theorem dX5_earns_24 : decode cX5_earns 24 = .ok (.bipush 6, 2) := dk_16 6 (dk_at dksX5_earns_1 0 rfl rfl)
theorem dX5_earns_26 : decode cX5_earns 26 = .ok (.iaload, 1) := dk_46 (dk_at dksX5_earns_1 2 rfl rfl)
theorem dX5_earns_27 : decode cX5_earns 27 = .ok (.iload_n 1, 1) := dk_27 (dk_at dksX5_earns_1 3 rfl rfl)
theorem dX5_earns_28 : decode cX5_earns 28 = .ok (.iadd, 1) := dk_96 (dk_at dksX5_earns_1 4 rfl rfl)
theorem dX5_earns_29 : decode cX5_earns 29 = .ok (.invokestatic 69, 3) := dk_184 0 69 (dk_at dksX5_earns_1 5 rfl rfl)
theorem dX5_earns_32 : decode cX5_earns 32 = .ok (.iastore, 1) := dk_79 (dk_at dksX5_earns_1 8 rfl rfl)
theorem dX5_earns_33 : decode cX5_earns 33 = .ok (.return_, 1) := dk_177 (dk_at dksX5_earns_1 9 rfl rfl)
abbrev cX5_less : ByteArray := prog_18_method_7_code
def yX5_less : MethodName := ⟨RX5, "less", "(II)I"⟩
def dkwX5_less_0 : List UInt8 := [26, 27, 162, 0, 7, 26, 167, 0, 4, 27, 172]
abbrev dktX5_less_0 : List UInt8 := dkwX5_less_0 ++ []
theorem dksX5_less_0 : cX5_less.data.toList.drop 0 = dktX5_less_0 := by decide +kernel
theorem dX5_less_0 : decode cX5_less 0 = .ok (.iload_n 0, 1) := dk_26 (dk_at dksX5_less_0 0 rfl rfl)
theorem dX5_less_1 : decode cX5_less 1 = .ok (.iload_n 1, 1) := dk_27 (dk_at dksX5_less_0 1 rfl rfl)
theorem dX5_less_2 : decode cX5_less 2 = .ok (.if_icmp .ge 7, 3) := dk_162 0 7 (dk_at dksX5_less_0 2 rfl rfl)
theorem dX5_less_5 : decode cX5_less 5 = .ok (.iload_n 0, 1) := dk_26 (dk_at dksX5_less_0 5 rfl rfl)
theorem dX5_less_6 : decode cX5_less 6 = .ok (.goto 4, 3) := dk_167 0 4 (dk_at dksX5_less_0 6 rfl rfl)
theorem dX5_less_9 : decode cX5_less 9 = .ok (.iload_n 1, 1) := dk_27 (dk_at dksX5_less_0 9 rfl rfl)
theorem dX5_less_10 : decode cX5_less 10 = .ok (.ireturn, 1) := dk_172 (dk_at dksX5_less_0 10 rfl rfl)
abbrev cX5_jarOf : ByteArray := prog_18_method_42_code
def yX5_jarOf : MethodName := ⟨RX5, "jarOf", "(II)I"⟩
def dkwX5_jarOf_3 : List UInt8 := [154, 0, 11, 42, 27, 182, 0, 127, 167, 0, 4, 3, 172]
abbrev dktX5_jarOf_3 : List UInt8 := dkwX5_jarOf_3 ++ []
def dkwX5_jarOf_2 : List UInt8 := [167, 0, 34, 28, 7, 160, 0, 11, 42, 27, 182, 0, 130, 167, 0, 21, 42, 27, 3, 182, 0, 121]
abbrev dktX5_jarOf_2 : List UInt8 := dkwX5_jarOf_2 ++ dktX5_jarOf_3
def dkwX5_jarOf_1 : List UInt8 := [167, 0, 4, 5, 182, 0, 73, 153, 0, 5, 3, 172, 28, 6, 162, 0, 12, 42, 27, 28, 182, 0, 121]
abbrev dktX5_jarOf_1 : List UInt8 := dkwX5_jarOf_1 ++ dktX5_jarOf_2
def dkwX5_jarOf_0 : List UInt8 := [42, 42, 27, 182, 0, 133, 154, 0, 7, 4, 167, 0, 17, 28, 3, 7, 184, 0, 65, 153, 0, 7, 3]
abbrev dktX5_jarOf_0 : List UInt8 := dkwX5_jarOf_0 ++ dktX5_jarOf_1
theorem dksX5_jarOf_0 : cX5_jarOf.data.toList.drop 0 = dktX5_jarOf_0 := by decide +kernel
theorem dksX5_jarOf_1 : cX5_jarOf.data.toList.drop 23 = dktX5_jarOf_1 := dk_seg dksX5_jarOf_0 23 rfl rfl
theorem dksX5_jarOf_2 : cX5_jarOf.data.toList.drop 46 = dktX5_jarOf_2 := dk_seg dksX5_jarOf_1 23 rfl rfl
theorem dksX5_jarOf_3 : cX5_jarOf.data.toList.drop 68 = dktX5_jarOf_3 := dk_seg dksX5_jarOf_2 22 rfl rfl
theorem dX5_jarOf_0 : decode cX5_jarOf 0 = .ok (.aload_n 0, 1) := dk_42 (dk_at dksX5_jarOf_0 0 rfl rfl)
theorem dX5_jarOf_1 : decode cX5_jarOf 1 = .ok (.aload_n 0, 1) := dk_42 (dk_at dksX5_jarOf_0 1 rfl rfl)
theorem dX5_jarOf_2 : decode cX5_jarOf 2 = .ok (.iload_n 1, 1) := dk_27 (dk_at dksX5_jarOf_0 2 rfl rfl)
theorem dX5_jarOf_3 : decode cX5_jarOf 3 = .ok (.invokevirtual 133, 3) := dk_182 0 133 (dk_at dksX5_jarOf_0 3 rfl rfl)
theorem dX5_jarOf_6 : decode cX5_jarOf 6 = .ok (.ifCond .ne 7, 3) := dk_154 0 7 (dk_at dksX5_jarOf_0 6 rfl rfl)
theorem dX5_jarOf_9 : decode cX5_jarOf 9 = .ok (.iconst 1, 1) := dk_4 (dk_at dksX5_jarOf_0 9 rfl rfl)
theorem dX5_jarOf_10 : decode cX5_jarOf 10 = .ok (.goto 17, 3) := dk_167 0 17 (dk_at dksX5_jarOf_0 10 rfl rfl)
theorem dX5_jarOf_13 : decode cX5_jarOf 13 = .ok (.iload_n 2, 1) := dk_28 (dk_at dksX5_jarOf_0 13 rfl rfl)
theorem dX5_jarOf_14 : decode cX5_jarOf 14 = .ok (.iconst 0, 1) := dk_3 (dk_at dksX5_jarOf_0 14 rfl rfl)
theorem dX5_jarOf_15 : decode cX5_jarOf 15 = .ok (.iconst 4, 1) := dk_7 (dk_at dksX5_jarOf_0 15 rfl rfl)
theorem dX5_jarOf_16 : decode cX5_jarOf 16 = .ok (.invokestatic 65, 3) := dk_184 0 65 (dk_at dksX5_jarOf_0 16 rfl rfl)
theorem dX5_jarOf_19 : decode cX5_jarOf 19 = .ok (.ifCond .eq 7, 3) := dk_153 0 7 (dk_at dksX5_jarOf_0 19 rfl rfl)
theorem dX5_jarOf_22 : decode cX5_jarOf 22 = .ok (.iconst 0, 1) := dk_3 (dk_at dksX5_jarOf_0 22 rfl rfl)
theorem dX5_jarOf_23 : decode cX5_jarOf 23 = .ok (.goto 4, 3) := dk_167 0 4 (dk_at dksX5_jarOf_1 0 rfl rfl)
theorem dX5_jarOf_26 : decode cX5_jarOf 26 = .ok (.iconst 2, 1) := dk_5 (dk_at dksX5_jarOf_1 3 rfl rfl)
theorem dX5_jarOf_27 : decode cX5_jarOf 27 = .ok (.invokevirtual 73, 3) := dk_182 0 73 (dk_at dksX5_jarOf_1 4 rfl rfl)
theorem dX5_jarOf_30 : decode cX5_jarOf 30 = .ok (.ifCond .eq 5, 3) := dk_153 0 5 (dk_at dksX5_jarOf_1 7 rfl rfl)
theorem dX5_jarOf_33 : decode cX5_jarOf 33 = .ok (.iconst 0, 1) := dk_3 (dk_at dksX5_jarOf_1 10 rfl rfl)
theorem dX5_jarOf_34 : decode cX5_jarOf 34 = .ok (.ireturn, 1) := dk_172 (dk_at dksX5_jarOf_1 11 rfl rfl)
theorem dX5_jarOf_35 : decode cX5_jarOf 35 = .ok (.iload_n 2, 1) := dk_28 (dk_at dksX5_jarOf_1 12 rfl rfl)
theorem dX5_jarOf_36 : decode cX5_jarOf 36 = .ok (.iconst 3, 1) := dk_6 (dk_at dksX5_jarOf_1 13 rfl rfl)
theorem dX5_jarOf_37 : decode cX5_jarOf 37 = .ok (.if_icmp .ge 12, 3) := dk_162 0 12 (dk_at dksX5_jarOf_1 14 rfl rfl)
theorem dX5_jarOf_40 : decode cX5_jarOf 40 = .ok (.aload_n 0, 1) := dk_42 (dk_at dksX5_jarOf_1 17 rfl rfl)
theorem dX5_jarOf_41 : decode cX5_jarOf 41 = .ok (.iload_n 1, 1) := dk_27 (dk_at dksX5_jarOf_1 18 rfl rfl)
theorem dX5_jarOf_42 : decode cX5_jarOf 42 = .ok (.iload_n 2, 1) := dk_28 (dk_at dksX5_jarOf_1 19 rfl rfl)
theorem dX5_jarOf_43 : decode cX5_jarOf 43 = .ok (.invokevirtual 121, 3) := dk_182 0 121 (dk_at dksX5_jarOf_1 20 rfl rfl)
theorem dX5_jarOf_46 : decode cX5_jarOf 46 = .ok (.goto 34, 3) := dk_167 0 34 (dk_at dksX5_jarOf_2 0 rfl rfl)
theorem dX5_jarOf_49 : decode cX5_jarOf 49 = .ok (.iload_n 2, 1) := dk_28 (dk_at dksX5_jarOf_2 3 rfl rfl)
theorem dX5_jarOf_50 : decode cX5_jarOf 50 = .ok (.iconst 4, 1) := dk_7 (dk_at dksX5_jarOf_2 4 rfl rfl)
theorem dX5_jarOf_51 : decode cX5_jarOf 51 = .ok (.if_icmp .ne 11, 3) := dk_160 0 11 (dk_at dksX5_jarOf_2 5 rfl rfl)
theorem dX5_jarOf_54 : decode cX5_jarOf 54 = .ok (.aload_n 0, 1) := dk_42 (dk_at dksX5_jarOf_2 8 rfl rfl)
theorem dX5_jarOf_55 : decode cX5_jarOf 55 = .ok (.iload_n 1, 1) := dk_27 (dk_at dksX5_jarOf_2 9 rfl rfl)
theorem dX5_jarOf_56 : decode cX5_jarOf 56 = .ok (.invokevirtual 130, 3) := dk_182 0 130 (dk_at dksX5_jarOf_2 10 rfl rfl)
theorem dX5_jarOf_59 : decode cX5_jarOf 59 = .ok (.goto 21, 3) := dk_167 0 21 (dk_at dksX5_jarOf_2 13 rfl rfl)
theorem dX5_jarOf_62 : decode cX5_jarOf 62 = .ok (.aload_n 0, 1) := dk_42 (dk_at dksX5_jarOf_2 16 rfl rfl)
theorem dX5_jarOf_63 : decode cX5_jarOf 63 = .ok (.iload_n 1, 1) := dk_27 (dk_at dksX5_jarOf_2 17 rfl rfl)
theorem dX5_jarOf_64 : decode cX5_jarOf 64 = .ok (.iconst 0, 1) := dk_3 (dk_at dksX5_jarOf_2 18 rfl rfl)
theorem dX5_jarOf_65 : decode cX5_jarOf 65 = .ok (.invokevirtual 121, 3) := dk_182 0 121 (dk_at dksX5_jarOf_2 19 rfl rfl)
theorem dX5_jarOf_68 : decode cX5_jarOf 68 = .ok (.ifCond .ne 11, 3) := dk_154 0 11 (dk_at dksX5_jarOf_3 0 rfl rfl)
theorem dX5_jarOf_71 : decode cX5_jarOf 71 = .ok (.aload_n 0, 1) := dk_42 (dk_at dksX5_jarOf_3 3 rfl rfl)
theorem dX5_jarOf_72 : decode cX5_jarOf 72 = .ok (.iload_n 1, 1) := dk_27 (dk_at dksX5_jarOf_3 4 rfl rfl)
theorem dX5_jarOf_73 : decode cX5_jarOf 73 = .ok (.invokevirtual 127, 3) := dk_182 0 127 (dk_at dksX5_jarOf_3 5 rfl rfl)
theorem dX5_jarOf_76 : decode cX5_jarOf 76 = .ok (.goto 4, 3) := dk_167 0 4 (dk_at dksX5_jarOf_3 8 rfl rfl)
theorem dX5_jarOf_79 : decode cX5_jarOf 79 = .ok (.iconst 0, 1) := dk_3 (dk_at dksX5_jarOf_3 11 rfl rfl)
theorem dX5_jarOf_80 : decode cX5_jarOf 80 = .ok (.ireturn, 1) := dk_172 (dk_at dksX5_jarOf_3 12 rfl rfl)
abbrev cX5_tearBehind : ByteArray := prog_18_method_44_code
def yX5_tearBehind : MethodName := ⟨RX5, "tearBehind", "(IIZ)I"⟩
def dkwX5_tearBehind_2 : List UInt8 := [172, 29, 153, 0, 12, 42, 27, 28, 182, 0, 144, 167, 0, 9, 42, 27, 28, 182, 0, 124, 172]
abbrev dktX5_tearBehind_2 : List UInt8 := dkwX5_tearBehind_2 ++ []
def dkwX5_tearBehind_1 : List UInt8 := [167, 0, 17, 42, 27, 3, 182, 0, 108, 154, 0, 7, 6, 167, 0, 4, 3, 182, 0, 73, 153, 0, 5, 3]
abbrev dktX5_tearBehind_1 : List UInt8 := dkwX5_tearBehind_1 ++ dktX5_tearBehind_2
def dkwX5_tearBehind_0 : List UInt8 := [42, 42, 27, 182, 0, 111, 154, 0, 7, 4, 167, 0, 31, 28, 3, 16, 99, 184, 0, 65, 154, 0, 7, 5]
abbrev dktX5_tearBehind_0 : List UInt8 := dkwX5_tearBehind_0 ++ dktX5_tearBehind_1
theorem dksX5_tearBehind_0 : cX5_tearBehind.data.toList.drop 0 = dktX5_tearBehind_0 := by decide +kernel
theorem dksX5_tearBehind_1 : cX5_tearBehind.data.toList.drop 24 = dktX5_tearBehind_1 := dk_seg dksX5_tearBehind_0 24 rfl rfl
theorem dksX5_tearBehind_2 : cX5_tearBehind.data.toList.drop 48 = dktX5_tearBehind_2 := dk_seg dksX5_tearBehind_1 24 rfl rfl
theorem dX5_tearBehind_0 : decode cX5_tearBehind 0 = .ok (.aload_n 0, 1) := dk_42 (dk_at dksX5_tearBehind_0 0 rfl rfl)
theorem dX5_tearBehind_1 : decode cX5_tearBehind 1 = .ok (.aload_n 0, 1) := dk_42 (dk_at dksX5_tearBehind_0 1 rfl rfl)
theorem dX5_tearBehind_2 : decode cX5_tearBehind 2 = .ok (.iload_n 1, 1) := dk_27 (dk_at dksX5_tearBehind_0 2 rfl rfl)
theorem dX5_tearBehind_3 : decode cX5_tearBehind 3 = .ok (.invokevirtual 111, 3) := dk_182 0 111 (dk_at dksX5_tearBehind_0 3 rfl rfl)
theorem dX5_tearBehind_6 : decode cX5_tearBehind 6 = .ok (.ifCond .ne 7, 3) := dk_154 0 7 (dk_at dksX5_tearBehind_0 6 rfl rfl)
theorem dX5_tearBehind_9 : decode cX5_tearBehind 9 = .ok (.iconst 1, 1) := dk_4 (dk_at dksX5_tearBehind_0 9 rfl rfl)
theorem dX5_tearBehind_10 : decode cX5_tearBehind 10 = .ok (.goto 31, 3) := dk_167 0 31 (dk_at dksX5_tearBehind_0 10 rfl rfl)
theorem dX5_tearBehind_13 : decode cX5_tearBehind 13 = .ok (.iload_n 2, 1) := dk_28 (dk_at dksX5_tearBehind_0 13 rfl rfl)
theorem dX5_tearBehind_14 : decode cX5_tearBehind 14 = .ok (.iconst 0, 1) := dk_3 (dk_at dksX5_tearBehind_0 14 rfl rfl)
theorem dX5_tearBehind_15 : decode cX5_tearBehind 15 = .ok (.bipush 99, 2) := dk_16 99 (dk_at dksX5_tearBehind_0 15 rfl rfl)
theorem dX5_tearBehind_17 : decode cX5_tearBehind 17 = .ok (.invokestatic 65, 3) := dk_184 0 65 (dk_at dksX5_tearBehind_0 17 rfl rfl)
theorem dX5_tearBehind_20 : decode cX5_tearBehind 20 = .ok (.ifCond .ne 7, 3) := dk_154 0 7 (dk_at dksX5_tearBehind_0 20 rfl rfl)
theorem dX5_tearBehind_23 : decode cX5_tearBehind 23 = .ok (.iconst 2, 1) := dk_5 (dk_at dksX5_tearBehind_0 23 rfl rfl)
theorem dX5_tearBehind_24 : decode cX5_tearBehind 24 = .ok (.goto 17, 3) := dk_167 0 17 (dk_at dksX5_tearBehind_1 0 rfl rfl)
theorem dX5_tearBehind_27 : decode cX5_tearBehind 27 = .ok (.aload_n 0, 1) := dk_42 (dk_at dksX5_tearBehind_1 3 rfl rfl)
theorem dX5_tearBehind_28 : decode cX5_tearBehind 28 = .ok (.iload_n 1, 1) := dk_27 (dk_at dksX5_tearBehind_1 4 rfl rfl)
theorem dX5_tearBehind_29 : decode cX5_tearBehind 29 = .ok (.iconst 0, 1) := dk_3 (dk_at dksX5_tearBehind_1 5 rfl rfl)
theorem dX5_tearBehind_30 : decode cX5_tearBehind 30 = .ok (.invokevirtual 108, 3) := dk_182 0 108 (dk_at dksX5_tearBehind_1 6 rfl rfl)
theorem dX5_tearBehind_33 : decode cX5_tearBehind 33 = .ok (.ifCond .ne 7, 3) := dk_154 0 7 (dk_at dksX5_tearBehind_1 9 rfl rfl)
theorem dX5_tearBehind_36 : decode cX5_tearBehind 36 = .ok (.iconst 3, 1) := dk_6 (dk_at dksX5_tearBehind_1 12 rfl rfl)
theorem dX5_tearBehind_37 : decode cX5_tearBehind 37 = .ok (.goto 4, 3) := dk_167 0 4 (dk_at dksX5_tearBehind_1 13 rfl rfl)
theorem dX5_tearBehind_40 : decode cX5_tearBehind 40 = .ok (.iconst 0, 1) := dk_3 (dk_at dksX5_tearBehind_1 16 rfl rfl)
theorem dX5_tearBehind_41 : decode cX5_tearBehind 41 = .ok (.invokevirtual 73, 3) := dk_182 0 73 (dk_at dksX5_tearBehind_1 17 rfl rfl)
theorem dX5_tearBehind_44 : decode cX5_tearBehind 44 = .ok (.ifCond .eq 5, 3) := dk_153 0 5 (dk_at dksX5_tearBehind_1 20 rfl rfl)
theorem dX5_tearBehind_47 : decode cX5_tearBehind 47 = .ok (.iconst 0, 1) := dk_3 (dk_at dksX5_tearBehind_1 23 rfl rfl)
theorem dX5_tearBehind_48 : decode cX5_tearBehind 48 = .ok (.ireturn, 1) := dk_172 (dk_at dksX5_tearBehind_2 0 rfl rfl)
theorem dX5_tearBehind_49 : decode cX5_tearBehind 49 = .ok (.iload_n 3, 1) := dk_29 (dk_at dksX5_tearBehind_2 1 rfl rfl)
theorem dX5_tearBehind_50 : decode cX5_tearBehind 50 = .ok (.ifCond .eq 12, 3) := dk_153 0 12 (dk_at dksX5_tearBehind_2 2 rfl rfl)
theorem dX5_tearBehind_53 : decode cX5_tearBehind 53 = .ok (.aload_n 0, 1) := dk_42 (dk_at dksX5_tearBehind_2 5 rfl rfl)
theorem dX5_tearBehind_54 : decode cX5_tearBehind 54 = .ok (.iload_n 1, 1) := dk_27 (dk_at dksX5_tearBehind_2 6 rfl rfl)
theorem dX5_tearBehind_55 : decode cX5_tearBehind 55 = .ok (.iload_n 2, 1) := dk_28 (dk_at dksX5_tearBehind_2 7 rfl rfl)
theorem dX5_tearBehind_56 : decode cX5_tearBehind 56 = .ok (.invokevirtual 144, 3) := dk_182 0 144 (dk_at dksX5_tearBehind_2 8 rfl rfl)
theorem dX5_tearBehind_59 : decode cX5_tearBehind 59 = .ok (.goto 9, 3) := dk_167 0 9 (dk_at dksX5_tearBehind_2 11 rfl rfl)
theorem dX5_tearBehind_62 : decode cX5_tearBehind 62 = .ok (.aload_n 0, 1) := dk_42 (dk_at dksX5_tearBehind_2 14 rfl rfl)
theorem dX5_tearBehind_63 : decode cX5_tearBehind 63 = .ok (.iload_n 1, 1) := dk_27 (dk_at dksX5_tearBehind_2 15 rfl rfl)
theorem dX5_tearBehind_64 : decode cX5_tearBehind 64 = .ok (.iload_n 2, 1) := dk_28 (dk_at dksX5_tearBehind_2 16 rfl rfl)
theorem dX5_tearBehind_65 : decode cX5_tearBehind 65 = .ok (.invokevirtual 124, 3) := dk_182 0 124 (dk_at dksX5_tearBehind_2 17 rfl rfl)
theorem dX5_tearBehind_68 : decode cX5_tearBehind 68 = .ok (.ireturn, 1) := dk_172 (dk_at dksX5_tearBehind_2 20 rfl rfl)
abbrev cX5_dayByDay : ByteArray := prog_18_method_43_code
def yX5_dayByDay : MethodName := ⟨RX5, "dayByDay", "(II)I"⟩
def dkwX5_dayByDay_3 : List UInt8 := [158, 0, 6, 132, 5, 255, 132, 7, 1, 167, 255, 194, 21, 5, 172]
abbrev dktX5_dayByDay_3 : List UInt8 := dkwX5_dayByDay_3 ++ []
def dkwX5_dayByDay_2 : List UInt8 := [54, 5, 21, 4, 29, 112, 54, 4, 167, 0, 21, 132, 6, 1, 21, 6, 6, 112, 154, 0, 11, 21, 5]
abbrev dktX5_dayByDay_2 : List UInt8 := dkwX5_dayByDay_2 ++ dktX5_dayByDay_3
def dkwX5_dayByDay_1 : List UInt8 := [21, 7, 29, 163, 0, 32, 21, 4, 42, 27, 6, 182, 0, 108, 96, 54, 4, 21, 5, 21, 4, 29, 108, 96]
abbrev dktX5_dayByDay_1 : List UInt8 := dkwX5_dayByDay_1 ++ dktX5_dayByDay_2
def dkwX5_dayByDay_0 : List UInt8 := [42, 27, 182, 0, 114, 62, 3, 54, 4, 3, 54, 5, 3, 54, 6, 4, 54, 7, 21, 7, 28, 163, 0, 62]
abbrev dktX5_dayByDay_0 : List UInt8 := dkwX5_dayByDay_0 ++ dktX5_dayByDay_1
theorem dksX5_dayByDay_0 : cX5_dayByDay.data.toList.drop 0 = dktX5_dayByDay_0 := by decide +kernel
theorem dksX5_dayByDay_1 : cX5_dayByDay.data.toList.drop 24 = dktX5_dayByDay_1 := dk_seg dksX5_dayByDay_0 24 rfl rfl
theorem dksX5_dayByDay_2 : cX5_dayByDay.data.toList.drop 48 = dktX5_dayByDay_2 := dk_seg dksX5_dayByDay_1 24 rfl rfl
theorem dksX5_dayByDay_3 : cX5_dayByDay.data.toList.drop 71 = dktX5_dayByDay_3 := dk_seg dksX5_dayByDay_2 23 rfl rfl
theorem dX5_dayByDay_0 : decode cX5_dayByDay 0 = .ok (.aload_n 0, 1) := dk_42 (dk_at dksX5_dayByDay_0 0 rfl rfl)
theorem dX5_dayByDay_1 : decode cX5_dayByDay 1 = .ok (.iload_n 1, 1) := dk_27 (dk_at dksX5_dayByDay_0 1 rfl rfl)
theorem dX5_dayByDay_2 : decode cX5_dayByDay 2 = .ok (.invokevirtual 114, 3) := dk_182 0 114 (dk_at dksX5_dayByDay_0 2 rfl rfl)
theorem dX5_dayByDay_5 : decode cX5_dayByDay 5 = .ok (.istore_n 3, 1) := dk_62 (dk_at dksX5_dayByDay_0 5 rfl rfl)
theorem dX5_dayByDay_6 : decode cX5_dayByDay 6 = .ok (.iconst 0, 1) := dk_3 (dk_at dksX5_dayByDay_0 6 rfl rfl)
theorem dX5_dayByDay_7 : decode cX5_dayByDay 7 = .ok (.istore 4, 2) := dk_54 4 (dk_at dksX5_dayByDay_0 7 rfl rfl)
theorem dX5_dayByDay_9 : decode cX5_dayByDay 9 = .ok (.iconst 0, 1) := dk_3 (dk_at dksX5_dayByDay_0 9 rfl rfl)
theorem dX5_dayByDay_10 : decode cX5_dayByDay 10 = .ok (.istore 5, 2) := dk_54 5 (dk_at dksX5_dayByDay_0 10 rfl rfl)
theorem dX5_dayByDay_12 : decode cX5_dayByDay 12 = .ok (.iconst 0, 1) := dk_3 (dk_at dksX5_dayByDay_0 12 rfl rfl)
theorem dX5_dayByDay_13 : decode cX5_dayByDay 13 = .ok (.istore 6, 2) := dk_54 6 (dk_at dksX5_dayByDay_0 13 rfl rfl)
theorem dX5_dayByDay_15 : decode cX5_dayByDay 15 = .ok (.iconst 1, 1) := dk_4 (dk_at dksX5_dayByDay_0 15 rfl rfl)
theorem dX5_dayByDay_16 : decode cX5_dayByDay 16 = .ok (.istore 7, 2) := dk_54 7 (dk_at dksX5_dayByDay_0 16 rfl rfl)
theorem dX5_dayByDay_18 : decode cX5_dayByDay 18 = .ok (.iload 7, 2) := dk_21 7 (dk_at dksX5_dayByDay_0 18 rfl rfl)
theorem dX5_dayByDay_20 : decode cX5_dayByDay 20 = .ok (.iload_n 2, 1) := dk_28 (dk_at dksX5_dayByDay_0 20 rfl rfl)
theorem dX5_dayByDay_21 : decode cX5_dayByDay 21 = .ok (.if_icmp .gt 62, 3) := dk_163 0 62 (dk_at dksX5_dayByDay_0 21 rfl rfl)
theorem dX5_dayByDay_24 : decode cX5_dayByDay 24 = .ok (.iload 7, 2) := dk_21 7 (dk_at dksX5_dayByDay_1 0 rfl rfl)
theorem dX5_dayByDay_26 : decode cX5_dayByDay 26 = .ok (.iload_n 3, 1) := dk_29 (dk_at dksX5_dayByDay_1 2 rfl rfl)
theorem dX5_dayByDay_27 : decode cX5_dayByDay 27 = .ok (.if_icmp .gt 32, 3) := dk_163 0 32 (dk_at dksX5_dayByDay_1 3 rfl rfl)
theorem dX5_dayByDay_30 : decode cX5_dayByDay 30 = .ok (.iload 4, 2) := dk_21 4 (dk_at dksX5_dayByDay_1 6 rfl rfl)
theorem dX5_dayByDay_32 : decode cX5_dayByDay 32 = .ok (.aload_n 0, 1) := dk_42 (dk_at dksX5_dayByDay_1 8 rfl rfl)
theorem dX5_dayByDay_33 : decode cX5_dayByDay 33 = .ok (.iload_n 1, 1) := dk_27 (dk_at dksX5_dayByDay_1 9 rfl rfl)
theorem dX5_dayByDay_34 : decode cX5_dayByDay 34 = .ok (.iconst 3, 1) := dk_6 (dk_at dksX5_dayByDay_1 10 rfl rfl)
theorem dX5_dayByDay_35 : decode cX5_dayByDay 35 = .ok (.invokevirtual 108, 3) := dk_182 0 108 (dk_at dksX5_dayByDay_1 11 rfl rfl)
theorem dX5_dayByDay_38 : decode cX5_dayByDay 38 = .ok (.iadd, 1) := dk_96 (dk_at dksX5_dayByDay_1 14 rfl rfl)
theorem dX5_dayByDay_39 : decode cX5_dayByDay 39 = .ok (.istore 4, 2) := dk_54 4 (dk_at dksX5_dayByDay_1 15 rfl rfl)
theorem dX5_dayByDay_41 : decode cX5_dayByDay 41 = .ok (.iload 5, 2) := dk_21 5 (dk_at dksX5_dayByDay_1 17 rfl rfl)
theorem dX5_dayByDay_43 : decode cX5_dayByDay 43 = .ok (.iload 4, 2) := dk_21 4 (dk_at dksX5_dayByDay_1 19 rfl rfl)
theorem dX5_dayByDay_45 : decode cX5_dayByDay 45 = .ok (.iload_n 3, 1) := dk_29 (dk_at dksX5_dayByDay_1 21 rfl rfl)
theorem dX5_dayByDay_46 : decode cX5_dayByDay 46 = .ok (.idiv, 1) := dk_108 (dk_at dksX5_dayByDay_1 22 rfl rfl)
theorem dX5_dayByDay_47 : decode cX5_dayByDay 47 = .ok (.iadd, 1) := dk_96 (dk_at dksX5_dayByDay_1 23 rfl rfl)
theorem dX5_dayByDay_48 : decode cX5_dayByDay 48 = .ok (.istore 5, 2) := dk_54 5 (dk_at dksX5_dayByDay_2 0 rfl rfl)
theorem dX5_dayByDay_50 : decode cX5_dayByDay 50 = .ok (.iload 4, 2) := dk_21 4 (dk_at dksX5_dayByDay_2 2 rfl rfl)
theorem dX5_dayByDay_52 : decode cX5_dayByDay 52 = .ok (.iload_n 3, 1) := dk_29 (dk_at dksX5_dayByDay_2 4 rfl rfl)
theorem dX5_dayByDay_53 : decode cX5_dayByDay 53 = .ok (.irem, 1) := dk_112 (dk_at dksX5_dayByDay_2 5 rfl rfl)
theorem dX5_dayByDay_54 : decode cX5_dayByDay 54 = .ok (.istore 4, 2) := dk_54 4 (dk_at dksX5_dayByDay_2 6 rfl rfl)
theorem dX5_dayByDay_56 : decode cX5_dayByDay 56 = .ok (.goto 21, 3) := dk_167 0 21 (dk_at dksX5_dayByDay_2 8 rfl rfl)
theorem dX5_dayByDay_59 : decode cX5_dayByDay 59 = .ok (.iinc 6 1, 3) := dk_132 6 1 (dk_at dksX5_dayByDay_2 11 rfl rfl)
theorem dX5_dayByDay_62 : decode cX5_dayByDay 62 = .ok (.iload 6, 2) := dk_21 6 (dk_at dksX5_dayByDay_2 14 rfl rfl)
theorem dX5_dayByDay_64 : decode cX5_dayByDay 64 = .ok (.iconst 3, 1) := dk_6 (dk_at dksX5_dayByDay_2 16 rfl rfl)
theorem dX5_dayByDay_65 : decode cX5_dayByDay 65 = .ok (.irem, 1) := dk_112 (dk_at dksX5_dayByDay_2 17 rfl rfl)
theorem dX5_dayByDay_66 : decode cX5_dayByDay 66 = .ok (.ifCond .ne 11, 3) := dk_154 0 11 (dk_at dksX5_dayByDay_2 18 rfl rfl)
theorem dX5_dayByDay_69 : decode cX5_dayByDay 69 = .ok (.iload 5, 2) := dk_21 5 (dk_at dksX5_dayByDay_2 21 rfl rfl)
theorem dX5_dayByDay_71 : decode cX5_dayByDay 71 = .ok (.ifCond .le 6, 3) := dk_158 0 6 (dk_at dksX5_dayByDay_3 0 rfl rfl)
theorem dX5_dayByDay_74 : decode cX5_dayByDay 74 = .ok (.iinc 5 (-1), 3) := dk_132 5 255 (dk_at dksX5_dayByDay_3 3 rfl rfl)
theorem dX5_dayByDay_77 : decode cX5_dayByDay 77 = .ok (.iinc 7 1, 3) := dk_132 7 1 (dk_at dksX5_dayByDay_3 6 rfl rfl)
theorem dX5_dayByDay_80 : decode cX5_dayByDay 80 = .ok (.goto (-62), 3) := dk_167 255 194 (dk_at dksX5_dayByDay_3 9 rfl rfl)
theorem dX5_dayByDay_83 : decode cX5_dayByDay 83 = .ok (.iload 5, 2) := dk_21 5 (dk_at dksX5_dayByDay_3 12 rfl rfl)
theorem dX5_dayByDay_85 : decode cX5_dayByDay 85 = .ok (.ireturn, 1) := dk_172 (dk_at dksX5_dayByDay_3 14 rfl rfl)
abbrev cX5_strongest : ByteArray := prog_18_method_46_code
def yX5_strongest : MethodName := ⟨RX5, "strongest", "(I)I"⟩
def dkwX5_strongest_4 : List UInt8 := [132, 2, 1, 167, 255, 162, 42, 4, 181, 0, 45, 3, 172]
abbrev dktX5_strongest_4 : List UInt8 := dkwX5_strongest_4 ++ []
def dkwX5_strongest_3 : List UInt8 := [62, 132, 4, 1, 167, 255, 212, 29, 27, 159, 0, 6, 167, 0, 10, 42, 3, 181, 0, 45, 28, 172]
abbrev dktX5_strongest_3 : List UInt8 := dkwX5_strongest_3 ++ dktX5_strongest_4
def dkwX5_strongest_2 : List UInt8 := [3, 182, 0, 121, 5, 159, 0, 17, 42, 21, 4, 28, 182, 0, 147, 153, 0, 7, 4, 167, 0, 4, 3, 96]
abbrev dktX5_strongest_2 : List UInt8 := dkwX5_strongest_2 ++ dktX5_strongest_3
def dkwX5_strongest_1 : List UInt8 := [167, 0, 70, 3, 62, 3, 54, 4, 21, 4, 42, 180, 0, 7, 16, 8, 46, 162, 0, 38, 29, 42, 21, 4]
abbrev dktX5_strongest_1 : List UInt8 := dkwX5_strongest_1 ++ dktX5_strongest_2
def dkwX5_strongest_0 : List UInt8 := [3, 61, 28, 42, 180, 0, 7, 16, 8, 46, 162, 0, 89, 42, 28, 3, 182, 0, 121, 5, 160, 0, 6]
abbrev dktX5_strongest_0 : List UInt8 := dkwX5_strongest_0 ++ dktX5_strongest_1
theorem dksX5_strongest_0 : cX5_strongest.data.toList.drop 0 = dktX5_strongest_0 := by decide +kernel
theorem dksX5_strongest_1 : cX5_strongest.data.toList.drop 23 = dktX5_strongest_1 := dk_seg dksX5_strongest_0 23 rfl rfl
theorem dksX5_strongest_2 : cX5_strongest.data.toList.drop 47 = dktX5_strongest_2 := dk_seg dksX5_strongest_1 24 rfl rfl
theorem dksX5_strongest_3 : cX5_strongest.data.toList.drop 71 = dktX5_strongest_3 := dk_seg dksX5_strongest_2 24 rfl rfl
theorem dksX5_strongest_4 : cX5_strongest.data.toList.drop 93 = dktX5_strongest_4 := dk_seg dksX5_strongest_3 22 rfl rfl
theorem dX5_strongest_0 : decode cX5_strongest 0 = .ok (.iconst 0, 1) := dk_3 (dk_at dksX5_strongest_0 0 rfl rfl)
theorem dX5_strongest_1 : decode cX5_strongest 1 = .ok (.istore_n 2, 1) := dk_61 (dk_at dksX5_strongest_0 1 rfl rfl)
theorem dX5_strongest_2 : decode cX5_strongest 2 = .ok (.iload_n 2, 1) := dk_28 (dk_at dksX5_strongest_0 2 rfl rfl)
theorem dX5_strongest_3 : decode cX5_strongest 3 = .ok (.aload_n 0, 1) := dk_42 (dk_at dksX5_strongest_0 3 rfl rfl)
theorem dX5_strongest_4 : decode cX5_strongest 4 = .ok (.getfield 7, 3) := dk_180 0 7 (dk_at dksX5_strongest_0 4 rfl rfl)
theorem dX5_strongest_7 : decode cX5_strongest 7 = .ok (.bipush 8, 2) := dk_16 8 (dk_at dksX5_strongest_0 7 rfl rfl)
theorem dX5_strongest_9 : decode cX5_strongest 9 = .ok (.iaload, 1) := dk_46 (dk_at dksX5_strongest_0 9 rfl rfl)
theorem dX5_strongest_10 : decode cX5_strongest 10 = .ok (.if_icmp .ge 89, 3) := dk_162 0 89 (dk_at dksX5_strongest_0 10 rfl rfl)
theorem dX5_strongest_13 : decode cX5_strongest 13 = .ok (.aload_n 0, 1) := dk_42 (dk_at dksX5_strongest_0 13 rfl rfl)
theorem dX5_strongest_14 : decode cX5_strongest 14 = .ok (.iload_n 2, 1) := dk_28 (dk_at dksX5_strongest_0 14 rfl rfl)
theorem dX5_strongest_15 : decode cX5_strongest 15 = .ok (.iconst 0, 1) := dk_3 (dk_at dksX5_strongest_0 15 rfl rfl)
theorem dX5_strongest_16 : decode cX5_strongest 16 = .ok (.invokevirtual 121, 3) := dk_182 0 121 (dk_at dksX5_strongest_0 16 rfl rfl)
theorem dX5_strongest_19 : decode cX5_strongest 19 = .ok (.iconst 2, 1) := dk_5 (dk_at dksX5_strongest_0 19 rfl rfl)
theorem dX5_strongest_20 : decode cX5_strongest 20 = .ok (.if_icmp .ne 6, 3) := dk_160 0 6 (dk_at dksX5_strongest_0 20 rfl rfl)
theorem dX5_strongest_23 : decode cX5_strongest 23 = .ok (.goto 70, 3) := dk_167 0 70 (dk_at dksX5_strongest_1 0 rfl rfl)
theorem dX5_strongest_26 : decode cX5_strongest 26 = .ok (.iconst 0, 1) := dk_3 (dk_at dksX5_strongest_1 3 rfl rfl)
theorem dX5_strongest_27 : decode cX5_strongest 27 = .ok (.istore_n 3, 1) := dk_62 (dk_at dksX5_strongest_1 4 rfl rfl)
theorem dX5_strongest_28 : decode cX5_strongest 28 = .ok (.iconst 0, 1) := dk_3 (dk_at dksX5_strongest_1 5 rfl rfl)
theorem dX5_strongest_29 : decode cX5_strongest 29 = .ok (.istore 4, 2) := dk_54 4 (dk_at dksX5_strongest_1 6 rfl rfl)
theorem dX5_strongest_31 : decode cX5_strongest 31 = .ok (.iload 4, 2) := dk_21 4 (dk_at dksX5_strongest_1 8 rfl rfl)
theorem dX5_strongest_33 : decode cX5_strongest 33 = .ok (.aload_n 0, 1) := dk_42 (dk_at dksX5_strongest_1 10 rfl rfl)
theorem dX5_strongest_34 : decode cX5_strongest 34 = .ok (.getfield 7, 3) := dk_180 0 7 (dk_at dksX5_strongest_1 11 rfl rfl)
theorem dX5_strongest_37 : decode cX5_strongest 37 = .ok (.bipush 8, 2) := dk_16 8 (dk_at dksX5_strongest_1 14 rfl rfl)
theorem dX5_strongest_39 : decode cX5_strongest 39 = .ok (.iaload, 1) := dk_46 (dk_at dksX5_strongest_1 16 rfl rfl)
theorem dX5_strongest_40 : decode cX5_strongest 40 = .ok (.if_icmp .ge 38, 3) := dk_162 0 38 (dk_at dksX5_strongest_1 17 rfl rfl)
theorem dX5_strongest_43 : decode cX5_strongest 43 = .ok (.iload_n 3, 1) := dk_29 (dk_at dksX5_strongest_1 20 rfl rfl)
theorem dX5_strongest_44 : decode cX5_strongest 44 = .ok (.aload_n 0, 1) := dk_42 (dk_at dksX5_strongest_1 21 rfl rfl)
theorem dX5_strongest_45 : decode cX5_strongest 45 = .ok (.iload 4, 2) := dk_21 4 (dk_at dksX5_strongest_1 22 rfl rfl)
theorem dX5_strongest_47 : decode cX5_strongest 47 = .ok (.iconst 0, 1) := dk_3 (dk_at dksX5_strongest_2 0 rfl rfl)
theorem dX5_strongest_48 : decode cX5_strongest 48 = .ok (.invokevirtual 121, 3) := dk_182 0 121 (dk_at dksX5_strongest_2 1 rfl rfl)
theorem dX5_strongest_51 : decode cX5_strongest 51 = .ok (.iconst 2, 1) := dk_5 (dk_at dksX5_strongest_2 4 rfl rfl)
theorem dX5_strongest_52 : decode cX5_strongest 52 = .ok (.if_icmp .eq 17, 3) := dk_159 0 17 (dk_at dksX5_strongest_2 5 rfl rfl)
theorem dX5_strongest_55 : decode cX5_strongest 55 = .ok (.aload_n 0, 1) := dk_42 (dk_at dksX5_strongest_2 8 rfl rfl)
theorem dX5_strongest_56 : decode cX5_strongest 56 = .ok (.iload 4, 2) := dk_21 4 (dk_at dksX5_strongest_2 9 rfl rfl)
theorem dX5_strongest_58 : decode cX5_strongest 58 = .ok (.iload_n 2, 1) := dk_28 (dk_at dksX5_strongest_2 11 rfl rfl)
theorem dX5_strongest_59 : decode cX5_strongest 59 = .ok (.invokevirtual 147, 3) := dk_182 0 147 (dk_at dksX5_strongest_2 12 rfl rfl)
theorem dX5_strongest_62 : decode cX5_strongest 62 = .ok (.ifCond .eq 7, 3) := dk_153 0 7 (dk_at dksX5_strongest_2 15 rfl rfl)
theorem dX5_strongest_65 : decode cX5_strongest 65 = .ok (.iconst 1, 1) := dk_4 (dk_at dksX5_strongest_2 18 rfl rfl)
theorem dX5_strongest_66 : decode cX5_strongest 66 = .ok (.goto 4, 3) := dk_167 0 4 (dk_at dksX5_strongest_2 19 rfl rfl)
theorem dX5_strongest_69 : decode cX5_strongest 69 = .ok (.iconst 0, 1) := dk_3 (dk_at dksX5_strongest_2 22 rfl rfl)
theorem dX5_strongest_70 : decode cX5_strongest 70 = .ok (.iadd, 1) := dk_96 (dk_at dksX5_strongest_2 23 rfl rfl)
theorem dX5_strongest_71 : decode cX5_strongest 71 = .ok (.istore_n 3, 1) := dk_62 (dk_at dksX5_strongest_3 0 rfl rfl)
theorem dX5_strongest_72 : decode cX5_strongest 72 = .ok (.iinc 4 1, 3) := dk_132 4 1 (dk_at dksX5_strongest_3 1 rfl rfl)
theorem dX5_strongest_75 : decode cX5_strongest 75 = .ok (.goto (-44), 3) := dk_167 255 212 (dk_at dksX5_strongest_3 4 rfl rfl)
theorem dX5_strongest_78 : decode cX5_strongest 78 = .ok (.iload_n 3, 1) := dk_29 (dk_at dksX5_strongest_3 7 rfl rfl)
theorem dX5_strongest_79 : decode cX5_strongest 79 = .ok (.iload_n 1, 1) := dk_27 (dk_at dksX5_strongest_3 8 rfl rfl)
theorem dX5_strongest_80 : decode cX5_strongest 80 = .ok (.if_icmp .eq 6, 3) := dk_159 0 6 (dk_at dksX5_strongest_3 9 rfl rfl)
theorem dX5_strongest_83 : decode cX5_strongest 83 = .ok (.goto 10, 3) := dk_167 0 10 (dk_at dksX5_strongest_3 12 rfl rfl)
theorem dX5_strongest_86 : decode cX5_strongest 86 = .ok (.aload_n 0, 1) := dk_42 (dk_at dksX5_strongest_3 15 rfl rfl)
theorem dX5_strongest_87 : decode cX5_strongest 87 = .ok (.iconst 0, 1) := dk_3 (dk_at dksX5_strongest_3 16 rfl rfl)
theorem dX5_strongest_88 : decode cX5_strongest 88 = .ok (.putfield 45, 3) := dk_181 0 45 (dk_at dksX5_strongest_3 17 rfl rfl)
theorem dX5_strongest_91 : decode cX5_strongest 91 = .ok (.iload_n 2, 1) := dk_28 (dk_at dksX5_strongest_3 20 rfl rfl)
theorem dX5_strongest_92 : decode cX5_strongest 92 = .ok (.ireturn, 1) := dk_172 (dk_at dksX5_strongest_3 21 rfl rfl)
theorem dX5_strongest_93 : decode cX5_strongest 93 = .ok (.iinc 2 1, 3) := dk_132 2 1 (dk_at dksX5_strongest_4 0 rfl rfl)
theorem dX5_strongest_96 : decode cX5_strongest 96 = .ok (.goto (-94), 3) := dk_167 255 162 (dk_at dksX5_strongest_4 3 rfl rfl)
theorem dX5_strongest_99 : decode cX5_strongest 99 = .ok (.aload_n 0, 1) := dk_42 (dk_at dksX5_strongest_4 6 rfl rfl)
theorem dX5_strongest_100 : decode cX5_strongest 100 = .ok (.iconst 1, 1) := dk_4 (dk_at dksX5_strongest_4 7 rfl rfl)
theorem dX5_strongest_101 : decode cX5_strongest 101 = .ok (.putfield 45, 3) := dk_181 0 45 (dk_at dksX5_strongest_4 8 rfl rfl)
theorem dX5_strongest_104 : decode cX5_strongest 104 = .ok (.iconst 0, 1) := dk_3 (dk_at dksX5_strongest_4 11 rfl rfl)
theorem dX5_strongest_105 : decode cX5_strongest 105 = .ok (.ireturn, 1) := dk_172 (dk_at dksX5_strongest_4 12 rfl rfl)
abbrev cX5_isStronger : ByteArray := prog_18_method_45_code
def yX5_isStronger : MethodName := ⟨RX5, "isStronger", "(II)Z"⟩
def dkwX5_isStronger_3 : List UInt8 := [28, 162, 0, 7, 4, 167, 0, 4, 3, 172]
abbrev dktX5_isStronger_3 : List UInt8 := dkwX5_isStronger_3 ++ []
def dkwX5_isStronger_2 : List UInt8 := [42, 27, 5, 182, 0, 121, 42, 28, 5, 182, 0, 121, 164, 0, 7, 4, 167, 0, 17, 3, 167, 0, 13, 27]
abbrev dktX5_isStronger_2 : List UInt8 := dkwX5_isStronger_2 ++ dktX5_isStronger_3
def dkwX5_isStronger_1 : List UInt8 := [164, 0, 7, 4, 167, 0, 4, 3, 172, 42, 27, 5, 182, 0, 121, 42, 28, 5, 182, 0, 121, 159, 0, 26]
abbrev dktX5_isStronger_1 : List UInt8 := dkwX5_isStronger_1 ++ dktX5_isStronger_2
def dkwX5_isStronger_0 : List UInt8 := [42, 27, 182, 0, 130, 42, 28, 182, 0, 130, 159, 0, 22, 42, 27, 182, 0, 130, 42, 28, 182, 0, 130]
abbrev dktX5_isStronger_0 : List UInt8 := dkwX5_isStronger_0 ++ dktX5_isStronger_1
theorem dksX5_isStronger_0 : cX5_isStronger.data.toList.drop 0 = dktX5_isStronger_0 := by decide +kernel
theorem dksX5_isStronger_1 : cX5_isStronger.data.toList.drop 23 = dktX5_isStronger_1 := dk_seg dksX5_isStronger_0 23 rfl rfl
theorem dksX5_isStronger_2 : cX5_isStronger.data.toList.drop 47 = dktX5_isStronger_2 := dk_seg dksX5_isStronger_1 24 rfl rfl
theorem dksX5_isStronger_3 : cX5_isStronger.data.toList.drop 71 = dktX5_isStronger_3 := dk_seg dksX5_isStronger_2 24 rfl rfl
theorem dX5_isStronger_0 : decode cX5_isStronger 0 = .ok (.aload_n 0, 1) := dk_42 (dk_at dksX5_isStronger_0 0 rfl rfl)
theorem dX5_isStronger_1 : decode cX5_isStronger 1 = .ok (.iload_n 1, 1) := dk_27 (dk_at dksX5_isStronger_0 1 rfl rfl)
theorem dX5_isStronger_2 : decode cX5_isStronger 2 = .ok (.invokevirtual 130, 3) := dk_182 0 130 (dk_at dksX5_isStronger_0 2 rfl rfl)
theorem dX5_isStronger_5 : decode cX5_isStronger 5 = .ok (.aload_n 0, 1) := dk_42 (dk_at dksX5_isStronger_0 5 rfl rfl)
theorem dX5_isStronger_6 : decode cX5_isStronger 6 = .ok (.iload_n 2, 1) := dk_28 (dk_at dksX5_isStronger_0 6 rfl rfl)
theorem dX5_isStronger_7 : decode cX5_isStronger 7 = .ok (.invokevirtual 130, 3) := dk_182 0 130 (dk_at dksX5_isStronger_0 7 rfl rfl)
theorem dX5_isStronger_10 : decode cX5_isStronger 10 = .ok (.if_icmp .eq 22, 3) := dk_159 0 22 (dk_at dksX5_isStronger_0 10 rfl rfl)
theorem dX5_isStronger_13 : decode cX5_isStronger 13 = .ok (.aload_n 0, 1) := dk_42 (dk_at dksX5_isStronger_0 13 rfl rfl)
theorem dX5_isStronger_14 : decode cX5_isStronger 14 = .ok (.iload_n 1, 1) := dk_27 (dk_at dksX5_isStronger_0 14 rfl rfl)
theorem dX5_isStronger_15 : decode cX5_isStronger 15 = .ok (.invokevirtual 130, 3) := dk_182 0 130 (dk_at dksX5_isStronger_0 15 rfl rfl)
theorem dX5_isStronger_18 : decode cX5_isStronger 18 = .ok (.aload_n 0, 1) := dk_42 (dk_at dksX5_isStronger_0 18 rfl rfl)
theorem dX5_isStronger_19 : decode cX5_isStronger 19 = .ok (.iload_n 2, 1) := dk_28 (dk_at dksX5_isStronger_0 19 rfl rfl)
theorem dX5_isStronger_20 : decode cX5_isStronger 20 = .ok (.invokevirtual 130, 3) := dk_182 0 130 (dk_at dksX5_isStronger_0 20 rfl rfl)
theorem dX5_isStronger_23 : decode cX5_isStronger 23 = .ok (.if_icmp .le 7, 3) := dk_164 0 7 (dk_at dksX5_isStronger_1 0 rfl rfl)
theorem dX5_isStronger_26 : decode cX5_isStronger 26 = .ok (.iconst 1, 1) := dk_4 (dk_at dksX5_isStronger_1 3 rfl rfl)
theorem dX5_isStronger_27 : decode cX5_isStronger 27 = .ok (.goto 4, 3) := dk_167 0 4 (dk_at dksX5_isStronger_1 4 rfl rfl)
theorem dX5_isStronger_30 : decode cX5_isStronger 30 = .ok (.iconst 0, 1) := dk_3 (dk_at dksX5_isStronger_1 7 rfl rfl)
theorem dX5_isStronger_31 : decode cX5_isStronger 31 = .ok (.ireturn, 1) := dk_172 (dk_at dksX5_isStronger_1 8 rfl rfl)
theorem dX5_isStronger_32 : decode cX5_isStronger 32 = .ok (.aload_n 0, 1) := dk_42 (dk_at dksX5_isStronger_1 9 rfl rfl)
theorem dX5_isStronger_33 : decode cX5_isStronger 33 = .ok (.iload_n 1, 1) := dk_27 (dk_at dksX5_isStronger_1 10 rfl rfl)
theorem dX5_isStronger_34 : decode cX5_isStronger 34 = .ok (.iconst 2, 1) := dk_5 (dk_at dksX5_isStronger_1 11 rfl rfl)
theorem dX5_isStronger_35 : decode cX5_isStronger 35 = .ok (.invokevirtual 121, 3) := dk_182 0 121 (dk_at dksX5_isStronger_1 12 rfl rfl)
theorem dX5_isStronger_38 : decode cX5_isStronger 38 = .ok (.aload_n 0, 1) := dk_42 (dk_at dksX5_isStronger_1 15 rfl rfl)
theorem dX5_isStronger_39 : decode cX5_isStronger 39 = .ok (.iload_n 2, 1) := dk_28 (dk_at dksX5_isStronger_1 16 rfl rfl)
theorem dX5_isStronger_40 : decode cX5_isStronger 40 = .ok (.iconst 2, 1) := dk_5 (dk_at dksX5_isStronger_1 17 rfl rfl)
theorem dX5_isStronger_41 : decode cX5_isStronger 41 = .ok (.invokevirtual 121, 3) := dk_182 0 121 (dk_at dksX5_isStronger_1 18 rfl rfl)
theorem dX5_isStronger_44 : decode cX5_isStronger 44 = .ok (.if_icmp .eq 26, 3) := dk_159 0 26 (dk_at dksX5_isStronger_1 21 rfl rfl)
theorem dX5_isStronger_47 : decode cX5_isStronger 47 = .ok (.aload_n 0, 1) := dk_42 (dk_at dksX5_isStronger_2 0 rfl rfl)
theorem dX5_isStronger_48 : decode cX5_isStronger 48 = .ok (.iload_n 1, 1) := dk_27 (dk_at dksX5_isStronger_2 1 rfl rfl)
theorem dX5_isStronger_49 : decode cX5_isStronger 49 = .ok (.iconst 2, 1) := dk_5 (dk_at dksX5_isStronger_2 2 rfl rfl)
theorem dX5_isStronger_50 : decode cX5_isStronger 50 = .ok (.invokevirtual 121, 3) := dk_182 0 121 (dk_at dksX5_isStronger_2 3 rfl rfl)
theorem dX5_isStronger_53 : decode cX5_isStronger 53 = .ok (.aload_n 0, 1) := dk_42 (dk_at dksX5_isStronger_2 6 rfl rfl)
theorem dX5_isStronger_54 : decode cX5_isStronger 54 = .ok (.iload_n 2, 1) := dk_28 (dk_at dksX5_isStronger_2 7 rfl rfl)
theorem dX5_isStronger_55 : decode cX5_isStronger 55 = .ok (.iconst 2, 1) := dk_5 (dk_at dksX5_isStronger_2 8 rfl rfl)
theorem dX5_isStronger_56 : decode cX5_isStronger 56 = .ok (.invokevirtual 121, 3) := dk_182 0 121 (dk_at dksX5_isStronger_2 9 rfl rfl)
theorem dX5_isStronger_59 : decode cX5_isStronger 59 = .ok (.if_icmp .le 7, 3) := dk_164 0 7 (dk_at dksX5_isStronger_2 12 rfl rfl)
theorem dX5_isStronger_62 : decode cX5_isStronger 62 = .ok (.iconst 1, 1) := dk_4 (dk_at dksX5_isStronger_2 15 rfl rfl)
theorem dX5_isStronger_63 : decode cX5_isStronger 63 = .ok (.goto 17, 3) := dk_167 0 17 (dk_at dksX5_isStronger_2 16 rfl rfl)
theorem dX5_isStronger_66 : decode cX5_isStronger 66 = .ok (.iconst 0, 1) := dk_3 (dk_at dksX5_isStronger_2 19 rfl rfl)
theorem dX5_isStronger_67 : decode cX5_isStronger 67 = .ok (.goto 13, 3) := dk_167 0 13 (dk_at dksX5_isStronger_2 20 rfl rfl)
theorem dX5_isStronger_70 : decode cX5_isStronger 70 = .ok (.iload_n 1, 1) := dk_27 (dk_at dksX5_isStronger_2 23 rfl rfl)
theorem dX5_isStronger_71 : decode cX5_isStronger 71 = .ok (.iload_n 2, 1) := dk_28 (dk_at dksX5_isStronger_3 0 rfl rfl)
theorem dX5_isStronger_72 : decode cX5_isStronger 72 = .ok (.if_icmp .ge 7, 3) := dk_162 0 7 (dk_at dksX5_isStronger_3 1 rfl rfl)
theorem dX5_isStronger_75 : decode cX5_isStronger 75 = .ok (.iconst 1, 1) := dk_4 (dk_at dksX5_isStronger_3 4 rfl rfl)
theorem dX5_isStronger_76 : decode cX5_isStronger 76 = .ok (.goto 4, 3) := dk_167 0 4 (dk_at dksX5_isStronger_3 5 rfl rfl)
theorem dX5_isStronger_79 : decode cX5_isStronger 79 = .ok (.iconst 0, 1) := dk_3 (dk_at dksX5_isStronger_3 8 rfl rfl)
theorem dX5_isStronger_80 : decode cX5_isStronger 80 = .ok (.ireturn, 1) := dk_172 (dk_at dksX5_isStronger_3 9 rfl rfl)
abbrev cX5_order : ByteArray := prog_18_method_47_code
def yX5_order : MethodName := ⟨RX5, "order", "(II)I"⟩
def dkwX5_order_5 : List UInt8 := [3, 79, 42, 180, 0, 7, 17, 0, 189, 7, 29, 104, 96, 6, 96, 2, 79, 29, 172]
abbrev dktX5_order_5 : List UInt8 := dkwX5_order_5 ++ []
def dkwX5_order_4 : List UInt8 := [17, 0, 189, 7, 29, 104, 96, 4, 96, 28, 79, 42, 180, 0, 7, 17, 0, 189, 7, 29, 104, 96, 5, 96]
abbrev dktX5_order_4 : List UInt8 := dkwX5_order_4 ++ dktX5_order_5
def dkwX5_order_3 : List UInt8 := [16, 9, 92, 46, 4, 96, 79, 42, 180, 0, 7, 17, 0, 189, 7, 29, 104, 96, 27, 79, 42, 180, 0, 7]
abbrev dktX5_order_3 : List UInt8 := dkwX5_order_3 ++ dktX5_order_4
def dkwX5_order_2 : List UInt8 := [182, 0, 77, 172, 42, 42, 180, 0, 7, 182, 0, 81, 42, 180, 0, 7, 16, 9, 46, 62, 42, 180, 0, 7]
abbrev dktX5_order_2 : List UInt8 := dkwX5_order_2 ++ dktX5_order_3
def dkwX5_order_1 : List UInt8 := [153, 0, 5, 3, 172, 42, 180, 0, 7, 16, 9, 46, 16, 8, 160, 0, 12, 42, 5, 4, 16, 8]
abbrev dktX5_order_1 : List UInt8 := dkwX5_order_1 ++ dktX5_order_2
def dkwX5_order_0 : List UInt8 := [42, 27, 155, 0, 18, 27, 28, 163, 0, 13, 28, 16, 30, 163, 0, 7, 3, 167, 0, 4, 4, 182, 0, 73]
abbrev dktX5_order_0 : List UInt8 := dkwX5_order_0 ++ dktX5_order_1
theorem dksX5_order_0 : cX5_order.data.toList.drop 0 = dktX5_order_0 := by decide +kernel
theorem dksX5_order_1 : cX5_order.data.toList.drop 24 = dktX5_order_1 := dk_seg dksX5_order_0 24 rfl rfl
theorem dksX5_order_2 : cX5_order.data.toList.drop 46 = dktX5_order_2 := dk_seg dksX5_order_1 22 rfl rfl
theorem dksX5_order_3 : cX5_order.data.toList.drop 70 = dktX5_order_3 := dk_seg dksX5_order_2 24 rfl rfl
theorem dksX5_order_4 : cX5_order.data.toList.drop 94 = dktX5_order_4 := dk_seg dksX5_order_3 24 rfl rfl
theorem dksX5_order_5 : cX5_order.data.toList.drop 118 = dktX5_order_5 := dk_seg dksX5_order_4 24 rfl rfl
theorem dX5_order_0 : decode cX5_order 0 = .ok (.aload_n 0, 1) := dk_42 (dk_at dksX5_order_0 0 rfl rfl)
theorem dX5_order_1 : decode cX5_order 1 = .ok (.iload_n 1, 1) := dk_27 (dk_at dksX5_order_0 1 rfl rfl)
theorem dX5_order_2 : decode cX5_order 2 = .ok (.ifCond .lt 18, 3) := dk_155 0 18 (dk_at dksX5_order_0 2 rfl rfl)
theorem dX5_order_5 : decode cX5_order 5 = .ok (.iload_n 1, 1) := dk_27 (dk_at dksX5_order_0 5 rfl rfl)
theorem dX5_order_6 : decode cX5_order 6 = .ok (.iload_n 2, 1) := dk_28 (dk_at dksX5_order_0 6 rfl rfl)
theorem dX5_order_7 : decode cX5_order 7 = .ok (.if_icmp .gt 13, 3) := dk_163 0 13 (dk_at dksX5_order_0 7 rfl rfl)
theorem dX5_order_10 : decode cX5_order 10 = .ok (.iload_n 2, 1) := dk_28 (dk_at dksX5_order_0 10 rfl rfl)
theorem dX5_order_11 : decode cX5_order 11 = .ok (.bipush 30, 2) := dk_16 30 (dk_at dksX5_order_0 11 rfl rfl)
theorem dX5_order_13 : decode cX5_order 13 = .ok (.if_icmp .gt 7, 3) := dk_163 0 7 (dk_at dksX5_order_0 13 rfl rfl)
theorem dX5_order_16 : decode cX5_order 16 = .ok (.iconst 0, 1) := dk_3 (dk_at dksX5_order_0 16 rfl rfl)
theorem dX5_order_17 : decode cX5_order 17 = .ok (.goto 4, 3) := dk_167 0 4 (dk_at dksX5_order_0 17 rfl rfl)
theorem dX5_order_20 : decode cX5_order 20 = .ok (.iconst 1, 1) := dk_4 (dk_at dksX5_order_0 20 rfl rfl)
theorem dX5_order_21 : decode cX5_order 21 = .ok (.invokevirtual 73, 3) := dk_182 0 73 (dk_at dksX5_order_0 21 rfl rfl)
theorem dX5_order_24 : decode cX5_order 24 = .ok (.ifCond .eq 5, 3) := dk_153 0 5 (dk_at dksX5_order_1 0 rfl rfl)
theorem dX5_order_27 : decode cX5_order 27 = .ok (.iconst 0, 1) := dk_3 (dk_at dksX5_order_1 3 rfl rfl)
theorem dX5_order_28 : decode cX5_order 28 = .ok (.ireturn, 1) := dk_172 (dk_at dksX5_order_1 4 rfl rfl)
theorem dX5_order_29 : decode cX5_order 29 = .ok (.aload_n 0, 1) := dk_42 (dk_at dksX5_order_1 5 rfl rfl)
theorem dX5_order_30 : decode cX5_order 30 = .ok (.getfield 7, 3) := dk_180 0 7 (dk_at dksX5_order_1 6 rfl rfl)
theorem dX5_order_33 : decode cX5_order 33 = .ok (.bipush 9, 2) := dk_16 9 (dk_at dksX5_order_1 9 rfl rfl)
theorem dX5_order_35 : decode cX5_order 35 = .ok (.iaload, 1) := dk_46 (dk_at dksX5_order_1 11 rfl rfl)
theorem dX5_order_36 : decode cX5_order 36 = .ok (.bipush 8, 2) := dk_16 8 (dk_at dksX5_order_1 12 rfl rfl)
theorem dX5_order_38 : decode cX5_order 38 = .ok (.if_icmp .ne 12, 3) := dk_160 0 12 (dk_at dksX5_order_1 14 rfl rfl)
theorem dX5_order_41 : decode cX5_order 41 = .ok (.aload_n 0, 1) := dk_42 (dk_at dksX5_order_1 17 rfl rfl)
theorem dX5_order_42 : decode cX5_order 42 = .ok (.iconst 2, 1) := dk_5 (dk_at dksX5_order_1 18 rfl rfl)
theorem dX5_order_43 : decode cX5_order 43 = .ok (.iconst 1, 1) := dk_4 (dk_at dksX5_order_1 19 rfl rfl)
theorem dX5_order_44 : decode cX5_order 44 = .ok (.bipush 8, 2) := dk_16 8 (dk_at dksX5_order_1 20 rfl rfl)
theorem dX5_order_46 : decode cX5_order 46 = .ok (.invokevirtual 77, 3) := dk_182 0 77 (dk_at dksX5_order_2 0 rfl rfl)
theorem dX5_order_49 : decode cX5_order 49 = .ok (.ireturn, 1) := dk_172 (dk_at dksX5_order_2 3 rfl rfl)
theorem dX5_order_50 : decode cX5_order 50 = .ok (.aload_n 0, 1) := dk_42 (dk_at dksX5_order_2 4 rfl rfl)
theorem dX5_order_51 : decode cX5_order 51 = .ok (.aload_n 0, 1) := dk_42 (dk_at dksX5_order_2 5 rfl rfl)
theorem dX5_order_52 : decode cX5_order 52 = .ok (.getfield 7, 3) := dk_180 0 7 (dk_at dksX5_order_2 6 rfl rfl)
theorem dX5_order_55 : decode cX5_order 55 = .ok (.invokevirtual 81, 3) := dk_182 0 81 (dk_at dksX5_order_2 9 rfl rfl)
theorem dX5_order_58 : decode cX5_order 58 = .ok (.aload_n 0, 1) := dk_42 (dk_at dksX5_order_2 12 rfl rfl)
theorem dX5_order_59 : decode cX5_order 59 = .ok (.getfield 7, 3) := dk_180 0 7 (dk_at dksX5_order_2 13 rfl rfl)
theorem dX5_order_62 : decode cX5_order 62 = .ok (.bipush 9, 2) := dk_16 9 (dk_at dksX5_order_2 16 rfl rfl)
theorem dX5_order_64 : decode cX5_order 64 = .ok (.iaload, 1) := dk_46 (dk_at dksX5_order_2 18 rfl rfl)
theorem dX5_order_65 : decode cX5_order 65 = .ok (.istore_n 3, 1) := dk_62 (dk_at dksX5_order_2 19 rfl rfl)
theorem dX5_order_66 : decode cX5_order 66 = .ok (.aload_n 0, 1) := dk_42 (dk_at dksX5_order_2 20 rfl rfl)
theorem dX5_order_67 : decode cX5_order 67 = .ok (.getfield 7, 3) := dk_180 0 7 (dk_at dksX5_order_2 21 rfl rfl)
theorem dX5_order_70 : decode cX5_order 70 = .ok (.bipush 9, 2) := dk_16 9 (dk_at dksX5_order_3 0 rfl rfl)
theorem dX5_order_72 : decode cX5_order 72 = .ok (.dup2, 1) := dk_92 (dk_at dksX5_order_3 2 rfl rfl)
theorem dX5_order_73 : decode cX5_order 73 = .ok (.iaload, 1) := dk_46 (dk_at dksX5_order_3 3 rfl rfl)
theorem dX5_order_74 : decode cX5_order 74 = .ok (.iconst 1, 1) := dk_4 (dk_at dksX5_order_3 4 rfl rfl)
theorem dX5_order_75 : decode cX5_order 75 = .ok (.iadd, 1) := dk_96 (dk_at dksX5_order_3 5 rfl rfl)
theorem dX5_order_76 : decode cX5_order 76 = .ok (.iastore, 1) := dk_79 (dk_at dksX5_order_3 6 rfl rfl)
theorem dX5_order_77 : decode cX5_order 77 = .ok (.aload_n 0, 1) := dk_42 (dk_at dksX5_order_3 7 rfl rfl)
theorem dX5_order_78 : decode cX5_order 78 = .ok (.getfield 7, 3) := dk_180 0 7 (dk_at dksX5_order_3 8 rfl rfl)
theorem dX5_order_81 : decode cX5_order 81 = .ok (.sipush 189, 3) := dk_17 0 189 (dk_at dksX5_order_3 11 rfl rfl)
theorem dX5_order_84 : decode cX5_order 84 = .ok (.iconst 4, 1) := dk_7 (dk_at dksX5_order_3 14 rfl rfl)
theorem dX5_order_85 : decode cX5_order 85 = .ok (.iload_n 3, 1) := dk_29 (dk_at dksX5_order_3 15 rfl rfl)
theorem dX5_order_86 : decode cX5_order 86 = .ok (.imul, 1) := dk_104 (dk_at dksX5_order_3 16 rfl rfl)
theorem dX5_order_87 : decode cX5_order 87 = .ok (.iadd, 1) := dk_96 (dk_at dksX5_order_3 17 rfl rfl)
theorem dX5_order_88 : decode cX5_order 88 = .ok (.iload_n 1, 1) := dk_27 (dk_at dksX5_order_3 18 rfl rfl)
theorem dX5_order_89 : decode cX5_order 89 = .ok (.iastore, 1) := dk_79 (dk_at dksX5_order_3 19 rfl rfl)
theorem dX5_order_90 : decode cX5_order 90 = .ok (.aload_n 0, 1) := dk_42 (dk_at dksX5_order_3 20 rfl rfl)
theorem dX5_order_91 : decode cX5_order 91 = .ok (.getfield 7, 3) := dk_180 0 7 (dk_at dksX5_order_3 21 rfl rfl)
theorem dX5_order_94 : decode cX5_order 94 = .ok (.sipush 189, 3) := dk_17 0 189 (dk_at dksX5_order_4 0 rfl rfl)
theorem dX5_order_97 : decode cX5_order 97 = .ok (.iconst 4, 1) := dk_7 (dk_at dksX5_order_4 3 rfl rfl)
theorem dX5_order_98 : decode cX5_order 98 = .ok (.iload_n 3, 1) := dk_29 (dk_at dksX5_order_4 4 rfl rfl)
theorem dX5_order_99 : decode cX5_order 99 = .ok (.imul, 1) := dk_104 (dk_at dksX5_order_4 5 rfl rfl)
theorem dX5_order_100 : decode cX5_order 100 = .ok (.iadd, 1) := dk_96 (dk_at dksX5_order_4 6 rfl rfl)
theorem dX5_order_101 : decode cX5_order 101 = .ok (.iconst 1, 1) := dk_4 (dk_at dksX5_order_4 7 rfl rfl)
theorem dX5_order_102 : decode cX5_order 102 = .ok (.iadd, 1) := dk_96 (dk_at dksX5_order_4 8 rfl rfl)
theorem dX5_order_103 : decode cX5_order 103 = .ok (.iload_n 2, 1) := dk_28 (dk_at dksX5_order_4 9 rfl rfl)
theorem dX5_order_104 : decode cX5_order 104 = .ok (.iastore, 1) := dk_79 (dk_at dksX5_order_4 10 rfl rfl)
theorem dX5_order_105 : decode cX5_order 105 = .ok (.aload_n 0, 1) := dk_42 (dk_at dksX5_order_4 11 rfl rfl)
theorem dX5_order_106 : decode cX5_order 106 = .ok (.getfield 7, 3) := dk_180 0 7 (dk_at dksX5_order_4 12 rfl rfl)
theorem dX5_order_109 : decode cX5_order 109 = .ok (.sipush 189, 3) := dk_17 0 189 (dk_at dksX5_order_4 15 rfl rfl)
theorem dX5_order_112 : decode cX5_order 112 = .ok (.iconst 4, 1) := dk_7 (dk_at dksX5_order_4 18 rfl rfl)
theorem dX5_order_113 : decode cX5_order 113 = .ok (.iload_n 3, 1) := dk_29 (dk_at dksX5_order_4 19 rfl rfl)
theorem dX5_order_114 : decode cX5_order 114 = .ok (.imul, 1) := dk_104 (dk_at dksX5_order_4 20 rfl rfl)
theorem dX5_order_115 : decode cX5_order 115 = .ok (.iadd, 1) := dk_96 (dk_at dksX5_order_4 21 rfl rfl)
theorem dX5_order_116 : decode cX5_order 116 = .ok (.iconst 2, 1) := dk_5 (dk_at dksX5_order_4 22 rfl rfl)
theorem dX5_order_117 : decode cX5_order 117 = .ok (.iadd, 1) := dk_96 (dk_at dksX5_order_4 23 rfl rfl)
theorem dX5_order_118 : decode cX5_order 118 = .ok (.iconst 0, 1) := dk_3 (dk_at dksX5_order_5 0 rfl rfl)
theorem dX5_order_119 : decode cX5_order 119 = .ok (.iastore, 1) := dk_79 (dk_at dksX5_order_5 1 rfl rfl)
theorem dX5_order_120 : decode cX5_order 120 = .ok (.aload_n 0, 1) := dk_42 (dk_at dksX5_order_5 2 rfl rfl)
theorem dX5_order_121 : decode cX5_order 121 = .ok (.getfield 7, 3) := dk_180 0 7 (dk_at dksX5_order_5 3 rfl rfl)
theorem dX5_order_124 : decode cX5_order 124 = .ok (.sipush 189, 3) := dk_17 0 189 (dk_at dksX5_order_5 6 rfl rfl)
theorem dX5_order_127 : decode cX5_order 127 = .ok (.iconst 4, 1) := dk_7 (dk_at dksX5_order_5 9 rfl rfl)
theorem dX5_order_128 : decode cX5_order 128 = .ok (.iload_n 3, 1) := dk_29 (dk_at dksX5_order_5 10 rfl rfl)
theorem dX5_order_129 : decode cX5_order 129 = .ok (.imul, 1) := dk_104 (dk_at dksX5_order_5 11 rfl rfl)
theorem dX5_order_130 : decode cX5_order 130 = .ok (.iadd, 1) := dk_96 (dk_at dksX5_order_5 12 rfl rfl)
theorem dX5_order_131 : decode cX5_order 131 = .ok (.iconst 3, 1) := dk_6 (dk_at dksX5_order_5 13 rfl rfl)
theorem dX5_order_132 : decode cX5_order 132 = .ok (.iadd, 1) := dk_96 (dk_at dksX5_order_5 14 rfl rfl)
theorem dX5_order_133 : decode cX5_order 133 = .ok (.iconst (-1), 1) := dk_2 (dk_at dksX5_order_5 15 rfl rfl)
theorem dX5_order_134 : decode cX5_order 134 = .ok (.iastore, 1) := dk_79 (dk_at dksX5_order_5 16 rfl rfl)
theorem dX5_order_135 : decode cX5_order 135 = .ok (.iload_n 3, 1) := dk_29 (dk_at dksX5_order_5 17 rfl rfl)
theorem dX5_order_136 : decode cX5_order 136 = .ok (.ireturn, 1) := dk_172 (dk_at dksX5_order_5 18 rfl rfl)
abbrev cX5_serve : ByteArray := prog_18_method_50_code
def yX5_serve : MethodName := ⟨RX5, "serve", "(I)I"⟩
def dkwX5_serve_5 : List UInt8 := [28, 79, 28, 172]
abbrev dktX5_serve_5 : List UInt8 := dkwX5_serve_5 ++ []
def dkwX5_serve_4 : List UInt8 := [17, 0, 189, 7, 27, 104, 96, 5, 96, 4, 79, 42, 180, 0, 7, 17, 0, 189, 7, 27, 104, 96, 6, 96]
abbrev dktX5_serve_4 : List UInt8 := dkwX5_serve_4 ++ dktX5_serve_5
def dkwX5_serve_3 : List UInt8 := [42, 28, 5, 182, 0, 136, 42, 42, 28, 6, 182, 0, 121, 5, 108, 5, 96, 182, 0, 140, 42, 180, 0, 7]
abbrev dktX5_serve_3 : List UInt8 := dkwX5_serve_3 ++ dktX5_serve_4
def dkwX5_serve_2 : List UInt8 := [156, 0, 16, 42, 5, 16, 11, 42, 3, 182, 0, 163, 182, 0, 77, 172, 42, 42, 180, 0, 7, 182, 0, 81]
abbrev dktX5_serve_2 : List UInt8 := dkwX5_serve_2 ++ dktX5_serve_3
def dkwX5_serve_1 : List UInt8 := [5, 182, 0, 154, 4, 160, 0, 12, 42, 5, 16, 10, 27, 182, 0, 77, 172, 42, 27, 182, 0, 160, 61, 28]
abbrev dktX5_serve_1 : List UInt8 := dkwX5_serve_1 ++ dktX5_serve_2
def dkwX5_serve_0 : List UInt8 := [42, 42, 27, 182, 0, 157, 153, 0, 7, 3, 167, 0, 4, 4, 182, 0, 73, 153, 0, 5, 3, 172, 42, 27]
abbrev dktX5_serve_0 : List UInt8 := dkwX5_serve_0 ++ dktX5_serve_1
theorem dksX5_serve_0 : cX5_serve.data.toList.drop 0 = dktX5_serve_0 := by decide +kernel
theorem dksX5_serve_1 : cX5_serve.data.toList.drop 24 = dktX5_serve_1 := dk_seg dksX5_serve_0 24 rfl rfl
theorem dksX5_serve_2 : cX5_serve.data.toList.drop 48 = dktX5_serve_2 := dk_seg dksX5_serve_1 24 rfl rfl
theorem dksX5_serve_3 : cX5_serve.data.toList.drop 72 = dktX5_serve_3 := dk_seg dksX5_serve_2 24 rfl rfl
theorem dksX5_serve_4 : cX5_serve.data.toList.drop 96 = dktX5_serve_4 := dk_seg dksX5_serve_3 24 rfl rfl
theorem dksX5_serve_5 : cX5_serve.data.toList.drop 120 = dktX5_serve_5 := dk_seg dksX5_serve_4 24 rfl rfl
theorem dX5_serve_0 : decode cX5_serve 0 = .ok (.aload_n 0, 1) := dk_42 (dk_at dksX5_serve_0 0 rfl rfl)
theorem dX5_serve_1 : decode cX5_serve 1 = .ok (.aload_n 0, 1) := dk_42 (dk_at dksX5_serve_0 1 rfl rfl)
theorem dX5_serve_2 : decode cX5_serve 2 = .ok (.iload_n 1, 1) := dk_27 (dk_at dksX5_serve_0 2 rfl rfl)
theorem dX5_serve_3 : decode cX5_serve 3 = .ok (.invokevirtual 157, 3) := dk_182 0 157 (dk_at dksX5_serve_0 3 rfl rfl)
theorem dX5_serve_6 : decode cX5_serve 6 = .ok (.ifCond .eq 7, 3) := dk_153 0 7 (dk_at dksX5_serve_0 6 rfl rfl)
theorem dX5_serve_9 : decode cX5_serve 9 = .ok (.iconst 0, 1) := dk_3 (dk_at dksX5_serve_0 9 rfl rfl)
theorem dX5_serve_10 : decode cX5_serve 10 = .ok (.goto 4, 3) := dk_167 0 4 (dk_at dksX5_serve_0 10 rfl rfl)
theorem dX5_serve_13 : decode cX5_serve 13 = .ok (.iconst 1, 1) := dk_4 (dk_at dksX5_serve_0 13 rfl rfl)
theorem dX5_serve_14 : decode cX5_serve 14 = .ok (.invokevirtual 73, 3) := dk_182 0 73 (dk_at dksX5_serve_0 14 rfl rfl)
theorem dX5_serve_17 : decode cX5_serve 17 = .ok (.ifCond .eq 5, 3) := dk_153 0 5 (dk_at dksX5_serve_0 17 rfl rfl)
theorem dX5_serve_20 : decode cX5_serve 20 = .ok (.iconst 0, 1) := dk_3 (dk_at dksX5_serve_0 20 rfl rfl)
theorem dX5_serve_21 : decode cX5_serve 21 = .ok (.ireturn, 1) := dk_172 (dk_at dksX5_serve_0 21 rfl rfl)
theorem dX5_serve_22 : decode cX5_serve 22 = .ok (.aload_n 0, 1) := dk_42 (dk_at dksX5_serve_0 22 rfl rfl)
theorem dX5_serve_23 : decode cX5_serve 23 = .ok (.iload_n 1, 1) := dk_27 (dk_at dksX5_serve_0 23 rfl rfl)
theorem dX5_serve_24 : decode cX5_serve 24 = .ok (.iconst 2, 1) := dk_5 (dk_at dksX5_serve_1 0 rfl rfl)
theorem dX5_serve_25 : decode cX5_serve 25 = .ok (.invokevirtual 154, 3) := dk_182 0 154 (dk_at dksX5_serve_1 1 rfl rfl)
theorem dX5_serve_28 : decode cX5_serve 28 = .ok (.iconst 1, 1) := dk_4 (dk_at dksX5_serve_1 4 rfl rfl)
theorem dX5_serve_29 : decode cX5_serve 29 = .ok (.if_icmp .ne 12, 3) := dk_160 0 12 (dk_at dksX5_serve_1 5 rfl rfl)
theorem dX5_serve_32 : decode cX5_serve 32 = .ok (.aload_n 0, 1) := dk_42 (dk_at dksX5_serve_1 8 rfl rfl)
theorem dX5_serve_33 : decode cX5_serve 33 = .ok (.iconst 2, 1) := dk_5 (dk_at dksX5_serve_1 9 rfl rfl)
theorem dX5_serve_34 : decode cX5_serve 34 = .ok (.bipush 10, 2) := dk_16 10 (dk_at dksX5_serve_1 10 rfl rfl)
theorem dX5_serve_36 : decode cX5_serve 36 = .ok (.iload_n 1, 1) := dk_27 (dk_at dksX5_serve_1 12 rfl rfl)
theorem dX5_serve_37 : decode cX5_serve 37 = .ok (.invokevirtual 77, 3) := dk_182 0 77 (dk_at dksX5_serve_1 13 rfl rfl)
theorem dX5_serve_40 : decode cX5_serve 40 = .ok (.ireturn, 1) := dk_172 (dk_at dksX5_serve_1 16 rfl rfl)
theorem dX5_serve_41 : decode cX5_serve 41 = .ok (.aload_n 0, 1) := dk_42 (dk_at dksX5_serve_1 17 rfl rfl)
theorem dX5_serve_42 : decode cX5_serve 42 = .ok (.iload_n 1, 1) := dk_27 (dk_at dksX5_serve_1 18 rfl rfl)
theorem dX5_serve_43 : decode cX5_serve 43 = .ok (.invokevirtual 160, 3) := dk_182 0 160 (dk_at dksX5_serve_1 19 rfl rfl)
theorem dX5_serve_46 : decode cX5_serve 46 = .ok (.istore_n 2, 1) := dk_61 (dk_at dksX5_serve_1 22 rfl rfl)
theorem dX5_serve_47 : decode cX5_serve 47 = .ok (.iload_n 2, 1) := dk_28 (dk_at dksX5_serve_1 23 rfl rfl)
theorem dX5_serve_48 : decode cX5_serve 48 = .ok (.ifCond .ge 16, 3) := dk_156 0 16 (dk_at dksX5_serve_2 0 rfl rfl)
theorem dX5_serve_51 : decode cX5_serve 51 = .ok (.aload_n 0, 1) := dk_42 (dk_at dksX5_serve_2 3 rfl rfl)
theorem dX5_serve_52 : decode cX5_serve 52 = .ok (.iconst 2, 1) := dk_5 (dk_at dksX5_serve_2 4 rfl rfl)
theorem dX5_serve_53 : decode cX5_serve 53 = .ok (.bipush 11, 2) := dk_16 11 (dk_at dksX5_serve_2 5 rfl rfl)
theorem dX5_serve_55 : decode cX5_serve 55 = .ok (.aload_n 0, 1) := dk_42 (dk_at dksX5_serve_2 7 rfl rfl)
theorem dX5_serve_56 : decode cX5_serve 56 = .ok (.iconst 0, 1) := dk_3 (dk_at dksX5_serve_2 8 rfl rfl)
theorem dX5_serve_57 : decode cX5_serve 57 = .ok (.invokevirtual 163, 3) := dk_182 0 163 (dk_at dksX5_serve_2 9 rfl rfl)
theorem dX5_serve_60 : decode cX5_serve 60 = .ok (.invokevirtual 77, 3) := dk_182 0 77 (dk_at dksX5_serve_2 12 rfl rfl)
theorem dX5_serve_63 : decode cX5_serve 63 = .ok (.ireturn, 1) := dk_172 (dk_at dksX5_serve_2 15 rfl rfl)
theorem dX5_serve_64 : decode cX5_serve 64 = .ok (.aload_n 0, 1) := dk_42 (dk_at dksX5_serve_2 16 rfl rfl)
theorem dX5_serve_65 : decode cX5_serve 65 = .ok (.aload_n 0, 1) := dk_42 (dk_at dksX5_serve_2 17 rfl rfl)
theorem dX5_serve_66 : decode cX5_serve 66 = .ok (.getfield 7, 3) := dk_180 0 7 (dk_at dksX5_serve_2 18 rfl rfl)
theorem dX5_serve_69 : decode cX5_serve 69 = .ok (.invokevirtual 81, 3) := dk_182 0 81 (dk_at dksX5_serve_2 21 rfl rfl)
theorem dX5_serve_72 : decode cX5_serve 72 = .ok (.aload_n 0, 1) := dk_42 (dk_at dksX5_serve_3 0 rfl rfl)
theorem dX5_serve_73 : decode cX5_serve 73 = .ok (.iload_n 2, 1) := dk_28 (dk_at dksX5_serve_3 1 rfl rfl)
theorem dX5_serve_74 : decode cX5_serve 74 = .ok (.iconst 2, 1) := dk_5 (dk_at dksX5_serve_3 2 rfl rfl)
theorem dX5_serve_75 : decode cX5_serve 75 = .ok (.invokevirtual 136, 3) := dk_182 0 136 (dk_at dksX5_serve_3 3 rfl rfl)
theorem dX5_serve_78 : decode cX5_serve 78 = .ok (.aload_n 0, 1) := dk_42 (dk_at dksX5_serve_3 6 rfl rfl)
theorem dX5_serve_79 : decode cX5_serve 79 = .ok (.aload_n 0, 1) := dk_42 (dk_at dksX5_serve_3 7 rfl rfl)
theorem dX5_serve_80 : decode cX5_serve 80 = .ok (.iload_n 2, 1) := dk_28 (dk_at dksX5_serve_3 8 rfl rfl)
theorem dX5_serve_81 : decode cX5_serve 81 = .ok (.iconst 3, 1) := dk_6 (dk_at dksX5_serve_3 9 rfl rfl)
theorem dX5_serve_82 : decode cX5_serve 82 = .ok (.invokevirtual 121, 3) := dk_182 0 121 (dk_at dksX5_serve_3 10 rfl rfl)
theorem dX5_serve_85 : decode cX5_serve 85 = .ok (.iconst 2, 1) := dk_5 (dk_at dksX5_serve_3 13 rfl rfl)
theorem dX5_serve_86 : decode cX5_serve 86 = .ok (.idiv, 1) := dk_108 (dk_at dksX5_serve_3 14 rfl rfl)
theorem dX5_serve_87 : decode cX5_serve 87 = .ok (.iconst 2, 1) := dk_5 (dk_at dksX5_serve_3 15 rfl rfl)
theorem dX5_serve_88 : decode cX5_serve 88 = .ok (.iadd, 1) := dk_96 (dk_at dksX5_serve_3 16 rfl rfl)
theorem dX5_serve_89 : decode cX5_serve 89 = .ok (.invokevirtual 140, 3) := dk_182 0 140 (dk_at dksX5_serve_3 17 rfl rfl)
theorem dX5_serve_92 : decode cX5_serve 92 = .ok (.aload_n 0, 1) := dk_42 (dk_at dksX5_serve_3 20 rfl rfl)
theorem dX5_serve_93 : decode cX5_serve 93 = .ok (.getfield 7, 3) := dk_180 0 7 (dk_at dksX5_serve_3 21 rfl rfl)
theorem dX5_serve_96 : decode cX5_serve 96 = .ok (.sipush 189, 3) := dk_17 0 189 (dk_at dksX5_serve_4 0 rfl rfl)
theorem dX5_serve_99 : decode cX5_serve 99 = .ok (.iconst 4, 1) := dk_7 (dk_at dksX5_serve_4 3 rfl rfl)
theorem dX5_serve_100 : decode cX5_serve 100 = .ok (.iload_n 1, 1) := dk_27 (dk_at dksX5_serve_4 4 rfl rfl)
theorem dX5_serve_101 : decode cX5_serve 101 = .ok (.imul, 1) := dk_104 (dk_at dksX5_serve_4 5 rfl rfl)
theorem dX5_serve_102 : decode cX5_serve 102 = .ok (.iadd, 1) := dk_96 (dk_at dksX5_serve_4 6 rfl rfl)
theorem dX5_serve_103 : decode cX5_serve 103 = .ok (.iconst 2, 1) := dk_5 (dk_at dksX5_serve_4 7 rfl rfl)
theorem dX5_serve_104 : decode cX5_serve 104 = .ok (.iadd, 1) := dk_96 (dk_at dksX5_serve_4 8 rfl rfl)
theorem dX5_serve_105 : decode cX5_serve 105 = .ok (.iconst 1, 1) := dk_4 (dk_at dksX5_serve_4 9 rfl rfl)
theorem dX5_serve_106 : decode cX5_serve 106 = .ok (.iastore, 1) := dk_79 (dk_at dksX5_serve_4 10 rfl rfl)
theorem dX5_serve_107 : decode cX5_serve 107 = .ok (.aload_n 0, 1) := dk_42 (dk_at dksX5_serve_4 11 rfl rfl)
theorem dX5_serve_108 : decode cX5_serve 108 = .ok (.getfield 7, 3) := dk_180 0 7 (dk_at dksX5_serve_4 12 rfl rfl)
theorem dX5_serve_111 : decode cX5_serve 111 = .ok (.sipush 189, 3) := dk_17 0 189 (dk_at dksX5_serve_4 15 rfl rfl)
theorem dX5_serve_114 : decode cX5_serve 114 = .ok (.iconst 4, 1) := dk_7 (dk_at dksX5_serve_4 18 rfl rfl)
theorem dX5_serve_115 : decode cX5_serve 115 = .ok (.iload_n 1, 1) := dk_27 (dk_at dksX5_serve_4 19 rfl rfl)
theorem dX5_serve_116 : decode cX5_serve 116 = .ok (.imul, 1) := dk_104 (dk_at dksX5_serve_4 20 rfl rfl)
theorem dX5_serve_117 : decode cX5_serve 117 = .ok (.iadd, 1) := dk_96 (dk_at dksX5_serve_4 21 rfl rfl)
theorem dX5_serve_118 : decode cX5_serve 118 = .ok (.iconst 3, 1) := dk_6 (dk_at dksX5_serve_4 22 rfl rfl)
theorem dX5_serve_119 : decode cX5_serve 119 = .ok (.iadd, 1) := dk_96 (dk_at dksX5_serve_4 23 rfl rfl)
theorem dX5_serve_120 : decode cX5_serve 120 = .ok (.iload_n 2, 1) := dk_28 (dk_at dksX5_serve_5 0 rfl rfl)
theorem dX5_serve_121 : decode cX5_serve 121 = .ok (.iastore, 1) := dk_79 (dk_at dksX5_serve_5 1 rfl rfl)
theorem dX5_serve_122 : decode cX5_serve 122 = .ok (.iload_n 2, 1) := dk_28 (dk_at dksX5_serve_5 2 rfl rfl)
theorem dX5_serve_123 : decode cX5_serve 123 = .ok (.ireturn, 1) := dk_172 (dk_at dksX5_serve_5 3 rfl rfl)
abbrev cX5_isOrder : ByteArray := prog_18_method_14_code
def yX5_isOrder : MethodName := ⟨RX5, "isOrder", "(I)Z"⟩
def dkwX5_isOrder_0 : List UInt8 := [27, 3, 42, 180, 0, 7, 16, 9, 46, 4, 100, 184, 0, 65, 172]
abbrev dktX5_isOrder_0 : List UInt8 := dkwX5_isOrder_0 ++ []
theorem dksX5_isOrder_0 : cX5_isOrder.data.toList.drop 0 = dktX5_isOrder_0 := by decide +kernel
theorem dX5_isOrder_0 : decode cX5_isOrder 0 = .ok (.iload_n 1, 1) := dk_27 (dk_at dksX5_isOrder_0 0 rfl rfl)
theorem dX5_isOrder_1 : decode cX5_isOrder 1 = .ok (.iconst 0, 1) := dk_3 (dk_at dksX5_isOrder_0 1 rfl rfl)
theorem dX5_isOrder_2 : decode cX5_isOrder 2 = .ok (.aload_n 0, 1) := dk_42 (dk_at dksX5_isOrder_0 2 rfl rfl)
theorem dX5_isOrder_3 : decode cX5_isOrder 3 = .ok (.getfield 7, 3) := dk_180 0 7 (dk_at dksX5_isOrder_0 3 rfl rfl)
theorem dX5_isOrder_6 : decode cX5_isOrder 6 = .ok (.bipush 9, 2) := dk_16 9 (dk_at dksX5_isOrder_0 6 rfl rfl)
theorem dX5_isOrder_8 : decode cX5_isOrder 8 = .ok (.iaload, 1) := dk_46 (dk_at dksX5_isOrder_0 8 rfl rfl)
theorem dX5_isOrder_9 : decode cX5_isOrder 9 = .ok (.iconst 1, 1) := dk_4 (dk_at dksX5_isOrder_0 9 rfl rfl)
theorem dX5_isOrder_10 : decode cX5_isOrder 10 = .ok (.isub, 1) := dk_100 (dk_at dksX5_isOrder_0 10 rfl rfl)
theorem dX5_isOrder_11 : decode cX5_isOrder 11 = .ok (.invokestatic 65, 3) := dk_184 0 65 (dk_at dksX5_isOrder_0 11 rfl rfl)
theorem dX5_isOrder_14 : decode cX5_isOrder 14 = .ok (.ireturn, 1) := dk_172 (dk_at dksX5_isOrder_0 14 rfl rfl)
abbrev cX5_ofOrder : ByteArray := prog_18_method_20_code
def yX5_ofOrder : MethodName := ⟨RX5, "ofOrder", "(II)I"⟩
def dkwX5_ofOrder_0 : List UInt8 := [42, 180, 0, 7, 17, 0, 189, 7, 27, 104, 96, 28, 96, 46, 172]
abbrev dktX5_ofOrder_0 : List UInt8 := dkwX5_ofOrder_0 ++ []
theorem dksX5_ofOrder_0 : cX5_ofOrder.data.toList.drop 0 = dktX5_ofOrder_0 := by decide +kernel
theorem dX5_ofOrder_0 : decode cX5_ofOrder 0 = .ok (.aload_n 0, 1) := dk_42 (dk_at dksX5_ofOrder_0 0 rfl rfl)
theorem dX5_ofOrder_1 : decode cX5_ofOrder 1 = .ok (.getfield 7, 3) := dk_180 0 7 (dk_at dksX5_ofOrder_0 1 rfl rfl)
theorem dX5_ofOrder_4 : decode cX5_ofOrder 4 = .ok (.sipush 189, 3) := dk_17 0 189 (dk_at dksX5_ofOrder_0 4 rfl rfl)
theorem dX5_ofOrder_7 : decode cX5_ofOrder 7 = .ok (.iconst 4, 1) := dk_7 (dk_at dksX5_ofOrder_0 7 rfl rfl)
theorem dX5_ofOrder_8 : decode cX5_ofOrder 8 = .ok (.iload_n 1, 1) := dk_27 (dk_at dksX5_ofOrder_0 8 rfl rfl)
theorem dX5_ofOrder_9 : decode cX5_ofOrder 9 = .ok (.imul, 1) := dk_104 (dk_at dksX5_ofOrder_0 9 rfl rfl)
theorem dX5_ofOrder_10 : decode cX5_ofOrder 10 = .ok (.iadd, 1) := dk_96 (dk_at dksX5_ofOrder_0 10 rfl rfl)
theorem dX5_ofOrder_11 : decode cX5_ofOrder 11 = .ok (.iload_n 2, 1) := dk_28 (dk_at dksX5_ofOrder_0 11 rfl rfl)
theorem dX5_ofOrder_12 : decode cX5_ofOrder 12 = .ok (.iadd, 1) := dk_96 (dk_at dksX5_ofOrder_0 12 rfl rfl)
theorem dX5_ofOrder_13 : decode cX5_ofOrder 13 = .ok (.iaload, 1) := dk_46 (dk_at dksX5_ofOrder_0 13 rfl rfl)
theorem dX5_ofOrder_14 : decode cX5_ofOrder 14 = .ok (.ireturn, 1) := dk_172 (dk_at dksX5_ofOrder_0 14 rfl rfl)
abbrev cX5_findJar : ByteArray := prog_18_method_48_code
def yX5_findJar : MethodName := ⟨RX5, "findJar", "(I)I"⟩
def dkwX5_findJar_3 : List UInt8 := [167, 255, 190, 28, 172]
abbrev dktX5_findJar_3 : List UInt8 := dkwX5_findJar_3 ++ []
def dkwX5_findJar_2 : List UInt8 := [155, 0, 18, 42, 29, 5, 182, 0, 121, 42, 28, 5, 182, 0, 121, 164, 0, 5, 29, 61, 132, 3, 1]
abbrev dktX5_findJar_2 : List UInt8 := dkwX5_findJar_2 ++ dktX5_findJar_3
def dkwX5_findJar_1 : List UInt8 := [29, 182, 0, 130, 42, 27, 3, 182, 0, 154, 42, 27, 4, 182, 0, 154, 184, 0, 65, 153, 0, 24, 28]
abbrev dktX5_findJar_1 : List UInt8 := dkwX5_findJar_1 ++ dktX5_findJar_2
def dkwX5_findJar_0 : List UInt8 := [2, 61, 3, 62, 29, 42, 180, 0, 7, 16, 8, 46, 162, 0, 61, 42, 29, 182, 0, 151, 153, 0, 47, 42]
abbrev dktX5_findJar_0 : List UInt8 := dkwX5_findJar_0 ++ dktX5_findJar_1
theorem dksX5_findJar_0 : cX5_findJar.data.toList.drop 0 = dktX5_findJar_0 := by decide +kernel
theorem dksX5_findJar_1 : cX5_findJar.data.toList.drop 24 = dktX5_findJar_1 := dk_seg dksX5_findJar_0 24 rfl rfl
theorem dksX5_findJar_2 : cX5_findJar.data.toList.drop 47 = dktX5_findJar_2 := dk_seg dksX5_findJar_1 23 rfl rfl
theorem dksX5_findJar_3 : cX5_findJar.data.toList.drop 70 = dktX5_findJar_3 := dk_seg dksX5_findJar_2 23 rfl rfl
theorem dX5_findJar_0 : decode cX5_findJar 0 = .ok (.iconst (-1), 1) := dk_2 (dk_at dksX5_findJar_0 0 rfl rfl)
theorem dX5_findJar_1 : decode cX5_findJar 1 = .ok (.istore_n 2, 1) := dk_61 (dk_at dksX5_findJar_0 1 rfl rfl)
theorem dX5_findJar_2 : decode cX5_findJar 2 = .ok (.iconst 0, 1) := dk_3 (dk_at dksX5_findJar_0 2 rfl rfl)
theorem dX5_findJar_3 : decode cX5_findJar 3 = .ok (.istore_n 3, 1) := dk_62 (dk_at dksX5_findJar_0 3 rfl rfl)
theorem dX5_findJar_4 : decode cX5_findJar 4 = .ok (.iload_n 3, 1) := dk_29 (dk_at dksX5_findJar_0 4 rfl rfl)
theorem dX5_findJar_5 : decode cX5_findJar 5 = .ok (.aload_n 0, 1) := dk_42 (dk_at dksX5_findJar_0 5 rfl rfl)
theorem dX5_findJar_6 : decode cX5_findJar 6 = .ok (.getfield 7, 3) := dk_180 0 7 (dk_at dksX5_findJar_0 6 rfl rfl)
theorem dX5_findJar_9 : decode cX5_findJar 9 = .ok (.bipush 8, 2) := dk_16 8 (dk_at dksX5_findJar_0 9 rfl rfl)
theorem dX5_findJar_11 : decode cX5_findJar 11 = .ok (.iaload, 1) := dk_46 (dk_at dksX5_findJar_0 11 rfl rfl)
theorem dX5_findJar_12 : decode cX5_findJar 12 = .ok (.if_icmp .ge 61, 3) := dk_162 0 61 (dk_at dksX5_findJar_0 12 rfl rfl)
theorem dX5_findJar_15 : decode cX5_findJar 15 = .ok (.aload_n 0, 1) := dk_42 (dk_at dksX5_findJar_0 15 rfl rfl)
theorem dX5_findJar_16 : decode cX5_findJar 16 = .ok (.iload_n 3, 1) := dk_29 (dk_at dksX5_findJar_0 16 rfl rfl)
theorem dX5_findJar_17 : decode cX5_findJar 17 = .ok (.invokevirtual 151, 3) := dk_182 0 151 (dk_at dksX5_findJar_0 17 rfl rfl)
theorem dX5_findJar_20 : decode cX5_findJar 20 = .ok (.ifCond .eq 47, 3) := dk_153 0 47 (dk_at dksX5_findJar_0 20 rfl rfl)
theorem dX5_findJar_23 : decode cX5_findJar 23 = .ok (.aload_n 0, 1) := dk_42 (dk_at dksX5_findJar_0 23 rfl rfl)
theorem dX5_findJar_24 : decode cX5_findJar 24 = .ok (.iload_n 3, 1) := dk_29 (dk_at dksX5_findJar_1 0 rfl rfl)
theorem dX5_findJar_25 : decode cX5_findJar 25 = .ok (.invokevirtual 130, 3) := dk_182 0 130 (dk_at dksX5_findJar_1 1 rfl rfl)
theorem dX5_findJar_28 : decode cX5_findJar 28 = .ok (.aload_n 0, 1) := dk_42 (dk_at dksX5_findJar_1 4 rfl rfl)
theorem dX5_findJar_29 : decode cX5_findJar 29 = .ok (.iload_n 1, 1) := dk_27 (dk_at dksX5_findJar_1 5 rfl rfl)
theorem dX5_findJar_30 : decode cX5_findJar 30 = .ok (.iconst 0, 1) := dk_3 (dk_at dksX5_findJar_1 6 rfl rfl)
theorem dX5_findJar_31 : decode cX5_findJar 31 = .ok (.invokevirtual 154, 3) := dk_182 0 154 (dk_at dksX5_findJar_1 7 rfl rfl)
theorem dX5_findJar_34 : decode cX5_findJar 34 = .ok (.aload_n 0, 1) := dk_42 (dk_at dksX5_findJar_1 10 rfl rfl)
theorem dX5_findJar_35 : decode cX5_findJar 35 = .ok (.iload_n 1, 1) := dk_27 (dk_at dksX5_findJar_1 11 rfl rfl)
theorem dX5_findJar_36 : decode cX5_findJar 36 = .ok (.iconst 1, 1) := dk_4 (dk_at dksX5_findJar_1 12 rfl rfl)
theorem dX5_findJar_37 : decode cX5_findJar 37 = .ok (.invokevirtual 154, 3) := dk_182 0 154 (dk_at dksX5_findJar_1 13 rfl rfl)
theorem dX5_findJar_40 : decode cX5_findJar 40 = .ok (.invokestatic 65, 3) := dk_184 0 65 (dk_at dksX5_findJar_1 16 rfl rfl)
theorem dX5_findJar_43 : decode cX5_findJar 43 = .ok (.ifCond .eq 24, 3) := dk_153 0 24 (dk_at dksX5_findJar_1 19 rfl rfl)
theorem dX5_findJar_46 : decode cX5_findJar 46 = .ok (.iload_n 2, 1) := dk_28 (dk_at dksX5_findJar_1 22 rfl rfl)
theorem dX5_findJar_47 : decode cX5_findJar 47 = .ok (.ifCond .lt 18, 3) := dk_155 0 18 (dk_at dksX5_findJar_2 0 rfl rfl)
theorem dX5_findJar_50 : decode cX5_findJar 50 = .ok (.aload_n 0, 1) := dk_42 (dk_at dksX5_findJar_2 3 rfl rfl)
theorem dX5_findJar_51 : decode cX5_findJar 51 = .ok (.iload_n 3, 1) := dk_29 (dk_at dksX5_findJar_2 4 rfl rfl)
theorem dX5_findJar_52 : decode cX5_findJar 52 = .ok (.iconst 2, 1) := dk_5 (dk_at dksX5_findJar_2 5 rfl rfl)
theorem dX5_findJar_53 : decode cX5_findJar 53 = .ok (.invokevirtual 121, 3) := dk_182 0 121 (dk_at dksX5_findJar_2 6 rfl rfl)
theorem dX5_findJar_56 : decode cX5_findJar 56 = .ok (.aload_n 0, 1) := dk_42 (dk_at dksX5_findJar_2 9 rfl rfl)
theorem dX5_findJar_57 : decode cX5_findJar 57 = .ok (.iload_n 2, 1) := dk_28 (dk_at dksX5_findJar_2 10 rfl rfl)
theorem dX5_findJar_58 : decode cX5_findJar 58 = .ok (.iconst 2, 1) := dk_5 (dk_at dksX5_findJar_2 11 rfl rfl)
theorem dX5_findJar_59 : decode cX5_findJar 59 = .ok (.invokevirtual 121, 3) := dk_182 0 121 (dk_at dksX5_findJar_2 12 rfl rfl)
theorem dX5_findJar_62 : decode cX5_findJar 62 = .ok (.if_icmp .le 5, 3) := dk_164 0 5 (dk_at dksX5_findJar_2 15 rfl rfl)
theorem dX5_findJar_65 : decode cX5_findJar 65 = .ok (.iload_n 3, 1) := dk_29 (dk_at dksX5_findJar_2 18 rfl rfl)
theorem dX5_findJar_66 : decode cX5_findJar 66 = .ok (.istore_n 2, 1) := dk_61 (dk_at dksX5_findJar_2 19 rfl rfl)
theorem dX5_findJar_67 : decode cX5_findJar 67 = .ok (.iinc 3 1, 3) := dk_132 3 1 (dk_at dksX5_findJar_2 20 rfl rfl)
theorem dX5_findJar_70 : decode cX5_findJar 70 = .ok (.goto (-66), 3) := dk_167 255 190 (dk_at dksX5_findJar_3 0 rfl rfl)
theorem dX5_findJar_73 : decode cX5_findJar 73 = .ok (.iload_n 2, 1) := dk_28 (dk_at dksX5_findJar_3 3 rfl rfl)
theorem dX5_findJar_74 : decode cX5_findJar 74 = .ok (.ireturn, 1) := dk_172 (dk_at dksX5_findJar_3 4 rfl rfl)
abbrev cX5_isRipe : ByteArray := prog_18_method_38_code
def yX5_isRipe : MethodName := ⟨RX5, "isRipe", "(I)Z"⟩
def dkwX5_isRipe_0 : List UInt8 := [42, 27, 3, 182, 0, 121, 154, 0, 15, 42, 27, 182, 0, 127, 154, 0, 7, 4, 167, 0, 4, 3, 172]
abbrev dktX5_isRipe_0 : List UInt8 := dkwX5_isRipe_0 ++ []
theorem dksX5_isRipe_0 : cX5_isRipe.data.toList.drop 0 = dktX5_isRipe_0 := by decide +kernel
theorem dX5_isRipe_0 : decode cX5_isRipe 0 = .ok (.aload_n 0, 1) := dk_42 (dk_at dksX5_isRipe_0 0 rfl rfl)
theorem dX5_isRipe_1 : decode cX5_isRipe 1 = .ok (.iload_n 1, 1) := dk_27 (dk_at dksX5_isRipe_0 1 rfl rfl)
theorem dX5_isRipe_2 : decode cX5_isRipe 2 = .ok (.iconst 0, 1) := dk_3 (dk_at dksX5_isRipe_0 2 rfl rfl)
theorem dX5_isRipe_3 : decode cX5_isRipe 3 = .ok (.invokevirtual 121, 3) := dk_182 0 121 (dk_at dksX5_isRipe_0 3 rfl rfl)
theorem dX5_isRipe_6 : decode cX5_isRipe 6 = .ok (.ifCond .ne 15, 3) := dk_154 0 15 (dk_at dksX5_isRipe_0 6 rfl rfl)
theorem dX5_isRipe_9 : decode cX5_isRipe 9 = .ok (.aload_n 0, 1) := dk_42 (dk_at dksX5_isRipe_0 9 rfl rfl)
theorem dX5_isRipe_10 : decode cX5_isRipe 10 = .ok (.iload_n 1, 1) := dk_27 (dk_at dksX5_isRipe_0 10 rfl rfl)
theorem dX5_isRipe_11 : decode cX5_isRipe 11 = .ok (.invokevirtual 127, 3) := dk_182 0 127 (dk_at dksX5_isRipe_0 11 rfl rfl)
theorem dX5_isRipe_14 : decode cX5_isRipe 14 = .ok (.ifCond .ne 7, 3) := dk_154 0 7 (dk_at dksX5_isRipe_0 14 rfl rfl)
theorem dX5_isRipe_17 : decode cX5_isRipe 17 = .ok (.iconst 1, 1) := dk_4 (dk_at dksX5_isRipe_0 17 rfl rfl)
theorem dX5_isRipe_18 : decode cX5_isRipe 18 = .ok (.goto 4, 3) := dk_167 0 4 (dk_at dksX5_isRipe_0 18 rfl rfl)
theorem dX5_isRipe_21 : decode cX5_isRipe 21 = .ok (.iconst 0, 1) := dk_3 (dk_at dksX5_isRipe_0 21 rfl rfl)
theorem dX5_isRipe_22 : decode cX5_isRipe 22 = .ok (.ireturn, 1) := dk_172 (dk_at dksX5_isRipe_0 22 rfl rfl)
abbrev cX5_jars : ByteArray := prog_18_method_49_code
def yX5_jars : MethodName := ⟨RX5, "jars", "(I)I"⟩
def dkwX5_jars_1 : List UInt8 := [160, 0, 7, 4, 167, 0, 4, 3, 96, 61, 132, 3, 1, 167, 255, 224, 28, 172]
abbrev dktX5_jars_1 : List UInt8 := dkwX5_jars_1 ++ []
def dkwX5_jars_0 : List UInt8 := [3, 61, 3, 62, 29, 42, 180, 0, 7, 16, 8, 46, 162, 0, 27, 28, 42, 29, 3, 182, 0, 121, 27]
abbrev dktX5_jars_0 : List UInt8 := dkwX5_jars_0 ++ dktX5_jars_1
theorem dksX5_jars_0 : cX5_jars.data.toList.drop 0 = dktX5_jars_0 := by decide +kernel
theorem dksX5_jars_1 : cX5_jars.data.toList.drop 23 = dktX5_jars_1 := dk_seg dksX5_jars_0 23 rfl rfl
theorem dX5_jars_0 : decode cX5_jars 0 = .ok (.iconst 0, 1) := dk_3 (dk_at dksX5_jars_0 0 rfl rfl)
theorem dX5_jars_1 : decode cX5_jars 1 = .ok (.istore_n 2, 1) := dk_61 (dk_at dksX5_jars_0 1 rfl rfl)
theorem dX5_jars_2 : decode cX5_jars 2 = .ok (.iconst 0, 1) := dk_3 (dk_at dksX5_jars_0 2 rfl rfl)
theorem dX5_jars_3 : decode cX5_jars 3 = .ok (.istore_n 3, 1) := dk_62 (dk_at dksX5_jars_0 3 rfl rfl)
theorem dX5_jars_4 : decode cX5_jars 4 = .ok (.iload_n 3, 1) := dk_29 (dk_at dksX5_jars_0 4 rfl rfl)
theorem dX5_jars_5 : decode cX5_jars 5 = .ok (.aload_n 0, 1) := dk_42 (dk_at dksX5_jars_0 5 rfl rfl)
theorem dX5_jars_6 : decode cX5_jars 6 = .ok (.getfield 7, 3) := dk_180 0 7 (dk_at dksX5_jars_0 6 rfl rfl)
theorem dX5_jars_9 : decode cX5_jars 9 = .ok (.bipush 8, 2) := dk_16 8 (dk_at dksX5_jars_0 9 rfl rfl)
theorem dX5_jars_11 : decode cX5_jars 11 = .ok (.iaload, 1) := dk_46 (dk_at dksX5_jars_0 11 rfl rfl)
theorem dX5_jars_12 : decode cX5_jars 12 = .ok (.if_icmp .ge 27, 3) := dk_162 0 27 (dk_at dksX5_jars_0 12 rfl rfl)
theorem dX5_jars_15 : decode cX5_jars 15 = .ok (.iload_n 2, 1) := dk_28 (dk_at dksX5_jars_0 15 rfl rfl)
theorem dX5_jars_16 : decode cX5_jars 16 = .ok (.aload_n 0, 1) := dk_42 (dk_at dksX5_jars_0 16 rfl rfl)
theorem dX5_jars_17 : decode cX5_jars 17 = .ok (.iload_n 3, 1) := dk_29 (dk_at dksX5_jars_0 17 rfl rfl)
theorem dX5_jars_18 : decode cX5_jars 18 = .ok (.iconst 0, 1) := dk_3 (dk_at dksX5_jars_0 18 rfl rfl)
theorem dX5_jars_19 : decode cX5_jars 19 = .ok (.invokevirtual 121, 3) := dk_182 0 121 (dk_at dksX5_jars_0 19 rfl rfl)
theorem dX5_jars_22 : decode cX5_jars 22 = .ok (.iload_n 1, 1) := dk_27 (dk_at dksX5_jars_0 22 rfl rfl)
theorem dX5_jars_23 : decode cX5_jars 23 = .ok (.if_icmp .ne 7, 3) := dk_160 0 7 (dk_at dksX5_jars_1 0 rfl rfl)
theorem dX5_jars_26 : decode cX5_jars 26 = .ok (.iconst 1, 1) := dk_4 (dk_at dksX5_jars_1 3 rfl rfl)
theorem dX5_jars_27 : decode cX5_jars 27 = .ok (.goto 4, 3) := dk_167 0 4 (dk_at dksX5_jars_1 4 rfl rfl)
theorem dX5_jars_30 : decode cX5_jars 30 = .ok (.iconst 0, 1) := dk_3 (dk_at dksX5_jars_1 7 rfl rfl)
theorem dX5_jars_31 : decode cX5_jars 31 = .ok (.iadd, 1) := dk_96 (dk_at dksX5_jars_1 8 rfl rfl)
theorem dX5_jars_32 : decode cX5_jars 32 = .ok (.istore_n 2, 1) := dk_61 (dk_at dksX5_jars_1 9 rfl rfl)
theorem dX5_jars_33 : decode cX5_jars 33 = .ok (.iinc 3 1, 3) := dk_132 3 1 (dk_at dksX5_jars_1 10 rfl rfl)
theorem dX5_jars_36 : decode cX5_jars 36 = .ok (.goto (-32), 3) := dk_167 255 224 (dk_at dksX5_jars_1 13 rfl rfl)
theorem dX5_jars_39 : decode cX5_jars 39 = .ok (.iload_n 2, 1) := dk_28 (dk_at dksX5_jars_1 16 rfl rfl)
theorem dX5_jars_40 : decode cX5_jars 40 = .ok (.ireturn, 1) := dk_172 (dk_at dksX5_jars_1 17 rfl rfl)
abbrev cX5_orderOf : ByteArray := prog_18_method_51_code
def yX5_orderOf : MethodName := ⟨RX5, "orderOf", "(II)I"⟩
def dkwX5_orderOf_1 : List UInt8 := [167, 0, 4, 5, 182, 0, 73, 153, 0, 7, 3, 167, 0, 9, 42, 27, 28, 182, 0, 154, 172]
abbrev dktX5_orderOf_1 : List UInt8 := dkwX5_orderOf_1 ++ []
def dkwX5_orderOf_0 : List UInt8 := [42, 42, 27, 182, 0, 157, 154, 0, 7, 4, 167, 0, 17, 28, 3, 6, 184, 0, 65, 153, 0, 7, 3]
abbrev dktX5_orderOf_0 : List UInt8 := dkwX5_orderOf_0 ++ dktX5_orderOf_1
theorem dksX5_orderOf_0 : cX5_orderOf.data.toList.drop 0 = dktX5_orderOf_0 := by decide +kernel
theorem dksX5_orderOf_1 : cX5_orderOf.data.toList.drop 23 = dktX5_orderOf_1 := dk_seg dksX5_orderOf_0 23 rfl rfl
theorem dX5_orderOf_0 : decode cX5_orderOf 0 = .ok (.aload_n 0, 1) := dk_42 (dk_at dksX5_orderOf_0 0 rfl rfl)
theorem dX5_orderOf_1 : decode cX5_orderOf 1 = .ok (.aload_n 0, 1) := dk_42 (dk_at dksX5_orderOf_0 1 rfl rfl)
theorem dX5_orderOf_2 : decode cX5_orderOf 2 = .ok (.iload_n 1, 1) := dk_27 (dk_at dksX5_orderOf_0 2 rfl rfl)
theorem dX5_orderOf_3 : decode cX5_orderOf 3 = .ok (.invokevirtual 157, 3) := dk_182 0 157 (dk_at dksX5_orderOf_0 3 rfl rfl)
theorem dX5_orderOf_6 : decode cX5_orderOf 6 = .ok (.ifCond .ne 7, 3) := dk_154 0 7 (dk_at dksX5_orderOf_0 6 rfl rfl)
theorem dX5_orderOf_9 : decode cX5_orderOf 9 = .ok (.iconst 1, 1) := dk_4 (dk_at dksX5_orderOf_0 9 rfl rfl)
theorem dX5_orderOf_10 : decode cX5_orderOf 10 = .ok (.goto 17, 3) := dk_167 0 17 (dk_at dksX5_orderOf_0 10 rfl rfl)
theorem dX5_orderOf_13 : decode cX5_orderOf 13 = .ok (.iload_n 2, 1) := dk_28 (dk_at dksX5_orderOf_0 13 rfl rfl)
theorem dX5_orderOf_14 : decode cX5_orderOf 14 = .ok (.iconst 0, 1) := dk_3 (dk_at dksX5_orderOf_0 14 rfl rfl)
theorem dX5_orderOf_15 : decode cX5_orderOf 15 = .ok (.iconst 3, 1) := dk_6 (dk_at dksX5_orderOf_0 15 rfl rfl)
theorem dX5_orderOf_16 : decode cX5_orderOf 16 = .ok (.invokestatic 65, 3) := dk_184 0 65 (dk_at dksX5_orderOf_0 16 rfl rfl)
theorem dX5_orderOf_19 : decode cX5_orderOf 19 = .ok (.ifCond .eq 7, 3) := dk_153 0 7 (dk_at dksX5_orderOf_0 19 rfl rfl)
theorem dX5_orderOf_22 : decode cX5_orderOf 22 = .ok (.iconst 0, 1) := dk_3 (dk_at dksX5_orderOf_0 22 rfl rfl)
theorem dX5_orderOf_23 : decode cX5_orderOf 23 = .ok (.goto 4, 3) := dk_167 0 4 (dk_at dksX5_orderOf_1 0 rfl rfl)
theorem dX5_orderOf_26 : decode cX5_orderOf 26 = .ok (.iconst 2, 1) := dk_5 (dk_at dksX5_orderOf_1 3 rfl rfl)
theorem dX5_orderOf_27 : decode cX5_orderOf 27 = .ok (.invokevirtual 73, 3) := dk_182 0 73 (dk_at dksX5_orderOf_1 4 rfl rfl)
theorem dX5_orderOf_30 : decode cX5_orderOf 30 = .ok (.ifCond .eq 7, 3) := dk_153 0 7 (dk_at dksX5_orderOf_1 7 rfl rfl)
theorem dX5_orderOf_33 : decode cX5_orderOf 33 = .ok (.iconst 0, 1) := dk_3 (dk_at dksX5_orderOf_1 10 rfl rfl)
theorem dX5_orderOf_34 : decode cX5_orderOf 34 = .ok (.goto 9, 3) := dk_167 0 9 (dk_at dksX5_orderOf_1 11 rfl rfl)
theorem dX5_orderOf_37 : decode cX5_orderOf 37 = .ok (.aload_n 0, 1) := dk_42 (dk_at dksX5_orderOf_1 14 rfl rfl)
theorem dX5_orderOf_38 : decode cX5_orderOf 38 = .ok (.iload_n 1, 1) := dk_27 (dk_at dksX5_orderOf_1 15 rfl rfl)
theorem dX5_orderOf_39 : decode cX5_orderOf 39 = .ok (.iload_n 2, 1) := dk_28 (dk_at dksX5_orderOf_1 16 rfl rfl)
theorem dX5_orderOf_40 : decode cX5_orderOf 40 = .ok (.invokevirtual 154, 3) := dk_182 0 154 (dk_at dksX5_orderOf_1 17 rfl rfl)
theorem dX5_orderOf_43 : decode cX5_orderOf 43 = .ok (.ireturn, 1) := dk_172 (dk_at dksX5_orderOf_1 20 rfl rfl)
abbrev cX5_servedIn : ByteArray := prog_18_method_53_code
def yX5_servedIn : MethodName := ⟨RX5, "servedIn", "(I)I"⟩
def dkwX5_servedIn_4 : List UInt8 := [42, 28, 16, 60, 164, 0, 7, 6, 167, 0, 4, 3, 182, 0, 73, 153, 0, 7, 3, 167, 0, 4, 28, 172]
abbrev dktX5_servedIn_4 : List UInt8 := dkwX5_servedIn_4 ++ []
def dkwX5_servedIn_3 : List UInt8 := [182, 0, 166, 156, 255, 235, 3, 61, 167, 255, 230, 42, 180, 0, 22, 3, 42, 180, 0, 7, 3, 184, 0, 61]
abbrev dktX5_servedIn_3 : List UInt8 := dkwX5_servedIn_3 ++ dktX5_servedIn_4
def dkwX5_servedIn_2 : List UInt8 := [184, 0, 61, 3, 61, 28, 16, 60, 163, 0, 26, 42, 27, 182, 0, 160, 156, 0, 18, 132, 2, 1, 42]
abbrev dktX5_servedIn_2 : List UInt8 := dkwX5_servedIn_2 ++ dktX5_servedIn_3
def dkwX5_servedIn_1 : List UInt8 := [167, 0, 4, 3, 182, 0, 73, 153, 0, 5, 3, 172, 42, 180, 0, 7, 3, 42, 180, 0, 22, 3]
abbrev dktX5_servedIn_1 : List UInt8 := dkwX5_servedIn_1 ++ dktX5_servedIn_2
def dkwX5_servedIn_0 : List UInt8 := [42, 42, 27, 182, 0, 157, 154, 0, 7, 4, 167, 0, 18, 42, 27, 5, 182, 0, 154, 4, 160, 0, 7, 5]
abbrev dktX5_servedIn_0 : List UInt8 := dkwX5_servedIn_0 ++ dktX5_servedIn_1
theorem dksX5_servedIn_0 : cX5_servedIn.data.toList.drop 0 = dktX5_servedIn_0 := by decide +kernel
theorem dksX5_servedIn_1 : cX5_servedIn.data.toList.drop 24 = dktX5_servedIn_1 := dk_seg dksX5_servedIn_0 24 rfl rfl
theorem dksX5_servedIn_2 : cX5_servedIn.data.toList.drop 46 = dktX5_servedIn_2 := dk_seg dksX5_servedIn_1 22 rfl rfl
theorem dksX5_servedIn_3 : cX5_servedIn.data.toList.drop 69 = dktX5_servedIn_3 := dk_seg dksX5_servedIn_2 23 rfl rfl
theorem dksX5_servedIn_4 : cX5_servedIn.data.toList.drop 93 = dktX5_servedIn_4 := dk_seg dksX5_servedIn_3 24 rfl rfl
theorem dX5_servedIn_0 : decode cX5_servedIn 0 = .ok (.aload_n 0, 1) := dk_42 (dk_at dksX5_servedIn_0 0 rfl rfl)
theorem dX5_servedIn_1 : decode cX5_servedIn 1 = .ok (.aload_n 0, 1) := dk_42 (dk_at dksX5_servedIn_0 1 rfl rfl)
theorem dX5_servedIn_2 : decode cX5_servedIn 2 = .ok (.iload_n 1, 1) := dk_27 (dk_at dksX5_servedIn_0 2 rfl rfl)
theorem dX5_servedIn_3 : decode cX5_servedIn 3 = .ok (.invokevirtual 157, 3) := dk_182 0 157 (dk_at dksX5_servedIn_0 3 rfl rfl)
theorem dX5_servedIn_6 : decode cX5_servedIn 6 = .ok (.ifCond .ne 7, 3) := dk_154 0 7 (dk_at dksX5_servedIn_0 6 rfl rfl)
theorem dX5_servedIn_9 : decode cX5_servedIn 9 = .ok (.iconst 1, 1) := dk_4 (dk_at dksX5_servedIn_0 9 rfl rfl)
theorem dX5_servedIn_10 : decode cX5_servedIn 10 = .ok (.goto 18, 3) := dk_167 0 18 (dk_at dksX5_servedIn_0 10 rfl rfl)
theorem dX5_servedIn_13 : decode cX5_servedIn 13 = .ok (.aload_n 0, 1) := dk_42 (dk_at dksX5_servedIn_0 13 rfl rfl)
theorem dX5_servedIn_14 : decode cX5_servedIn 14 = .ok (.iload_n 1, 1) := dk_27 (dk_at dksX5_servedIn_0 14 rfl rfl)
theorem dX5_servedIn_15 : decode cX5_servedIn 15 = .ok (.iconst 2, 1) := dk_5 (dk_at dksX5_servedIn_0 15 rfl rfl)
theorem dX5_servedIn_16 : decode cX5_servedIn 16 = .ok (.invokevirtual 154, 3) := dk_182 0 154 (dk_at dksX5_servedIn_0 16 rfl rfl)
theorem dX5_servedIn_19 : decode cX5_servedIn 19 = .ok (.iconst 1, 1) := dk_4 (dk_at dksX5_servedIn_0 19 rfl rfl)
theorem dX5_servedIn_20 : decode cX5_servedIn 20 = .ok (.if_icmp .ne 7, 3) := dk_160 0 7 (dk_at dksX5_servedIn_0 20 rfl rfl)
theorem dX5_servedIn_23 : decode cX5_servedIn 23 = .ok (.iconst 2, 1) := dk_5 (dk_at dksX5_servedIn_0 23 rfl rfl)
theorem dX5_servedIn_24 : decode cX5_servedIn 24 = .ok (.goto 4, 3) := dk_167 0 4 (dk_at dksX5_servedIn_1 0 rfl rfl)
theorem dX5_servedIn_27 : decode cX5_servedIn 27 = .ok (.iconst 0, 1) := dk_3 (dk_at dksX5_servedIn_1 3 rfl rfl)
theorem dX5_servedIn_28 : decode cX5_servedIn 28 = .ok (.invokevirtual 73, 3) := dk_182 0 73 (dk_at dksX5_servedIn_1 4 rfl rfl)
theorem dX5_servedIn_31 : decode cX5_servedIn 31 = .ok (.ifCond .eq 5, 3) := dk_153 0 5 (dk_at dksX5_servedIn_1 7 rfl rfl)
theorem dX5_servedIn_34 : decode cX5_servedIn 34 = .ok (.iconst 0, 1) := dk_3 (dk_at dksX5_servedIn_1 10 rfl rfl)
theorem dX5_servedIn_35 : decode cX5_servedIn 35 = .ok (.ireturn, 1) := dk_172 (dk_at dksX5_servedIn_1 11 rfl rfl)
theorem dX5_servedIn_36 : decode cX5_servedIn 36 = .ok (.aload_n 0, 1) := dk_42 (dk_at dksX5_servedIn_1 12 rfl rfl)
theorem dX5_servedIn_37 : decode cX5_servedIn 37 = .ok (.getfield 7, 3) := dk_180 0 7 (dk_at dksX5_servedIn_1 13 rfl rfl)
theorem dX5_servedIn_40 : decode cX5_servedIn 40 = .ok (.iconst 0, 1) := dk_3 (dk_at dksX5_servedIn_1 16 rfl rfl)
theorem dX5_servedIn_41 : decode cX5_servedIn 41 = .ok (.aload_n 0, 1) := dk_42 (dk_at dksX5_servedIn_1 17 rfl rfl)
theorem dX5_servedIn_42 : decode cX5_servedIn 42 = .ok (.getfield 22, 3) := dk_180 0 22 (dk_at dksX5_servedIn_1 18 rfl rfl)
theorem dX5_servedIn_45 : decode cX5_servedIn 45 = .ok (.iconst 0, 1) := dk_3 (dk_at dksX5_servedIn_1 21 rfl rfl)
theorem dX5_servedIn_46 : decode cX5_servedIn 46 = .ok (.invokestatic 61, 3) := dk_184 0 61 (dk_at dksX5_servedIn_2 0 rfl rfl)
theorem dX5_servedIn_49 : decode cX5_servedIn 49 = .ok (.iconst 0, 1) := dk_3 (dk_at dksX5_servedIn_2 3 rfl rfl)
theorem dX5_servedIn_50 : decode cX5_servedIn 50 = .ok (.istore_n 2, 1) := dk_61 (dk_at dksX5_servedIn_2 4 rfl rfl)
theorem dX5_servedIn_51 : decode cX5_servedIn 51 = .ok (.iload_n 2, 1) := dk_28 (dk_at dksX5_servedIn_2 5 rfl rfl)
theorem dX5_servedIn_52 : decode cX5_servedIn 52 = .ok (.bipush 60, 2) := dk_16 60 (dk_at dksX5_servedIn_2 6 rfl rfl)
theorem dX5_servedIn_54 : decode cX5_servedIn 54 = .ok (.if_icmp .gt 26, 3) := dk_163 0 26 (dk_at dksX5_servedIn_2 8 rfl rfl)
theorem dX5_servedIn_57 : decode cX5_servedIn 57 = .ok (.aload_n 0, 1) := dk_42 (dk_at dksX5_servedIn_2 11 rfl rfl)
theorem dX5_servedIn_58 : decode cX5_servedIn 58 = .ok (.iload_n 1, 1) := dk_27 (dk_at dksX5_servedIn_2 12 rfl rfl)
theorem dX5_servedIn_59 : decode cX5_servedIn 59 = .ok (.invokevirtual 160, 3) := dk_182 0 160 (dk_at dksX5_servedIn_2 13 rfl rfl)
theorem dX5_servedIn_62 : decode cX5_servedIn 62 = .ok (.ifCond .ge 18, 3) := dk_156 0 18 (dk_at dksX5_servedIn_2 16 rfl rfl)
theorem dX5_servedIn_65 : decode cX5_servedIn 65 = .ok (.iinc 2 1, 3) := dk_132 2 1 (dk_at dksX5_servedIn_2 19 rfl rfl)
theorem dX5_servedIn_68 : decode cX5_servedIn 68 = .ok (.aload_n 0, 1) := dk_42 (dk_at dksX5_servedIn_2 22 rfl rfl)
theorem dX5_servedIn_69 : decode cX5_servedIn 69 = .ok (.invokevirtual 166, 3) := dk_182 0 166 (dk_at dksX5_servedIn_3 0 rfl rfl)
theorem dX5_servedIn_72 : decode cX5_servedIn 72 = .ok (.ifCond .ge (-21), 3) := dk_156 255 235 (dk_at dksX5_servedIn_3 3 rfl rfl)
theorem dX5_servedIn_75 : decode cX5_servedIn 75 = .ok (.iconst 0, 1) := dk_3 (dk_at dksX5_servedIn_3 6 rfl rfl)
theorem dX5_servedIn_76 : decode cX5_servedIn 76 = .ok (.istore_n 2, 1) := dk_61 (dk_at dksX5_servedIn_3 7 rfl rfl)
theorem dX5_servedIn_77 : decode cX5_servedIn 77 = .ok (.goto (-26), 3) := dk_167 255 230 (dk_at dksX5_servedIn_3 8 rfl rfl)
theorem dX5_servedIn_80 : decode cX5_servedIn 80 = .ok (.aload_n 0, 1) := dk_42 (dk_at dksX5_servedIn_3 11 rfl rfl)
theorem dX5_servedIn_81 : decode cX5_servedIn 81 = .ok (.getfield 22, 3) := dk_180 0 22 (dk_at dksX5_servedIn_3 12 rfl rfl)
theorem dX5_servedIn_84 : decode cX5_servedIn 84 = .ok (.iconst 0, 1) := dk_3 (dk_at dksX5_servedIn_3 15 rfl rfl)
theorem dX5_servedIn_85 : decode cX5_servedIn 85 = .ok (.aload_n 0, 1) := dk_42 (dk_at dksX5_servedIn_3 16 rfl rfl)
theorem dX5_servedIn_86 : decode cX5_servedIn 86 = .ok (.getfield 7, 3) := dk_180 0 7 (dk_at dksX5_servedIn_3 17 rfl rfl)
theorem dX5_servedIn_89 : decode cX5_servedIn 89 = .ok (.iconst 0, 1) := dk_3 (dk_at dksX5_servedIn_3 20 rfl rfl)
theorem dX5_servedIn_90 : decode cX5_servedIn 90 = .ok (.invokestatic 61, 3) := dk_184 0 61 (dk_at dksX5_servedIn_3 21 rfl rfl)
theorem dX5_servedIn_93 : decode cX5_servedIn 93 = .ok (.aload_n 0, 1) := dk_42 (dk_at dksX5_servedIn_4 0 rfl rfl)
theorem dX5_servedIn_94 : decode cX5_servedIn 94 = .ok (.iload_n 2, 1) := dk_28 (dk_at dksX5_servedIn_4 1 rfl rfl)
theorem dX5_servedIn_95 : decode cX5_servedIn 95 = .ok (.bipush 60, 2) := dk_16 60 (dk_at dksX5_servedIn_4 2 rfl rfl)
theorem dX5_servedIn_97 : decode cX5_servedIn 97 = .ok (.if_icmp .le 7, 3) := dk_164 0 7 (dk_at dksX5_servedIn_4 4 rfl rfl)
theorem dX5_servedIn_100 : decode cX5_servedIn 100 = .ok (.iconst 3, 1) := dk_6 (dk_at dksX5_servedIn_4 7 rfl rfl)
theorem dX5_servedIn_101 : decode cX5_servedIn 101 = .ok (.goto 4, 3) := dk_167 0 4 (dk_at dksX5_servedIn_4 8 rfl rfl)
theorem dX5_servedIn_104 : decode cX5_servedIn 104 = .ok (.iconst 0, 1) := dk_3 (dk_at dksX5_servedIn_4 11 rfl rfl)
theorem dX5_servedIn_105 : decode cX5_servedIn 105 = .ok (.invokevirtual 73, 3) := dk_182 0 73 (dk_at dksX5_servedIn_4 12 rfl rfl)
theorem dX5_servedIn_108 : decode cX5_servedIn 108 = .ok (.ifCond .eq 7, 3) := dk_153 0 7 (dk_at dksX5_servedIn_4 15 rfl rfl)
theorem dX5_servedIn_111 : decode cX5_servedIn 111 = .ok (.iconst 0, 1) := dk_3 (dk_at dksX5_servedIn_4 18 rfl rfl)
theorem dX5_servedIn_112 : decode cX5_servedIn 112 = .ok (.goto 4, 3) := dk_167 0 4 (dk_at dksX5_servedIn_4 19 rfl rfl)
theorem dX5_servedIn_115 : decode cX5_servedIn 115 = .ok (.iload_n 2, 1) := dk_28 (dk_at dksX5_servedIn_4 22 rfl rfl)
theorem dX5_servedIn_116 : decode cX5_servedIn 116 = .ok (.ireturn, 1) := dk_172 (dk_at dksX5_servedIn_4 23 rfl rfl)
abbrev cX5_goesBy : ByteArray := prog_18_method_52_code
def yX5_goesBy : MethodName := ⟨RX5, "goesBy", "()I"⟩
def dkwX5_goesBy_6 : List UInt8 := [60, 132, 2, 1, 167, 255, 162, 27, 172]
abbrev dktX5_goesBy_6 : List UInt8 := dkwX5_goesBy_6 ++ []
def dkwX5_goesBy_5 : List UInt8 := [4, 96, 182, 0, 118, 27, 42, 28, 182, 0, 151, 153, 0, 11, 29, 154, 0, 7, 4, 167, 0, 4, 3, 96]
abbrev dktX5_goesBy_5 : List UInt8 := dkwX5_goesBy_5 ++ dktX5_goesBy_6
def dkwX5_goesBy_4 : List UInt8 := [182, 0, 121, 153, 0, 6, 167, 0, 43, 42, 28, 182, 0, 151, 62, 42, 28, 5, 42, 28, 5, 182, 0, 121]
abbrev dktX5_goesBy_4 : List UInt8 := dkwX5_goesBy_4 ++ dktX5_goesBy_5
def dkwX5_goesBy_3 : List UInt8 := [160, 0, 21, 42, 28, 6, 3, 42, 28, 6, 182, 0, 121, 4, 100, 184, 0, 94, 182, 0, 118, 42, 28, 3]
abbrev dktX5_goesBy_3 : List UInt8 := dkwX5_goesBy_3 ++ dktX5_goesBy_4
def dkwX5_goesBy_2 : List UInt8 := [167, 255, 223, 3, 61, 28, 42, 180, 0, 7, 16, 8, 46, 162, 0, 89, 42, 28, 3, 182, 0, 121, 4]
abbrev dktX5_goesBy_2 : List UInt8 := dkwX5_goesBy_2 ++ dktX5_goesBy_3
def dkwX5_goesBy_1 : List UInt8 := [16, 16, 6, 28, 104, 96, 4, 96, 3, 42, 28, 4, 182, 0, 88, 6, 100, 184, 0, 94, 79, 132, 2, 1]
abbrev dktX5_goesBy_1 : List UInt8 := dkwX5_goesBy_1 ++ dktX5_goesBy_2
def dkwX5_goesBy_0 : List UInt8 := [3, 60, 42, 180, 0, 7, 3, 92, 46, 4, 96, 79, 3, 61, 28, 6, 162, 0, 34, 42, 180, 0, 7]
abbrev dktX5_goesBy_0 : List UInt8 := dkwX5_goesBy_0 ++ dktX5_goesBy_1
theorem dksX5_goesBy_0 : cX5_goesBy.data.toList.drop 0 = dktX5_goesBy_0 := by decide +kernel
theorem dksX5_goesBy_1 : cX5_goesBy.data.toList.drop 23 = dktX5_goesBy_1 := dk_seg dksX5_goesBy_0 23 rfl rfl
theorem dksX5_goesBy_2 : cX5_goesBy.data.toList.drop 47 = dktX5_goesBy_2 := dk_seg dksX5_goesBy_1 24 rfl rfl
theorem dksX5_goesBy_3 : cX5_goesBy.data.toList.drop 70 = dktX5_goesBy_3 := dk_seg dksX5_goesBy_2 23 rfl rfl
theorem dksX5_goesBy_4 : cX5_goesBy.data.toList.drop 94 = dktX5_goesBy_4 := dk_seg dksX5_goesBy_3 24 rfl rfl
theorem dksX5_goesBy_5 : cX5_goesBy.data.toList.drop 118 = dktX5_goesBy_5 := dk_seg dksX5_goesBy_4 24 rfl rfl
theorem dksX5_goesBy_6 : cX5_goesBy.data.toList.drop 142 = dktX5_goesBy_6 := dk_seg dksX5_goesBy_5 24 rfl rfl
theorem dX5_goesBy_0 : decode cX5_goesBy 0 = .ok (.iconst 0, 1) := dk_3 (dk_at dksX5_goesBy_0 0 rfl rfl)
theorem dX5_goesBy_1 : decode cX5_goesBy 1 = .ok (.istore_n 1, 1) := dk_60 (dk_at dksX5_goesBy_0 1 rfl rfl)
theorem dX5_goesBy_2 : decode cX5_goesBy 2 = .ok (.aload_n 0, 1) := dk_42 (dk_at dksX5_goesBy_0 2 rfl rfl)
theorem dX5_goesBy_3 : decode cX5_goesBy 3 = .ok (.getfield 7, 3) := dk_180 0 7 (dk_at dksX5_goesBy_0 3 rfl rfl)
theorem dX5_goesBy_6 : decode cX5_goesBy 6 = .ok (.iconst 0, 1) := dk_3 (dk_at dksX5_goesBy_0 6 rfl rfl)
theorem dX5_goesBy_7 : decode cX5_goesBy 7 = .ok (.dup2, 1) := dk_92 (dk_at dksX5_goesBy_0 7 rfl rfl)
theorem dX5_goesBy_8 : decode cX5_goesBy 8 = .ok (.iaload, 1) := dk_46 (dk_at dksX5_goesBy_0 8 rfl rfl)
theorem dX5_goesBy_9 : decode cX5_goesBy 9 = .ok (.iconst 1, 1) := dk_4 (dk_at dksX5_goesBy_0 9 rfl rfl)
theorem dX5_goesBy_10 : decode cX5_goesBy 10 = .ok (.iadd, 1) := dk_96 (dk_at dksX5_goesBy_0 10 rfl rfl)
theorem dX5_goesBy_11 : decode cX5_goesBy 11 = .ok (.iastore, 1) := dk_79 (dk_at dksX5_goesBy_0 11 rfl rfl)
theorem dX5_goesBy_12 : decode cX5_goesBy 12 = .ok (.iconst 0, 1) := dk_3 (dk_at dksX5_goesBy_0 12 rfl rfl)
theorem dX5_goesBy_13 : decode cX5_goesBy 13 = .ok (.istore_n 2, 1) := dk_61 (dk_at dksX5_goesBy_0 13 rfl rfl)
theorem dX5_goesBy_14 : decode cX5_goesBy 14 = .ok (.iload_n 2, 1) := dk_28 (dk_at dksX5_goesBy_0 14 rfl rfl)
theorem dX5_goesBy_15 : decode cX5_goesBy 15 = .ok (.iconst 3, 1) := dk_6 (dk_at dksX5_goesBy_0 15 rfl rfl)
theorem dX5_goesBy_16 : decode cX5_goesBy 16 = .ok (.if_icmp .ge 34, 3) := dk_162 0 34 (dk_at dksX5_goesBy_0 16 rfl rfl)
theorem dX5_goesBy_19 : decode cX5_goesBy 19 = .ok (.aload_n 0, 1) := dk_42 (dk_at dksX5_goesBy_0 19 rfl rfl)
theorem dX5_goesBy_20 : decode cX5_goesBy 20 = .ok (.getfield 7, 3) := dk_180 0 7 (dk_at dksX5_goesBy_0 20 rfl rfl)
theorem dX5_goesBy_23 : decode cX5_goesBy 23 = .ok (.bipush 16, 2) := dk_16 16 (dk_at dksX5_goesBy_1 0 rfl rfl)
theorem dX5_goesBy_25 : decode cX5_goesBy 25 = .ok (.iconst 3, 1) := dk_6 (dk_at dksX5_goesBy_1 2 rfl rfl)
theorem dX5_goesBy_26 : decode cX5_goesBy 26 = .ok (.iload_n 2, 1) := dk_28 (dk_at dksX5_goesBy_1 3 rfl rfl)
theorem dX5_goesBy_27 : decode cX5_goesBy 27 = .ok (.imul, 1) := dk_104 (dk_at dksX5_goesBy_1 4 rfl rfl)
theorem dX5_goesBy_28 : decode cX5_goesBy 28 = .ok (.iadd, 1) := dk_96 (dk_at dksX5_goesBy_1 5 rfl rfl)
theorem dX5_goesBy_29 : decode cX5_goesBy 29 = .ok (.iconst 1, 1) := dk_4 (dk_at dksX5_goesBy_1 6 rfl rfl)
theorem dX5_goesBy_30 : decode cX5_goesBy 30 = .ok (.iadd, 1) := dk_96 (dk_at dksX5_goesBy_1 7 rfl rfl)
theorem dX5_goesBy_31 : decode cX5_goesBy 31 = .ok (.iconst 0, 1) := dk_3 (dk_at dksX5_goesBy_1 8 rfl rfl)
theorem dX5_goesBy_32 : decode cX5_goesBy 32 = .ok (.aload_n 0, 1) := dk_42 (dk_at dksX5_goesBy_1 9 rfl rfl)
theorem dX5_goesBy_33 : decode cX5_goesBy 33 = .ok (.iload_n 2, 1) := dk_28 (dk_at dksX5_goesBy_1 10 rfl rfl)
theorem dX5_goesBy_34 : decode cX5_goesBy 34 = .ok (.iconst 1, 1) := dk_4 (dk_at dksX5_goesBy_1 11 rfl rfl)
theorem dX5_goesBy_35 : decode cX5_goesBy 35 = .ok (.invokevirtual 88, 3) := dk_182 0 88 (dk_at dksX5_goesBy_1 12 rfl rfl)
theorem dX5_goesBy_38 : decode cX5_goesBy 38 = .ok (.iconst 3, 1) := dk_6 (dk_at dksX5_goesBy_1 15 rfl rfl)
theorem dX5_goesBy_39 : decode cX5_goesBy 39 = .ok (.isub, 1) := dk_100 (dk_at dksX5_goesBy_1 16 rfl rfl)
theorem dX5_goesBy_40 : decode cX5_goesBy 40 = .ok (.invokestatic 94, 3) := dk_184 0 94 (dk_at dksX5_goesBy_1 17 rfl rfl)
theorem dX5_goesBy_43 : decode cX5_goesBy 43 = .ok (.iastore, 1) := dk_79 (dk_at dksX5_goesBy_1 20 rfl rfl)
theorem dX5_goesBy_44 : decode cX5_goesBy 44 = .ok (.iinc 2 1, 3) := dk_132 2 1 (dk_at dksX5_goesBy_1 21 rfl rfl)
theorem dX5_goesBy_47 : decode cX5_goesBy 47 = .ok (.goto (-33), 3) := dk_167 255 223 (dk_at dksX5_goesBy_2 0 rfl rfl)
theorem dX5_goesBy_50 : decode cX5_goesBy 50 = .ok (.iconst 0, 1) := dk_3 (dk_at dksX5_goesBy_2 3 rfl rfl)
theorem dX5_goesBy_51 : decode cX5_goesBy 51 = .ok (.istore_n 2, 1) := dk_61 (dk_at dksX5_goesBy_2 4 rfl rfl)
theorem dX5_goesBy_52 : decode cX5_goesBy 52 = .ok (.iload_n 2, 1) := dk_28 (dk_at dksX5_goesBy_2 5 rfl rfl)
theorem dX5_goesBy_53 : decode cX5_goesBy 53 = .ok (.aload_n 0, 1) := dk_42 (dk_at dksX5_goesBy_2 6 rfl rfl)
theorem dX5_goesBy_54 : decode cX5_goesBy 54 = .ok (.getfield 7, 3) := dk_180 0 7 (dk_at dksX5_goesBy_2 7 rfl rfl)
theorem dX5_goesBy_57 : decode cX5_goesBy 57 = .ok (.bipush 8, 2) := dk_16 8 (dk_at dksX5_goesBy_2 10 rfl rfl)
theorem dX5_goesBy_59 : decode cX5_goesBy 59 = .ok (.iaload, 1) := dk_46 (dk_at dksX5_goesBy_2 12 rfl rfl)
theorem dX5_goesBy_60 : decode cX5_goesBy 60 = .ok (.if_icmp .ge 89, 3) := dk_162 0 89 (dk_at dksX5_goesBy_2 13 rfl rfl)
theorem dX5_goesBy_63 : decode cX5_goesBy 63 = .ok (.aload_n 0, 1) := dk_42 (dk_at dksX5_goesBy_2 16 rfl rfl)
theorem dX5_goesBy_64 : decode cX5_goesBy 64 = .ok (.iload_n 2, 1) := dk_28 (dk_at dksX5_goesBy_2 17 rfl rfl)
theorem dX5_goesBy_65 : decode cX5_goesBy 65 = .ok (.iconst 0, 1) := dk_3 (dk_at dksX5_goesBy_2 18 rfl rfl)
theorem dX5_goesBy_66 : decode cX5_goesBy 66 = .ok (.invokevirtual 121, 3) := dk_182 0 121 (dk_at dksX5_goesBy_2 19 rfl rfl)
theorem dX5_goesBy_69 : decode cX5_goesBy 69 = .ok (.iconst 1, 1) := dk_4 (dk_at dksX5_goesBy_2 22 rfl rfl)
theorem dX5_goesBy_70 : decode cX5_goesBy 70 = .ok (.if_icmp .ne 21, 3) := dk_160 0 21 (dk_at dksX5_goesBy_3 0 rfl rfl)
theorem dX5_goesBy_73 : decode cX5_goesBy 73 = .ok (.aload_n 0, 1) := dk_42 (dk_at dksX5_goesBy_3 3 rfl rfl)
theorem dX5_goesBy_74 : decode cX5_goesBy 74 = .ok (.iload_n 2, 1) := dk_28 (dk_at dksX5_goesBy_3 4 rfl rfl)
theorem dX5_goesBy_75 : decode cX5_goesBy 75 = .ok (.iconst 3, 1) := dk_6 (dk_at dksX5_goesBy_3 5 rfl rfl)
theorem dX5_goesBy_76 : decode cX5_goesBy 76 = .ok (.iconst 0, 1) := dk_3 (dk_at dksX5_goesBy_3 6 rfl rfl)
theorem dX5_goesBy_77 : decode cX5_goesBy 77 = .ok (.aload_n 0, 1) := dk_42 (dk_at dksX5_goesBy_3 7 rfl rfl)
theorem dX5_goesBy_78 : decode cX5_goesBy 78 = .ok (.iload_n 2, 1) := dk_28 (dk_at dksX5_goesBy_3 8 rfl rfl)
theorem dX5_goesBy_79 : decode cX5_goesBy 79 = .ok (.iconst 3, 1) := dk_6 (dk_at dksX5_goesBy_3 9 rfl rfl)
theorem dX5_goesBy_80 : decode cX5_goesBy 80 = .ok (.invokevirtual 121, 3) := dk_182 0 121 (dk_at dksX5_goesBy_3 10 rfl rfl)
theorem dX5_goesBy_83 : decode cX5_goesBy 83 = .ok (.iconst 1, 1) := dk_4 (dk_at dksX5_goesBy_3 13 rfl rfl)
theorem dX5_goesBy_84 : decode cX5_goesBy 84 = .ok (.isub, 1) := dk_100 (dk_at dksX5_goesBy_3 14 rfl rfl)
theorem dX5_goesBy_85 : decode cX5_goesBy 85 = .ok (.invokestatic 94, 3) := dk_184 0 94 (dk_at dksX5_goesBy_3 15 rfl rfl)
theorem dX5_goesBy_88 : decode cX5_goesBy 88 = .ok (.invokevirtual 118, 3) := dk_182 0 118 (dk_at dksX5_goesBy_3 18 rfl rfl)
theorem dX5_goesBy_91 : decode cX5_goesBy 91 = .ok (.aload_n 0, 1) := dk_42 (dk_at dksX5_goesBy_3 21 rfl rfl)
theorem dX5_goesBy_92 : decode cX5_goesBy 92 = .ok (.iload_n 2, 1) := dk_28 (dk_at dksX5_goesBy_3 22 rfl rfl)
theorem dX5_goesBy_93 : decode cX5_goesBy 93 = .ok (.iconst 0, 1) := dk_3 (dk_at dksX5_goesBy_3 23 rfl rfl)
theorem dX5_goesBy_94 : decode cX5_goesBy 94 = .ok (.invokevirtual 121, 3) := dk_182 0 121 (dk_at dksX5_goesBy_4 0 rfl rfl)
theorem dX5_goesBy_97 : decode cX5_goesBy 97 = .ok (.ifCond .eq 6, 3) := dk_153 0 6 (dk_at dksX5_goesBy_4 3 rfl rfl)
theorem dX5_goesBy_100 : decode cX5_goesBy 100 = .ok (.goto 43, 3) := dk_167 0 43 (dk_at dksX5_goesBy_4 6 rfl rfl)
theorem dX5_goesBy_103 : decode cX5_goesBy 103 = .ok (.aload_n 0, 1) := dk_42 (dk_at dksX5_goesBy_4 9 rfl rfl)
theorem dX5_goesBy_104 : decode cX5_goesBy 104 = .ok (.iload_n 2, 1) := dk_28 (dk_at dksX5_goesBy_4 10 rfl rfl)
theorem dX5_goesBy_105 : decode cX5_goesBy 105 = .ok (.invokevirtual 151, 3) := dk_182 0 151 (dk_at dksX5_goesBy_4 11 rfl rfl)
theorem dX5_goesBy_108 : decode cX5_goesBy 108 = .ok (.istore_n 3, 1) := dk_62 (dk_at dksX5_goesBy_4 14 rfl rfl)
theorem dX5_goesBy_109 : decode cX5_goesBy 109 = .ok (.aload_n 0, 1) := dk_42 (dk_at dksX5_goesBy_4 15 rfl rfl)
theorem dX5_goesBy_110 : decode cX5_goesBy 110 = .ok (.iload_n 2, 1) := dk_28 (dk_at dksX5_goesBy_4 16 rfl rfl)
theorem dX5_goesBy_111 : decode cX5_goesBy 111 = .ok (.iconst 2, 1) := dk_5 (dk_at dksX5_goesBy_4 17 rfl rfl)
theorem dX5_goesBy_112 : decode cX5_goesBy 112 = .ok (.aload_n 0, 1) := dk_42 (dk_at dksX5_goesBy_4 18 rfl rfl)
theorem dX5_goesBy_113 : decode cX5_goesBy 113 = .ok (.iload_n 2, 1) := dk_28 (dk_at dksX5_goesBy_4 19 rfl rfl)
theorem dX5_goesBy_114 : decode cX5_goesBy 114 = .ok (.iconst 2, 1) := dk_5 (dk_at dksX5_goesBy_4 20 rfl rfl)
theorem dX5_goesBy_115 : decode cX5_goesBy 115 = .ok (.invokevirtual 121, 3) := dk_182 0 121 (dk_at dksX5_goesBy_4 21 rfl rfl)
theorem dX5_goesBy_118 : decode cX5_goesBy 118 = .ok (.iconst 1, 1) := dk_4 (dk_at dksX5_goesBy_5 0 rfl rfl)
theorem dX5_goesBy_119 : decode cX5_goesBy 119 = .ok (.iadd, 1) := dk_96 (dk_at dksX5_goesBy_5 1 rfl rfl)
theorem dX5_goesBy_120 : decode cX5_goesBy 120 = .ok (.invokevirtual 118, 3) := dk_182 0 118 (dk_at dksX5_goesBy_5 2 rfl rfl)
theorem dX5_goesBy_123 : decode cX5_goesBy 123 = .ok (.iload_n 1, 1) := dk_27 (dk_at dksX5_goesBy_5 5 rfl rfl)
theorem dX5_goesBy_124 : decode cX5_goesBy 124 = .ok (.aload_n 0, 1) := dk_42 (dk_at dksX5_goesBy_5 6 rfl rfl)
theorem dX5_goesBy_125 : decode cX5_goesBy 125 = .ok (.iload_n 2, 1) := dk_28 (dk_at dksX5_goesBy_5 7 rfl rfl)
theorem dX5_goesBy_126 : decode cX5_goesBy 126 = .ok (.invokevirtual 151, 3) := dk_182 0 151 (dk_at dksX5_goesBy_5 8 rfl rfl)
theorem dX5_goesBy_129 : decode cX5_goesBy 129 = .ok (.ifCond .eq 11, 3) := dk_153 0 11 (dk_at dksX5_goesBy_5 11 rfl rfl)
theorem dX5_goesBy_132 : decode cX5_goesBy 132 = .ok (.iload_n 3, 1) := dk_29 (dk_at dksX5_goesBy_5 14 rfl rfl)
theorem dX5_goesBy_133 : decode cX5_goesBy 133 = .ok (.ifCond .ne 7, 3) := dk_154 0 7 (dk_at dksX5_goesBy_5 15 rfl rfl)
theorem dX5_goesBy_136 : decode cX5_goesBy 136 = .ok (.iconst 1, 1) := dk_4 (dk_at dksX5_goesBy_5 18 rfl rfl)
theorem dX5_goesBy_137 : decode cX5_goesBy 137 = .ok (.goto 4, 3) := dk_167 0 4 (dk_at dksX5_goesBy_5 19 rfl rfl)
theorem dX5_goesBy_140 : decode cX5_goesBy 140 = .ok (.iconst 0, 1) := dk_3 (dk_at dksX5_goesBy_5 22 rfl rfl)
theorem dX5_goesBy_141 : decode cX5_goesBy 141 = .ok (.iadd, 1) := dk_96 (dk_at dksX5_goesBy_5 23 rfl rfl)
theorem dX5_goesBy_142 : decode cX5_goesBy 142 = .ok (.istore_n 1, 1) := dk_60 (dk_at dksX5_goesBy_6 0 rfl rfl)
theorem dX5_goesBy_143 : decode cX5_goesBy 143 = .ok (.iinc 2 1, 3) := dk_132 2 1 (dk_at dksX5_goesBy_6 1 rfl rfl)
theorem dX5_goesBy_146 : decode cX5_goesBy 146 = .ok (.goto (-94), 3) := dk_167 255 162 (dk_at dksX5_goesBy_6 4 rfl rfl)
theorem dX5_goesBy_149 : decode cX5_goesBy 149 = .ok (.iload_n 1, 1) := dk_27 (dk_at dksX5_goesBy_6 7 rfl rfl)
theorem dX5_goesBy_150 : decode cX5_goesBy 150 = .ok (.ireturn, 1) := dk_172 (dk_at dksX5_goesBy_6 8 rfl rfl)
abbrev cX5_rest : ByteArray := prog_18_method_54_code
def yX5_rest : MethodName := ⟨RX5, "rest", "(I)I"⟩
def dkwX5_rest_2 : List UInt8 := [132, 3, 1, 167, 255, 241, 28, 172]
abbrev dktX5_rest_2 : List UInt8 := dkwX5_rest_2 ++ []
def dkwX5_rest_1 : List UInt8 := [42, 42, 180, 0, 7, 182, 0, 81, 3, 61, 3, 62, 29, 27, 162, 0, 16, 28, 42, 182, 0, 166, 96, 61]
abbrev dktX5_rest_1 : List UInt8 := dkwX5_rest_1 ++ dktX5_rest_2
def dkwX5_rest_0 : List UInt8 := [42, 27, 4, 16, 40, 184, 0, 65, 153, 0, 7, 3, 167, 0, 4, 4, 182, 0, 73, 153, 0, 5, 3, 172]
abbrev dktX5_rest_0 : List UInt8 := dkwX5_rest_0 ++ dktX5_rest_1
theorem dksX5_rest_0 : cX5_rest.data.toList.drop 0 = dktX5_rest_0 := by decide +kernel
theorem dksX5_rest_1 : cX5_rest.data.toList.drop 24 = dktX5_rest_1 := dk_seg dksX5_rest_0 24 rfl rfl
theorem dksX5_rest_2 : cX5_rest.data.toList.drop 48 = dktX5_rest_2 := dk_seg dksX5_rest_1 24 rfl rfl
theorem dX5_rest_0 : decode cX5_rest 0 = .ok (.aload_n 0, 1) := dk_42 (dk_at dksX5_rest_0 0 rfl rfl)
theorem dX5_rest_1 : decode cX5_rest 1 = .ok (.iload_n 1, 1) := dk_27 (dk_at dksX5_rest_0 1 rfl rfl)
theorem dX5_rest_2 : decode cX5_rest 2 = .ok (.iconst 1, 1) := dk_4 (dk_at dksX5_rest_0 2 rfl rfl)
theorem dX5_rest_3 : decode cX5_rest 3 = .ok (.bipush 40, 2) := dk_16 40 (dk_at dksX5_rest_0 3 rfl rfl)
theorem dX5_rest_5 : decode cX5_rest 5 = .ok (.invokestatic 65, 3) := dk_184 0 65 (dk_at dksX5_rest_0 5 rfl rfl)
theorem dX5_rest_8 : decode cX5_rest 8 = .ok (.ifCond .eq 7, 3) := dk_153 0 7 (dk_at dksX5_rest_0 8 rfl rfl)
theorem dX5_rest_11 : decode cX5_rest 11 = .ok (.iconst 0, 1) := dk_3 (dk_at dksX5_rest_0 11 rfl rfl)
theorem dX5_rest_12 : decode cX5_rest 12 = .ok (.goto 4, 3) := dk_167 0 4 (dk_at dksX5_rest_0 12 rfl rfl)
theorem dX5_rest_15 : decode cX5_rest 15 = .ok (.iconst 1, 1) := dk_4 (dk_at dksX5_rest_0 15 rfl rfl)
theorem dX5_rest_16 : decode cX5_rest 16 = .ok (.invokevirtual 73, 3) := dk_182 0 73 (dk_at dksX5_rest_0 16 rfl rfl)
theorem dX5_rest_19 : decode cX5_rest 19 = .ok (.ifCond .eq 5, 3) := dk_153 0 5 (dk_at dksX5_rest_0 19 rfl rfl)
theorem dX5_rest_22 : decode cX5_rest 22 = .ok (.iconst 0, 1) := dk_3 (dk_at dksX5_rest_0 22 rfl rfl)
theorem dX5_rest_23 : decode cX5_rest 23 = .ok (.ireturn, 1) := dk_172 (dk_at dksX5_rest_0 23 rfl rfl)
theorem dX5_rest_24 : decode cX5_rest 24 = .ok (.aload_n 0, 1) := dk_42 (dk_at dksX5_rest_1 0 rfl rfl)
theorem dX5_rest_25 : decode cX5_rest 25 = .ok (.aload_n 0, 1) := dk_42 (dk_at dksX5_rest_1 1 rfl rfl)
theorem dX5_rest_26 : decode cX5_rest 26 = .ok (.getfield 7, 3) := dk_180 0 7 (dk_at dksX5_rest_1 2 rfl rfl)
theorem dX5_rest_29 : decode cX5_rest 29 = .ok (.invokevirtual 81, 3) := dk_182 0 81 (dk_at dksX5_rest_1 5 rfl rfl)
theorem dX5_rest_32 : decode cX5_rest 32 = .ok (.iconst 0, 1) := dk_3 (dk_at dksX5_rest_1 8 rfl rfl)
theorem dX5_rest_33 : decode cX5_rest 33 = .ok (.istore_n 2, 1) := dk_61 (dk_at dksX5_rest_1 9 rfl rfl)
theorem dX5_rest_34 : decode cX5_rest 34 = .ok (.iconst 0, 1) := dk_3 (dk_at dksX5_rest_1 10 rfl rfl)
theorem dX5_rest_35 : decode cX5_rest 35 = .ok (.istore_n 3, 1) := dk_62 (dk_at dksX5_rest_1 11 rfl rfl)
theorem dX5_rest_36 : decode cX5_rest 36 = .ok (.iload_n 3, 1) := dk_29 (dk_at dksX5_rest_1 12 rfl rfl)
theorem dX5_rest_37 : decode cX5_rest 37 = .ok (.iload_n 1, 1) := dk_27 (dk_at dksX5_rest_1 13 rfl rfl)
theorem dX5_rest_38 : decode cX5_rest 38 = .ok (.if_icmp .ge 16, 3) := dk_162 0 16 (dk_at dksX5_rest_1 14 rfl rfl)
theorem dX5_rest_41 : decode cX5_rest 41 = .ok (.iload_n 2, 1) := dk_28 (dk_at dksX5_rest_1 17 rfl rfl)
theorem dX5_rest_42 : decode cX5_rest 42 = .ok (.aload_n 0, 1) := dk_42 (dk_at dksX5_rest_1 18 rfl rfl)
theorem dX5_rest_43 : decode cX5_rest 43 = .ok (.invokevirtual 166, 3) := dk_182 0 166 (dk_at dksX5_rest_1 19 rfl rfl)
theorem dX5_rest_46 : decode cX5_rest 46 = .ok (.iadd, 1) := dk_96 (dk_at dksX5_rest_1 22 rfl rfl)
theorem dX5_rest_47 : decode cX5_rest 47 = .ok (.istore_n 2, 1) := dk_61 (dk_at dksX5_rest_1 23 rfl rfl)
theorem dX5_rest_48 : decode cX5_rest 48 = .ok (.iinc 3 1, 3) := dk_132 3 1 (dk_at dksX5_rest_2 0 rfl rfl)
theorem dX5_rest_51 : decode cX5_rest 51 = .ok (.goto (-15), 3) := dk_167 255 241 (dk_at dksX5_rest_2 3 rfl rfl)
theorem dX5_rest_54 : decode cX5_rest 54 = .ok (.iload_n 2, 1) := dk_28 (dk_at dksX5_rest_2 6 rfl rfl)
theorem dX5_rest_55 : decode cX5_rest 55 = .ok (.ireturn, 1) := dk_172 (dk_at dksX5_rest_2 7 rfl rfl)
abbrev cX5_tray : ByteArray := prog_18_method_56_code
def yX5_tray : MethodName := ⟨RX5, "tray", "(I)I"⟩
def dkwX5_tray_2 : List UInt8 := [162, 0, 19, 42, 180, 0, 7, 16, 12, 29, 96, 2, 79, 132, 3, 1, 167, 255, 238, 28, 172]
abbrev dktX5_tray_2 : List UInt8 := dkwX5_tray_2 ++ []
def dkwX5_tray_1 : List UInt8 := [42, 180, 0, 7, 182, 0, 81, 42, 182, 0, 170, 61, 42, 180, 0, 7, 16, 11, 27, 79, 3, 62, 29, 7]
abbrev dktX5_tray_1 : List UInt8 := dkwX5_tray_1 ++ dktX5_tray_2
def dkwX5_tray_0 : List UInt8 := [42, 27, 3, 4, 184, 0, 65, 153, 0, 7, 3, 167, 0, 4, 4, 182, 0, 73, 153, 0, 5, 3, 172, 42]
abbrev dktX5_tray_0 : List UInt8 := dkwX5_tray_0 ++ dktX5_tray_1
theorem dksX5_tray_0 : cX5_tray.data.toList.drop 0 = dktX5_tray_0 := by decide +kernel
theorem dksX5_tray_1 : cX5_tray.data.toList.drop 24 = dktX5_tray_1 := dk_seg dksX5_tray_0 24 rfl rfl
theorem dksX5_tray_2 : cX5_tray.data.toList.drop 48 = dktX5_tray_2 := dk_seg dksX5_tray_1 24 rfl rfl
theorem dX5_tray_0 : decode cX5_tray 0 = .ok (.aload_n 0, 1) := dk_42 (dk_at dksX5_tray_0 0 rfl rfl)
theorem dX5_tray_1 : decode cX5_tray 1 = .ok (.iload_n 1, 1) := dk_27 (dk_at dksX5_tray_0 1 rfl rfl)
theorem dX5_tray_2 : decode cX5_tray 2 = .ok (.iconst 0, 1) := dk_3 (dk_at dksX5_tray_0 2 rfl rfl)
theorem dX5_tray_3 : decode cX5_tray 3 = .ok (.iconst 1, 1) := dk_4 (dk_at dksX5_tray_0 3 rfl rfl)
theorem dX5_tray_4 : decode cX5_tray 4 = .ok (.invokestatic 65, 3) := dk_184 0 65 (dk_at dksX5_tray_0 4 rfl rfl)
theorem dX5_tray_7 : decode cX5_tray 7 = .ok (.ifCond .eq 7, 3) := dk_153 0 7 (dk_at dksX5_tray_0 7 rfl rfl)
theorem dX5_tray_10 : decode cX5_tray 10 = .ok (.iconst 0, 1) := dk_3 (dk_at dksX5_tray_0 10 rfl rfl)
theorem dX5_tray_11 : decode cX5_tray 11 = .ok (.goto 4, 3) := dk_167 0 4 (dk_at dksX5_tray_0 11 rfl rfl)
theorem dX5_tray_14 : decode cX5_tray 14 = .ok (.iconst 1, 1) := dk_4 (dk_at dksX5_tray_0 14 rfl rfl)
theorem dX5_tray_15 : decode cX5_tray 15 = .ok (.invokevirtual 73, 3) := dk_182 0 73 (dk_at dksX5_tray_0 15 rfl rfl)
theorem dX5_tray_18 : decode cX5_tray 18 = .ok (.ifCond .eq 5, 3) := dk_153 0 5 (dk_at dksX5_tray_0 18 rfl rfl)
theorem dX5_tray_21 : decode cX5_tray 21 = .ok (.iconst 0, 1) := dk_3 (dk_at dksX5_tray_0 21 rfl rfl)
theorem dX5_tray_22 : decode cX5_tray 22 = .ok (.ireturn, 1) := dk_172 (dk_at dksX5_tray_0 22 rfl rfl)
theorem dX5_tray_23 : decode cX5_tray 23 = .ok (.aload_n 0, 1) := dk_42 (dk_at dksX5_tray_0 23 rfl rfl)
theorem dX5_tray_24 : decode cX5_tray 24 = .ok (.aload_n 0, 1) := dk_42 (dk_at dksX5_tray_1 0 rfl rfl)
theorem dX5_tray_25 : decode cX5_tray 25 = .ok (.getfield 7, 3) := dk_180 0 7 (dk_at dksX5_tray_1 1 rfl rfl)
theorem dX5_tray_28 : decode cX5_tray 28 = .ok (.invokevirtual 81, 3) := dk_182 0 81 (dk_at dksX5_tray_1 4 rfl rfl)
theorem dX5_tray_31 : decode cX5_tray 31 = .ok (.aload_n 0, 1) := dk_42 (dk_at dksX5_tray_1 7 rfl rfl)
theorem dX5_tray_32 : decode cX5_tray 32 = .ok (.invokevirtual 170, 3) := dk_182 0 170 (dk_at dksX5_tray_1 8 rfl rfl)
theorem dX5_tray_35 : decode cX5_tray 35 = .ok (.istore_n 2, 1) := dk_61 (dk_at dksX5_tray_1 11 rfl rfl)
theorem dX5_tray_36 : decode cX5_tray 36 = .ok (.aload_n 0, 1) := dk_42 (dk_at dksX5_tray_1 12 rfl rfl)
theorem dX5_tray_37 : decode cX5_tray 37 = .ok (.getfield 7, 3) := dk_180 0 7 (dk_at dksX5_tray_1 13 rfl rfl)
theorem dX5_tray_40 : decode cX5_tray 40 = .ok (.bipush 11, 2) := dk_16 11 (dk_at dksX5_tray_1 16 rfl rfl)
theorem dX5_tray_42 : decode cX5_tray 42 = .ok (.iload_n 1, 1) := dk_27 (dk_at dksX5_tray_1 18 rfl rfl)
theorem dX5_tray_43 : decode cX5_tray 43 = .ok (.iastore, 1) := dk_79 (dk_at dksX5_tray_1 19 rfl rfl)
theorem dX5_tray_44 : decode cX5_tray 44 = .ok (.iconst 0, 1) := dk_3 (dk_at dksX5_tray_1 20 rfl rfl)
theorem dX5_tray_45 : decode cX5_tray 45 = .ok (.istore_n 3, 1) := dk_62 (dk_at dksX5_tray_1 21 rfl rfl)
theorem dX5_tray_46 : decode cX5_tray 46 = .ok (.iload_n 3, 1) := dk_29 (dk_at dksX5_tray_1 22 rfl rfl)
theorem dX5_tray_47 : decode cX5_tray 47 = .ok (.iconst 4, 1) := dk_7 (dk_at dksX5_tray_1 23 rfl rfl)
theorem dX5_tray_48 : decode cX5_tray 48 = .ok (.if_icmp .ge 19, 3) := dk_162 0 19 (dk_at dksX5_tray_2 0 rfl rfl)
theorem dX5_tray_51 : decode cX5_tray 51 = .ok (.aload_n 0, 1) := dk_42 (dk_at dksX5_tray_2 3 rfl rfl)
theorem dX5_tray_52 : decode cX5_tray 52 = .ok (.getfield 7, 3) := dk_180 0 7 (dk_at dksX5_tray_2 4 rfl rfl)
theorem dX5_tray_55 : decode cX5_tray 55 = .ok (.bipush 12, 2) := dk_16 12 (dk_at dksX5_tray_2 7 rfl rfl)
theorem dX5_tray_57 : decode cX5_tray 57 = .ok (.iload_n 3, 1) := dk_29 (dk_at dksX5_tray_2 9 rfl rfl)
theorem dX5_tray_58 : decode cX5_tray 58 = .ok (.iadd, 1) := dk_96 (dk_at dksX5_tray_2 10 rfl rfl)
theorem dX5_tray_59 : decode cX5_tray 59 = .ok (.iconst (-1), 1) := dk_2 (dk_at dksX5_tray_2 11 rfl rfl)
theorem dX5_tray_60 : decode cX5_tray 60 = .ok (.iastore, 1) := dk_79 (dk_at dksX5_tray_2 12 rfl rfl)
theorem dX5_tray_61 : decode cX5_tray 61 = .ok (.iinc 3 1, 3) := dk_132 3 1 (dk_at dksX5_tray_2 13 rfl rfl)
theorem dX5_tray_64 : decode cX5_tray 64 = .ok (.goto (-18), 3) := dk_167 255 238 (dk_at dksX5_tray_2 16 rfl rfl)
theorem dX5_tray_67 : decode cX5_tray 67 = .ok (.iload_n 2, 1) := dk_28 (dk_at dksX5_tray_2 19 rfl rfl)
theorem dX5_tray_68 : decode cX5_tray 68 = .ok (.ireturn, 1) := dk_172 (dk_at dksX5_tray_2 20 rfl rfl)
abbrev cX5_laid : ByteArray := prog_18_method_55_code
def yX5_laid : MethodName := ⟨RX5, "laid", "()I"⟩
def dkwX5_laid_1 : List UInt8 := [167, 0, 4, 3, 96, 60, 132, 2, 1, 167, 255, 228, 27, 172]
abbrev dktX5_laid_1 : List UInt8 := dkwX5_laid_1 ++ []
def dkwX5_laid_0 : List UInt8 := [3, 60, 3, 61, 28, 7, 162, 0, 29, 27, 42, 180, 0, 7, 16, 12, 28, 96, 46, 155, 0, 7, 4]
abbrev dktX5_laid_0 : List UInt8 := dkwX5_laid_0 ++ dktX5_laid_1
theorem dksX5_laid_0 : cX5_laid.data.toList.drop 0 = dktX5_laid_0 := by decide +kernel
theorem dksX5_laid_1 : cX5_laid.data.toList.drop 23 = dktX5_laid_1 := dk_seg dksX5_laid_0 23 rfl rfl
theorem dX5_laid_0 : decode cX5_laid 0 = .ok (.iconst 0, 1) := dk_3 (dk_at dksX5_laid_0 0 rfl rfl)
theorem dX5_laid_1 : decode cX5_laid 1 = .ok (.istore_n 1, 1) := dk_60 (dk_at dksX5_laid_0 1 rfl rfl)
theorem dX5_laid_2 : decode cX5_laid 2 = .ok (.iconst 0, 1) := dk_3 (dk_at dksX5_laid_0 2 rfl rfl)
theorem dX5_laid_3 : decode cX5_laid 3 = .ok (.istore_n 2, 1) := dk_61 (dk_at dksX5_laid_0 3 rfl rfl)
theorem dX5_laid_4 : decode cX5_laid 4 = .ok (.iload_n 2, 1) := dk_28 (dk_at dksX5_laid_0 4 rfl rfl)
theorem dX5_laid_5 : decode cX5_laid 5 = .ok (.iconst 4, 1) := dk_7 (dk_at dksX5_laid_0 5 rfl rfl)
theorem dX5_laid_6 : decode cX5_laid 6 = .ok (.if_icmp .ge 29, 3) := dk_162 0 29 (dk_at dksX5_laid_0 6 rfl rfl)
theorem dX5_laid_9 : decode cX5_laid 9 = .ok (.iload_n 1, 1) := dk_27 (dk_at dksX5_laid_0 9 rfl rfl)
theorem dX5_laid_10 : decode cX5_laid 10 = .ok (.aload_n 0, 1) := dk_42 (dk_at dksX5_laid_0 10 rfl rfl)
theorem dX5_laid_11 : decode cX5_laid 11 = .ok (.getfield 7, 3) := dk_180 0 7 (dk_at dksX5_laid_0 11 rfl rfl)
theorem dX5_laid_14 : decode cX5_laid 14 = .ok (.bipush 12, 2) := dk_16 12 (dk_at dksX5_laid_0 14 rfl rfl)
theorem dX5_laid_16 : decode cX5_laid 16 = .ok (.iload_n 2, 1) := dk_28 (dk_at dksX5_laid_0 16 rfl rfl)
theorem dX5_laid_17 : decode cX5_laid 17 = .ok (.iadd, 1) := dk_96 (dk_at dksX5_laid_0 17 rfl rfl)
theorem dX5_laid_18 : decode cX5_laid 18 = .ok (.iaload, 1) := dk_46 (dk_at dksX5_laid_0 18 rfl rfl)
theorem dX5_laid_19 : decode cX5_laid 19 = .ok (.ifCond .lt 7, 3) := dk_155 0 7 (dk_at dksX5_laid_0 19 rfl rfl)
theorem dX5_laid_22 : decode cX5_laid 22 = .ok (.iconst 1, 1) := dk_4 (dk_at dksX5_laid_0 22 rfl rfl)
theorem dX5_laid_23 : decode cX5_laid 23 = .ok (.goto 4, 3) := dk_167 0 4 (dk_at dksX5_laid_1 0 rfl rfl)
theorem dX5_laid_26 : decode cX5_laid 26 = .ok (.iconst 0, 1) := dk_3 (dk_at dksX5_laid_1 3 rfl rfl)
theorem dX5_laid_27 : decode cX5_laid 27 = .ok (.iadd, 1) := dk_96 (dk_at dksX5_laid_1 4 rfl rfl)
theorem dX5_laid_28 : decode cX5_laid 28 = .ok (.istore_n 1, 1) := dk_60 (dk_at dksX5_laid_1 5 rfl rfl)
theorem dX5_laid_29 : decode cX5_laid 29 = .ok (.iinc 2 1, 3) := dk_132 2 1 (dk_at dksX5_laid_1 6 rfl rfl)
theorem dX5_laid_32 : decode cX5_laid 32 = .ok (.goto (-28), 3) := dk_167 255 228 (dk_at dksX5_laid_1 9 rfl rfl)
theorem dX5_laid_35 : decode cX5_laid 35 = .ok (.iload_n 1, 1) := dk_27 (dk_at dksX5_laid_1 12 rfl rfl)
theorem dX5_laid_36 : decode cX5_laid 36 = .ok (.ireturn, 1) := dk_172 (dk_at dksX5_laid_1 13 rfl rfl)
abbrev cX5_lay : ByteArray := prog_18_method_57_code
def yX5_lay : MethodName := ⟨RX5, "lay", "(III)I"⟩
def dkwX5_lay_6 : List UInt8 := [182, 0, 81, 42, 180, 0, 7, 16, 12, 27, 96, 29, 79, 42, 182, 0, 170, 172]
abbrev dktX5_lay_6 : List UInt8 := dkwX5_lay_6 ++ []
def dkwX5_lay_5 : List UInt8 := [160, 0, 13, 42, 6, 16, 13, 21, 5, 182, 0, 77, 172, 132, 5, 1, 167, 255, 223, 42, 42, 180, 0, 7]
abbrev dktX5_lay_5 : List UInt8 := dkwX5_lay_5 ++ dktX5_lay_6
def dkwX5_lay_4 : List UInt8 := [182, 0, 77, 172, 3, 54, 5, 21, 5, 7, 162, 0, 33, 42, 180, 0, 7, 16, 12, 21, 5, 96, 46, 29]
abbrev dktX5_lay_4 : List UInt8 := dkwX5_lay_4 ++ dktX5_lay_5
def dkwX5_lay_3 : List UInt8 := [3, 172, 42, 180, 0, 7, 16, 11, 46, 28, 159, 0, 18, 42, 6, 16, 12, 42, 180, 0, 7, 16, 11, 46]
abbrev dktX5_lay_3 : List UInt8 := dkwX5_lay_3 ++ dktX5_lay_4
def dkwX5_lay_2 : List UInt8 := [4, 167, 0, 17, 28, 3, 4, 184, 0, 65, 153, 0, 7, 3, 167, 0, 4, 5, 182, 0, 73, 153, 0, 5]
abbrev dktX5_lay_2 : List UInt8 := dkwX5_lay_2 ++ dktX5_lay_3
def dkwX5_lay_1 : List UInt8 := [160, 0, 11, 42, 29, 182, 0, 133, 153, 0, 7, 4, 167, 0, 4, 3, 54, 4, 42, 21, 4, 154, 0, 7]
abbrev dktX5_lay_1 : List UInt8 := dkwX5_lay_1 ++ dktX5_lay_2
def dkwX5_lay_0 : List UInt8 := [27, 3, 6, 184, 0, 65, 153, 0, 32, 28, 154, 0, 11, 42, 29, 182, 0, 111, 153, 0, 20, 28, 4]
abbrev dktX5_lay_0 : List UInt8 := dkwX5_lay_0 ++ dktX5_lay_1
theorem dksX5_lay_0 : cX5_lay.data.toList.drop 0 = dktX5_lay_0 := by decide +kernel
theorem dksX5_lay_1 : cX5_lay.data.toList.drop 23 = dktX5_lay_1 := dk_seg dksX5_lay_0 23 rfl rfl
theorem dksX5_lay_2 : cX5_lay.data.toList.drop 47 = dktX5_lay_2 := dk_seg dksX5_lay_1 24 rfl rfl
theorem dksX5_lay_3 : cX5_lay.data.toList.drop 71 = dktX5_lay_3 := dk_seg dksX5_lay_2 24 rfl rfl
theorem dksX5_lay_4 : cX5_lay.data.toList.drop 95 = dktX5_lay_4 := dk_seg dksX5_lay_3 24 rfl rfl
theorem dksX5_lay_5 : cX5_lay.data.toList.drop 119 = dktX5_lay_5 := dk_seg dksX5_lay_4 24 rfl rfl
theorem dksX5_lay_6 : cX5_lay.data.toList.drop 143 = dktX5_lay_6 := dk_seg dksX5_lay_5 24 rfl rfl
theorem dX5_lay_0 : decode cX5_lay 0 = .ok (.iload_n 1, 1) := dk_27 (dk_at dksX5_lay_0 0 rfl rfl)
theorem dX5_lay_1 : decode cX5_lay 1 = .ok (.iconst 0, 1) := dk_3 (dk_at dksX5_lay_0 1 rfl rfl)
theorem dX5_lay_2 : decode cX5_lay 2 = .ok (.iconst 3, 1) := dk_6 (dk_at dksX5_lay_0 2 rfl rfl)
theorem dX5_lay_3 : decode cX5_lay 3 = .ok (.invokestatic 65, 3) := dk_184 0 65 (dk_at dksX5_lay_0 3 rfl rfl)
theorem dX5_lay_6 : decode cX5_lay 6 = .ok (.ifCond .eq 32, 3) := dk_153 0 32 (dk_at dksX5_lay_0 6 rfl rfl)
theorem dX5_lay_9 : decode cX5_lay 9 = .ok (.iload_n 2, 1) := dk_28 (dk_at dksX5_lay_0 9 rfl rfl)
theorem dX5_lay_10 : decode cX5_lay 10 = .ok (.ifCond .ne 11, 3) := dk_154 0 11 (dk_at dksX5_lay_0 10 rfl rfl)
theorem dX5_lay_13 : decode cX5_lay 13 = .ok (.aload_n 0, 1) := dk_42 (dk_at dksX5_lay_0 13 rfl rfl)
theorem dX5_lay_14 : decode cX5_lay 14 = .ok (.iload_n 3, 1) := dk_29 (dk_at dksX5_lay_0 14 rfl rfl)
theorem dX5_lay_15 : decode cX5_lay 15 = .ok (.invokevirtual 111, 3) := dk_182 0 111 (dk_at dksX5_lay_0 15 rfl rfl)
theorem dX5_lay_18 : decode cX5_lay 18 = .ok (.ifCond .eq 20, 3) := dk_153 0 20 (dk_at dksX5_lay_0 18 rfl rfl)
theorem dX5_lay_21 : decode cX5_lay 21 = .ok (.iload_n 2, 1) := dk_28 (dk_at dksX5_lay_0 21 rfl rfl)
theorem dX5_lay_22 : decode cX5_lay 22 = .ok (.iconst 1, 1) := dk_4 (dk_at dksX5_lay_0 22 rfl rfl)
theorem dX5_lay_23 : decode cX5_lay 23 = .ok (.if_icmp .ne 11, 3) := dk_160 0 11 (dk_at dksX5_lay_1 0 rfl rfl)
theorem dX5_lay_26 : decode cX5_lay 26 = .ok (.aload_n 0, 1) := dk_42 (dk_at dksX5_lay_1 3 rfl rfl)
theorem dX5_lay_27 : decode cX5_lay 27 = .ok (.iload_n 3, 1) := dk_29 (dk_at dksX5_lay_1 4 rfl rfl)
theorem dX5_lay_28 : decode cX5_lay 28 = .ok (.invokevirtual 133, 3) := dk_182 0 133 (dk_at dksX5_lay_1 5 rfl rfl)
theorem dX5_lay_31 : decode cX5_lay 31 = .ok (.ifCond .eq 7, 3) := dk_153 0 7 (dk_at dksX5_lay_1 8 rfl rfl)
theorem dX5_lay_34 : decode cX5_lay 34 = .ok (.iconst 1, 1) := dk_4 (dk_at dksX5_lay_1 11 rfl rfl)
theorem dX5_lay_35 : decode cX5_lay 35 = .ok (.goto 4, 3) := dk_167 0 4 (dk_at dksX5_lay_1 12 rfl rfl)
theorem dX5_lay_38 : decode cX5_lay 38 = .ok (.iconst 0, 1) := dk_3 (dk_at dksX5_lay_1 15 rfl rfl)
theorem dX5_lay_39 : decode cX5_lay 39 = .ok (.istore 4, 2) := dk_54 4 (dk_at dksX5_lay_1 16 rfl rfl)
theorem dX5_lay_41 : decode cX5_lay 41 = .ok (.aload_n 0, 1) := dk_42 (dk_at dksX5_lay_1 18 rfl rfl)
theorem dX5_lay_42 : decode cX5_lay 42 = .ok (.iload 4, 2) := dk_21 4 (dk_at dksX5_lay_1 19 rfl rfl)
theorem dX5_lay_44 : decode cX5_lay 44 = .ok (.ifCond .ne 7, 3) := dk_154 0 7 (dk_at dksX5_lay_1 21 rfl rfl)
theorem dX5_lay_47 : decode cX5_lay 47 = .ok (.iconst 1, 1) := dk_4 (dk_at dksX5_lay_2 0 rfl rfl)
theorem dX5_lay_48 : decode cX5_lay 48 = .ok (.goto 17, 3) := dk_167 0 17 (dk_at dksX5_lay_2 1 rfl rfl)
theorem dX5_lay_51 : decode cX5_lay 51 = .ok (.iload_n 2, 1) := dk_28 (dk_at dksX5_lay_2 4 rfl rfl)
theorem dX5_lay_52 : decode cX5_lay 52 = .ok (.iconst 0, 1) := dk_3 (dk_at dksX5_lay_2 5 rfl rfl)
theorem dX5_lay_53 : decode cX5_lay 53 = .ok (.iconst 1, 1) := dk_4 (dk_at dksX5_lay_2 6 rfl rfl)
theorem dX5_lay_54 : decode cX5_lay 54 = .ok (.invokestatic 65, 3) := dk_184 0 65 (dk_at dksX5_lay_2 7 rfl rfl)
theorem dX5_lay_57 : decode cX5_lay 57 = .ok (.ifCond .eq 7, 3) := dk_153 0 7 (dk_at dksX5_lay_2 10 rfl rfl)
theorem dX5_lay_60 : decode cX5_lay 60 = .ok (.iconst 0, 1) := dk_3 (dk_at dksX5_lay_2 13 rfl rfl)
theorem dX5_lay_61 : decode cX5_lay 61 = .ok (.goto 4, 3) := dk_167 0 4 (dk_at dksX5_lay_2 14 rfl rfl)
theorem dX5_lay_64 : decode cX5_lay 64 = .ok (.iconst 2, 1) := dk_5 (dk_at dksX5_lay_2 17 rfl rfl)
theorem dX5_lay_65 : decode cX5_lay 65 = .ok (.invokevirtual 73, 3) := dk_182 0 73 (dk_at dksX5_lay_2 18 rfl rfl)
theorem dX5_lay_68 : decode cX5_lay 68 = .ok (.ifCond .eq 5, 3) := dk_153 0 5 (dk_at dksX5_lay_2 21 rfl rfl)
theorem dX5_lay_71 : decode cX5_lay 71 = .ok (.iconst 0, 1) := dk_3 (dk_at dksX5_lay_3 0 rfl rfl)
theorem dX5_lay_72 : decode cX5_lay 72 = .ok (.ireturn, 1) := dk_172 (dk_at dksX5_lay_3 1 rfl rfl)
theorem dX5_lay_73 : decode cX5_lay 73 = .ok (.aload_n 0, 1) := dk_42 (dk_at dksX5_lay_3 2 rfl rfl)
theorem dX5_lay_74 : decode cX5_lay 74 = .ok (.getfield 7, 3) := dk_180 0 7 (dk_at dksX5_lay_3 3 rfl rfl)
theorem dX5_lay_77 : decode cX5_lay 77 = .ok (.bipush 11, 2) := dk_16 11 (dk_at dksX5_lay_3 6 rfl rfl)
theorem dX5_lay_79 : decode cX5_lay 79 = .ok (.iaload, 1) := dk_46 (dk_at dksX5_lay_3 8 rfl rfl)
theorem dX5_lay_80 : decode cX5_lay 80 = .ok (.iload_n 2, 1) := dk_28 (dk_at dksX5_lay_3 9 rfl rfl)
theorem dX5_lay_81 : decode cX5_lay 81 = .ok (.if_icmp .eq 18, 3) := dk_159 0 18 (dk_at dksX5_lay_3 10 rfl rfl)
theorem dX5_lay_84 : decode cX5_lay 84 = .ok (.aload_n 0, 1) := dk_42 (dk_at dksX5_lay_3 13 rfl rfl)
theorem dX5_lay_85 : decode cX5_lay 85 = .ok (.iconst 3, 1) := dk_6 (dk_at dksX5_lay_3 14 rfl rfl)
theorem dX5_lay_86 : decode cX5_lay 86 = .ok (.bipush 12, 2) := dk_16 12 (dk_at dksX5_lay_3 15 rfl rfl)
theorem dX5_lay_88 : decode cX5_lay 88 = .ok (.aload_n 0, 1) := dk_42 (dk_at dksX5_lay_3 17 rfl rfl)
theorem dX5_lay_89 : decode cX5_lay 89 = .ok (.getfield 7, 3) := dk_180 0 7 (dk_at dksX5_lay_3 18 rfl rfl)
theorem dX5_lay_92 : decode cX5_lay 92 = .ok (.bipush 11, 2) := dk_16 11 (dk_at dksX5_lay_3 21 rfl rfl)
theorem dX5_lay_94 : decode cX5_lay 94 = .ok (.iaload, 1) := dk_46 (dk_at dksX5_lay_3 23 rfl rfl)
theorem dX5_lay_95 : decode cX5_lay 95 = .ok (.invokevirtual 77, 3) := dk_182 0 77 (dk_at dksX5_lay_4 0 rfl rfl)
theorem dX5_lay_98 : decode cX5_lay 98 = .ok (.ireturn, 1) := dk_172 (dk_at dksX5_lay_4 3 rfl rfl)
theorem dX5_lay_99 : decode cX5_lay 99 = .ok (.iconst 0, 1) := dk_3 (dk_at dksX5_lay_4 4 rfl rfl)
theorem dX5_lay_100 : decode cX5_lay 100 = .ok (.istore 5, 2) := dk_54 5 (dk_at dksX5_lay_4 5 rfl rfl)
theorem dX5_lay_102 : decode cX5_lay 102 = .ok (.iload 5, 2) := dk_21 5 (dk_at dksX5_lay_4 7 rfl rfl)
theorem dX5_lay_104 : decode cX5_lay 104 = .ok (.iconst 4, 1) := dk_7 (dk_at dksX5_lay_4 9 rfl rfl)
theorem dX5_lay_105 : decode cX5_lay 105 = .ok (.if_icmp .ge 33, 3) := dk_162 0 33 (dk_at dksX5_lay_4 10 rfl rfl)
theorem dX5_lay_108 : decode cX5_lay 108 = .ok (.aload_n 0, 1) := dk_42 (dk_at dksX5_lay_4 13 rfl rfl)
theorem dX5_lay_109 : decode cX5_lay 109 = .ok (.getfield 7, 3) := dk_180 0 7 (dk_at dksX5_lay_4 14 rfl rfl)
theorem dX5_lay_112 : decode cX5_lay 112 = .ok (.bipush 12, 2) := dk_16 12 (dk_at dksX5_lay_4 17 rfl rfl)
theorem dX5_lay_114 : decode cX5_lay 114 = .ok (.iload 5, 2) := dk_21 5 (dk_at dksX5_lay_4 19 rfl rfl)
theorem dX5_lay_116 : decode cX5_lay 116 = .ok (.iadd, 1) := dk_96 (dk_at dksX5_lay_4 21 rfl rfl)
theorem dX5_lay_117 : decode cX5_lay 117 = .ok (.iaload, 1) := dk_46 (dk_at dksX5_lay_4 22 rfl rfl)
theorem dX5_lay_118 : decode cX5_lay 118 = .ok (.iload_n 3, 1) := dk_29 (dk_at dksX5_lay_4 23 rfl rfl)
theorem dX5_lay_119 : decode cX5_lay 119 = .ok (.if_icmp .ne 13, 3) := dk_160 0 13 (dk_at dksX5_lay_5 0 rfl rfl)
theorem dX5_lay_122 : decode cX5_lay 122 = .ok (.aload_n 0, 1) := dk_42 (dk_at dksX5_lay_5 3 rfl rfl)
theorem dX5_lay_123 : decode cX5_lay 123 = .ok (.iconst 3, 1) := dk_6 (dk_at dksX5_lay_5 4 rfl rfl)
theorem dX5_lay_124 : decode cX5_lay 124 = .ok (.bipush 13, 2) := dk_16 13 (dk_at dksX5_lay_5 5 rfl rfl)
theorem dX5_lay_126 : decode cX5_lay 126 = .ok (.iload 5, 2) := dk_21 5 (dk_at dksX5_lay_5 7 rfl rfl)
theorem dX5_lay_128 : decode cX5_lay 128 = .ok (.invokevirtual 77, 3) := dk_182 0 77 (dk_at dksX5_lay_5 9 rfl rfl)
theorem dX5_lay_131 : decode cX5_lay 131 = .ok (.ireturn, 1) := dk_172 (dk_at dksX5_lay_5 12 rfl rfl)
theorem dX5_lay_132 : decode cX5_lay 132 = .ok (.iinc 5 1, 3) := dk_132 5 1 (dk_at dksX5_lay_5 13 rfl rfl)
theorem dX5_lay_135 : decode cX5_lay 135 = .ok (.goto (-33), 3) := dk_167 255 223 (dk_at dksX5_lay_5 16 rfl rfl)
theorem dX5_lay_138 : decode cX5_lay 138 = .ok (.aload_n 0, 1) := dk_42 (dk_at dksX5_lay_5 19 rfl rfl)
theorem dX5_lay_139 : decode cX5_lay 139 = .ok (.aload_n 0, 1) := dk_42 (dk_at dksX5_lay_5 20 rfl rfl)
theorem dX5_lay_140 : decode cX5_lay 140 = .ok (.getfield 7, 3) := dk_180 0 7 (dk_at dksX5_lay_5 21 rfl rfl)
theorem dX5_lay_143 : decode cX5_lay 143 = .ok (.invokevirtual 81, 3) := dk_182 0 81 (dk_at dksX5_lay_6 0 rfl rfl)
theorem dX5_lay_146 : decode cX5_lay 146 = .ok (.aload_n 0, 1) := dk_42 (dk_at dksX5_lay_6 3 rfl rfl)
theorem dX5_lay_147 : decode cX5_lay 147 = .ok (.getfield 7, 3) := dk_180 0 7 (dk_at dksX5_lay_6 4 rfl rfl)
theorem dX5_lay_150 : decode cX5_lay 150 = .ok (.bipush 12, 2) := dk_16 12 (dk_at dksX5_lay_6 7 rfl rfl)
theorem dX5_lay_152 : decode cX5_lay 152 = .ok (.iload_n 1, 1) := dk_27 (dk_at dksX5_lay_6 9 rfl rfl)
theorem dX5_lay_153 : decode cX5_lay 153 = .ok (.iadd, 1) := dk_96 (dk_at dksX5_lay_6 10 rfl rfl)
theorem dX5_lay_154 : decode cX5_lay 154 = .ok (.iload_n 3, 1) := dk_29 (dk_at dksX5_lay_6 11 rfl rfl)
theorem dX5_lay_155 : decode cX5_lay 155 = .ok (.iastore, 1) := dk_79 (dk_at dksX5_lay_6 12 rfl rfl)
theorem dX5_lay_156 : decode cX5_lay 156 = .ok (.aload_n 0, 1) := dk_42 (dk_at dksX5_lay_6 13 rfl rfl)
theorem dX5_lay_157 : decode cX5_lay 157 = .ok (.invokevirtual 170, 3) := dk_182 0 170 (dk_at dksX5_lay_6 14 rfl rfl)
theorem dX5_lay_160 : decode cX5_lay 160 = .ok (.ireturn, 1) := dk_172 (dk_at dksX5_lay_6 17 rfl rfl)
abbrev cX5_onTray : ByteArray := prog_18_method_58_code
def yX5_onTray : MethodName := ⟨RX5, "onTray", "(I)I"⟩
def dkwX5_onTray_2 : List UInt8 := [27, 96, 46, 172]
abbrev dktX5_onTray_2 : List UInt8 := dkwX5_onTray_2 ++ []
def dkwX5_onTray_1 : List UInt8 := [156, 0, 7, 5, 167, 0, 4, 3, 182, 0, 73, 153, 0, 7, 3, 167, 0, 12, 42, 180, 0, 7, 16, 12]
abbrev dktX5_onTray_1 : List UInt8 := dkwX5_onTray_1 ++ dktX5_onTray_2
def dkwX5_onTray_0 : List UInt8 := [42, 27, 3, 6, 184, 0, 65, 154, 0, 7, 4, 167, 0, 20, 42, 180, 0, 7, 16, 12, 27, 96, 46]
abbrev dktX5_onTray_0 : List UInt8 := dkwX5_onTray_0 ++ dktX5_onTray_1
theorem dksX5_onTray_0 : cX5_onTray.data.toList.drop 0 = dktX5_onTray_0 := by decide +kernel
theorem dksX5_onTray_1 : cX5_onTray.data.toList.drop 23 = dktX5_onTray_1 := dk_seg dksX5_onTray_0 23 rfl rfl
theorem dksX5_onTray_2 : cX5_onTray.data.toList.drop 47 = dktX5_onTray_2 := dk_seg dksX5_onTray_1 24 rfl rfl
theorem dX5_onTray_0 : decode cX5_onTray 0 = .ok (.aload_n 0, 1) := dk_42 (dk_at dksX5_onTray_0 0 rfl rfl)
theorem dX5_onTray_1 : decode cX5_onTray 1 = .ok (.iload_n 1, 1) := dk_27 (dk_at dksX5_onTray_0 1 rfl rfl)
theorem dX5_onTray_2 : decode cX5_onTray 2 = .ok (.iconst 0, 1) := dk_3 (dk_at dksX5_onTray_0 2 rfl rfl)
theorem dX5_onTray_3 : decode cX5_onTray 3 = .ok (.iconst 3, 1) := dk_6 (dk_at dksX5_onTray_0 3 rfl rfl)
theorem dX5_onTray_4 : decode cX5_onTray 4 = .ok (.invokestatic 65, 3) := dk_184 0 65 (dk_at dksX5_onTray_0 4 rfl rfl)
theorem dX5_onTray_7 : decode cX5_onTray 7 = .ok (.ifCond .ne 7, 3) := dk_154 0 7 (dk_at dksX5_onTray_0 7 rfl rfl)
theorem dX5_onTray_10 : decode cX5_onTray 10 = .ok (.iconst 1, 1) := dk_4 (dk_at dksX5_onTray_0 10 rfl rfl)
theorem dX5_onTray_11 : decode cX5_onTray 11 = .ok (.goto 20, 3) := dk_167 0 20 (dk_at dksX5_onTray_0 11 rfl rfl)
theorem dX5_onTray_14 : decode cX5_onTray 14 = .ok (.aload_n 0, 1) := dk_42 (dk_at dksX5_onTray_0 14 rfl rfl)
theorem dX5_onTray_15 : decode cX5_onTray 15 = .ok (.getfield 7, 3) := dk_180 0 7 (dk_at dksX5_onTray_0 15 rfl rfl)
theorem dX5_onTray_18 : decode cX5_onTray 18 = .ok (.bipush 12, 2) := dk_16 12 (dk_at dksX5_onTray_0 18 rfl rfl)
theorem dX5_onTray_20 : decode cX5_onTray 20 = .ok (.iload_n 1, 1) := dk_27 (dk_at dksX5_onTray_0 20 rfl rfl)
theorem dX5_onTray_21 : decode cX5_onTray 21 = .ok (.iadd, 1) := dk_96 (dk_at dksX5_onTray_0 21 rfl rfl)
theorem dX5_onTray_22 : decode cX5_onTray 22 = .ok (.iaload, 1) := dk_46 (dk_at dksX5_onTray_0 22 rfl rfl)
theorem dX5_onTray_23 : decode cX5_onTray 23 = .ok (.ifCond .ge 7, 3) := dk_156 0 7 (dk_at dksX5_onTray_1 0 rfl rfl)
theorem dX5_onTray_26 : decode cX5_onTray 26 = .ok (.iconst 2, 1) := dk_5 (dk_at dksX5_onTray_1 3 rfl rfl)
theorem dX5_onTray_27 : decode cX5_onTray 27 = .ok (.goto 4, 3) := dk_167 0 4 (dk_at dksX5_onTray_1 4 rfl rfl)
theorem dX5_onTray_30 : decode cX5_onTray 30 = .ok (.iconst 0, 1) := dk_3 (dk_at dksX5_onTray_1 7 rfl rfl)
theorem dX5_onTray_31 : decode cX5_onTray 31 = .ok (.invokevirtual 73, 3) := dk_182 0 73 (dk_at dksX5_onTray_1 8 rfl rfl)
theorem dX5_onTray_34 : decode cX5_onTray 34 = .ok (.ifCond .eq 7, 3) := dk_153 0 7 (dk_at dksX5_onTray_1 11 rfl rfl)
theorem dX5_onTray_37 : decode cX5_onTray 37 = .ok (.iconst 0, 1) := dk_3 (dk_at dksX5_onTray_1 14 rfl rfl)
theorem dX5_onTray_38 : decode cX5_onTray 38 = .ok (.goto 12, 3) := dk_167 0 12 (dk_at dksX5_onTray_1 15 rfl rfl)
theorem dX5_onTray_41 : decode cX5_onTray 41 = .ok (.aload_n 0, 1) := dk_42 (dk_at dksX5_onTray_1 18 rfl rfl)
theorem dX5_onTray_42 : decode cX5_onTray 42 = .ok (.getfield 7, 3) := dk_180 0 7 (dk_at dksX5_onTray_1 19 rfl rfl)
theorem dX5_onTray_45 : decode cX5_onTray 45 = .ok (.bipush 12, 2) := dk_16 12 (dk_at dksX5_onTray_1 22 rfl rfl)
theorem dX5_onTray_47 : decode cX5_onTray 47 = .ok (.iload_n 1, 1) := dk_27 (dk_at dksX5_onTray_2 0 rfl rfl)
theorem dX5_onTray_48 : decode cX5_onTray 48 = .ok (.iadd, 1) := dk_96 (dk_at dksX5_onTray_2 1 rfl rfl)
theorem dX5_onTray_49 : decode cX5_onTray 49 = .ok (.iaload, 1) := dk_46 (dk_at dksX5_onTray_2 2 rfl rfl)
theorem dX5_onTray_50 : decode cX5_onTray 50 = .ok (.ireturn, 1) := dk_172 (dk_at dksX5_onTray_2 3 rfl rfl)
abbrev cX5_line : ByteArray := prog_18_method_62_code
def yX5_line : MethodName := ⟨RX5, "line", "(I)I"⟩
def dkwX5_line_6 : List UInt8 := [180, 0, 173, 172]
abbrev dktX5_line_6 : List UInt8 := dkwX5_line_6 ++ []
def dkwX5_line_5 : List UInt8 := [167, 0, 5, 18, 207, 182, 0, 193, 42, 18, 197, 182, 0, 193, 42, 42, 27, 182, 0, 130, 182, 0, 188, 42]
abbrev dktX5_line_5 : List UInt8 := dkwX5_line_5 ++ dktX5_line_6
def dkwX5_line_4 : List UInt8 := [182, 0, 121, 5, 160, 0, 8, 18, 203, 167, 0, 18, 42, 27, 182, 0, 151, 153, 0, 8, 18, 205]
abbrev dktX5_line_4 : List UInt8 := dkwX5_line_4 ++ dktX5_line_5
def dkwX5_line_3 : List UInt8 := [18, 199, 182, 0, 193, 42, 42, 27, 3, 182, 0, 121, 4, 160, 0, 8, 18, 201, 167, 0, 33, 42, 27, 3]
abbrev dktX5_line_3 : List UInt8 := dkwX5_line_3 ++ dktX5_line_4
def dkwX5_line_2 : List UInt8 := [182, 0, 121, 182, 0, 188, 42, 18, 197, 182, 0, 193, 42, 42, 27, 5, 182, 0, 121, 182, 0, 188, 42]
abbrev dktX5_line_2 : List UInt8 := dkwX5_line_2 ++ dktX5_line_3
def dkwX5_line_1 : List UInt8 := [181, 0, 173, 42, 16, 106, 182, 0, 176, 42, 27, 182, 0, 188, 42, 18, 191, 182, 0, 193, 42, 42, 27, 4]
abbrev dktX5_line_1 : List UInt8 := dkwX5_line_1 ++ dktX5_line_2
def dkwX5_line_0 : List UInt8 := [42, 42, 27, 182, 0, 133, 153, 0, 7, 3, 167, 0, 4, 4, 182, 0, 73, 153, 0, 5, 3, 172, 42, 3]
abbrev dktX5_line_0 : List UInt8 := dkwX5_line_0 ++ dktX5_line_1
theorem dksX5_line_0 : cX5_line.data.toList.drop 0 = dktX5_line_0 := by decide +kernel
theorem dksX5_line_1 : cX5_line.data.toList.drop 24 = dktX5_line_1 := dk_seg dksX5_line_0 24 rfl rfl
theorem dksX5_line_2 : cX5_line.data.toList.drop 48 = dktX5_line_2 := dk_seg dksX5_line_1 24 rfl rfl
theorem dksX5_line_3 : cX5_line.data.toList.drop 71 = dktX5_line_3 := dk_seg dksX5_line_2 23 rfl rfl
theorem dksX5_line_4 : cX5_line.data.toList.drop 95 = dktX5_line_4 := dk_seg dksX5_line_3 24 rfl rfl
theorem dksX5_line_5 : cX5_line.data.toList.drop 117 = dktX5_line_5 := dk_seg dksX5_line_4 22 rfl rfl
theorem dksX5_line_6 : cX5_line.data.toList.drop 141 = dktX5_line_6 := dk_seg dksX5_line_5 24 rfl rfl
theorem dX5_line_0 : decode cX5_line 0 = .ok (.aload_n 0, 1) := dk_42 (dk_at dksX5_line_0 0 rfl rfl)
theorem dX5_line_1 : decode cX5_line 1 = .ok (.aload_n 0, 1) := dk_42 (dk_at dksX5_line_0 1 rfl rfl)
theorem dX5_line_2 : decode cX5_line 2 = .ok (.iload_n 1, 1) := dk_27 (dk_at dksX5_line_0 2 rfl rfl)
theorem dX5_line_3 : decode cX5_line 3 = .ok (.invokevirtual 133, 3) := dk_182 0 133 (dk_at dksX5_line_0 3 rfl rfl)
theorem dX5_line_6 : decode cX5_line 6 = .ok (.ifCond .eq 7, 3) := dk_153 0 7 (dk_at dksX5_line_0 6 rfl rfl)
theorem dX5_line_9 : decode cX5_line 9 = .ok (.iconst 0, 1) := dk_3 (dk_at dksX5_line_0 9 rfl rfl)
theorem dX5_line_10 : decode cX5_line 10 = .ok (.goto 4, 3) := dk_167 0 4 (dk_at dksX5_line_0 10 rfl rfl)
theorem dX5_line_13 : decode cX5_line 13 = .ok (.iconst 1, 1) := dk_4 (dk_at dksX5_line_0 13 rfl rfl)
theorem dX5_line_14 : decode cX5_line 14 = .ok (.invokevirtual 73, 3) := dk_182 0 73 (dk_at dksX5_line_0 14 rfl rfl)
theorem dX5_line_17 : decode cX5_line 17 = .ok (.ifCond .eq 5, 3) := dk_153 0 5 (dk_at dksX5_line_0 17 rfl rfl)
theorem dX5_line_20 : decode cX5_line 20 = .ok (.iconst 0, 1) := dk_3 (dk_at dksX5_line_0 20 rfl rfl)
theorem dX5_line_21 : decode cX5_line 21 = .ok (.ireturn, 1) := dk_172 (dk_at dksX5_line_0 21 rfl rfl)
theorem dX5_line_22 : decode cX5_line 22 = .ok (.aload_n 0, 1) := dk_42 (dk_at dksX5_line_0 22 rfl rfl)
theorem dX5_line_23 : decode cX5_line 23 = .ok (.iconst 0, 1) := dk_3 (dk_at dksX5_line_0 23 rfl rfl)
theorem dX5_line_24 : decode cX5_line 24 = .ok (.putfield 173, 3) := dk_181 0 173 (dk_at dksX5_line_1 0 rfl rfl)
theorem dX5_line_27 : decode cX5_line 27 = .ok (.aload_n 0, 1) := dk_42 (dk_at dksX5_line_1 3 rfl rfl)
theorem dX5_line_28 : decode cX5_line 28 = .ok (.bipush 106, 2) := dk_16 106 (dk_at dksX5_line_1 4 rfl rfl)
theorem dX5_line_30 : decode cX5_line 30 = .ok (.invokevirtual 176, 3) := dk_182 0 176 (dk_at dksX5_line_1 6 rfl rfl)
theorem dX5_line_33 : decode cX5_line 33 = .ok (.aload_n 0, 1) := dk_42 (dk_at dksX5_line_1 9 rfl rfl)
theorem dX5_line_34 : decode cX5_line 34 = .ok (.iload_n 1, 1) := dk_27 (dk_at dksX5_line_1 10 rfl rfl)
theorem dX5_line_35 : decode cX5_line 35 = .ok (.invokevirtual 188, 3) := dk_182 0 188 (dk_at dksX5_line_1 11 rfl rfl)
theorem dX5_line_38 : decode cX5_line 38 = .ok (.aload_n 0, 1) := dk_42 (dk_at dksX5_line_1 14 rfl rfl)
theorem dX5_line_39 : decode cX5_line 39 = .ok (.ldc 191, 2) := dk_18 191 (dk_at dksX5_line_1 15 rfl rfl)
theorem dX5_line_41 : decode cX5_line 41 = .ok (.invokevirtual 193, 3) := dk_182 0 193 (dk_at dksX5_line_1 17 rfl rfl)
theorem dX5_line_44 : decode cX5_line 44 = .ok (.aload_n 0, 1) := dk_42 (dk_at dksX5_line_1 20 rfl rfl)
theorem dX5_line_45 : decode cX5_line 45 = .ok (.aload_n 0, 1) := dk_42 (dk_at dksX5_line_1 21 rfl rfl)
theorem dX5_line_46 : decode cX5_line 46 = .ok (.iload_n 1, 1) := dk_27 (dk_at dksX5_line_1 22 rfl rfl)
theorem dX5_line_47 : decode cX5_line 47 = .ok (.iconst 1, 1) := dk_4 (dk_at dksX5_line_1 23 rfl rfl)
theorem dX5_line_48 : decode cX5_line 48 = .ok (.invokevirtual 121, 3) := dk_182 0 121 (dk_at dksX5_line_2 0 rfl rfl)
theorem dX5_line_51 : decode cX5_line 51 = .ok (.invokevirtual 188, 3) := dk_182 0 188 (dk_at dksX5_line_2 3 rfl rfl)
theorem dX5_line_54 : decode cX5_line 54 = .ok (.aload_n 0, 1) := dk_42 (dk_at dksX5_line_2 6 rfl rfl)
theorem dX5_line_55 : decode cX5_line 55 = .ok (.ldc 197, 2) := dk_18 197 (dk_at dksX5_line_2 7 rfl rfl)
theorem dX5_line_57 : decode cX5_line 57 = .ok (.invokevirtual 193, 3) := dk_182 0 193 (dk_at dksX5_line_2 9 rfl rfl)
theorem dX5_line_60 : decode cX5_line 60 = .ok (.aload_n 0, 1) := dk_42 (dk_at dksX5_line_2 12 rfl rfl)
theorem dX5_line_61 : decode cX5_line 61 = .ok (.aload_n 0, 1) := dk_42 (dk_at dksX5_line_2 13 rfl rfl)
theorem dX5_line_62 : decode cX5_line 62 = .ok (.iload_n 1, 1) := dk_27 (dk_at dksX5_line_2 14 rfl rfl)
theorem dX5_line_63 : decode cX5_line 63 = .ok (.iconst 2, 1) := dk_5 (dk_at dksX5_line_2 15 rfl rfl)
theorem dX5_line_64 : decode cX5_line 64 = .ok (.invokevirtual 121, 3) := dk_182 0 121 (dk_at dksX5_line_2 16 rfl rfl)
theorem dX5_line_67 : decode cX5_line 67 = .ok (.invokevirtual 188, 3) := dk_182 0 188 (dk_at dksX5_line_2 19 rfl rfl)
theorem dX5_line_70 : decode cX5_line 70 = .ok (.aload_n 0, 1) := dk_42 (dk_at dksX5_line_2 22 rfl rfl)
theorem dX5_line_71 : decode cX5_line 71 = .ok (.ldc 199, 2) := dk_18 199 (dk_at dksX5_line_3 0 rfl rfl)
theorem dX5_line_73 : decode cX5_line 73 = .ok (.invokevirtual 193, 3) := dk_182 0 193 (dk_at dksX5_line_3 2 rfl rfl)
theorem dX5_line_76 : decode cX5_line 76 = .ok (.aload_n 0, 1) := dk_42 (dk_at dksX5_line_3 5 rfl rfl)
theorem dX5_line_77 : decode cX5_line 77 = .ok (.aload_n 0, 1) := dk_42 (dk_at dksX5_line_3 6 rfl rfl)
theorem dX5_line_78 : decode cX5_line 78 = .ok (.iload_n 1, 1) := dk_27 (dk_at dksX5_line_3 7 rfl rfl)
theorem dX5_line_79 : decode cX5_line 79 = .ok (.iconst 0, 1) := dk_3 (dk_at dksX5_line_3 8 rfl rfl)
theorem dX5_line_80 : decode cX5_line 80 = .ok (.invokevirtual 121, 3) := dk_182 0 121 (dk_at dksX5_line_3 9 rfl rfl)
theorem dX5_line_83 : decode cX5_line 83 = .ok (.iconst 1, 1) := dk_4 (dk_at dksX5_line_3 12 rfl rfl)
theorem dX5_line_84 : decode cX5_line 84 = .ok (.if_icmp .ne 8, 3) := dk_160 0 8 (dk_at dksX5_line_3 13 rfl rfl)
theorem dX5_line_87 : decode cX5_line 87 = .ok (.ldc 201, 2) := dk_18 201 (dk_at dksX5_line_3 16 rfl rfl)
theorem dX5_line_89 : decode cX5_line 89 = .ok (.goto 33, 3) := dk_167 0 33 (dk_at dksX5_line_3 18 rfl rfl)
theorem dX5_line_92 : decode cX5_line 92 = .ok (.aload_n 0, 1) := dk_42 (dk_at dksX5_line_3 21 rfl rfl)
theorem dX5_line_93 : decode cX5_line 93 = .ok (.iload_n 1, 1) := dk_27 (dk_at dksX5_line_3 22 rfl rfl)
theorem dX5_line_94 : decode cX5_line 94 = .ok (.iconst 0, 1) := dk_3 (dk_at dksX5_line_3 23 rfl rfl)
theorem dX5_line_95 : decode cX5_line 95 = .ok (.invokevirtual 121, 3) := dk_182 0 121 (dk_at dksX5_line_4 0 rfl rfl)
theorem dX5_line_98 : decode cX5_line 98 = .ok (.iconst 2, 1) := dk_5 (dk_at dksX5_line_4 3 rfl rfl)
theorem dX5_line_99 : decode cX5_line 99 = .ok (.if_icmp .ne 8, 3) := dk_160 0 8 (dk_at dksX5_line_4 4 rfl rfl)
theorem dX5_line_102 : decode cX5_line 102 = .ok (.ldc 203, 2) := dk_18 203 (dk_at dksX5_line_4 7 rfl rfl)
theorem dX5_line_104 : decode cX5_line 104 = .ok (.goto 18, 3) := dk_167 0 18 (dk_at dksX5_line_4 9 rfl rfl)
theorem dX5_line_107 : decode cX5_line 107 = .ok (.aload_n 0, 1) := dk_42 (dk_at dksX5_line_4 12 rfl rfl)
theorem dX5_line_108 : decode cX5_line 108 = .ok (.iload_n 1, 1) := dk_27 (dk_at dksX5_line_4 13 rfl rfl)
theorem dX5_line_109 : decode cX5_line 109 = .ok (.invokevirtual 151, 3) := dk_182 0 151 (dk_at dksX5_line_4 14 rfl rfl)
theorem dX5_line_112 : decode cX5_line 112 = .ok (.ifCond .eq 8, 3) := dk_153 0 8 (dk_at dksX5_line_4 17 rfl rfl)
theorem dX5_line_115 : decode cX5_line 115 = .ok (.ldc 205, 2) := dk_18 205 (dk_at dksX5_line_4 20 rfl rfl)
theorem dX5_line_117 : decode cX5_line 117 = .ok (.goto 5, 3) := dk_167 0 5 (dk_at dksX5_line_5 0 rfl rfl)
theorem dX5_line_120 : decode cX5_line 120 = .ok (.ldc 207, 2) := dk_18 207 (dk_at dksX5_line_5 3 rfl rfl)
theorem dX5_line_122 : decode cX5_line 122 = .ok (.invokevirtual 193, 3) := dk_182 0 193 (dk_at dksX5_line_5 5 rfl rfl)
theorem dX5_line_125 : decode cX5_line 125 = .ok (.aload_n 0, 1) := dk_42 (dk_at dksX5_line_5 8 rfl rfl)
theorem dX5_line_126 : decode cX5_line 126 = .ok (.ldc 197, 2) := dk_18 197 (dk_at dksX5_line_5 9 rfl rfl)
theorem dX5_line_128 : decode cX5_line 128 = .ok (.invokevirtual 193, 3) := dk_182 0 193 (dk_at dksX5_line_5 11 rfl rfl)
theorem dX5_line_131 : decode cX5_line 131 = .ok (.aload_n 0, 1) := dk_42 (dk_at dksX5_line_5 14 rfl rfl)
theorem dX5_line_132 : decode cX5_line 132 = .ok (.aload_n 0, 1) := dk_42 (dk_at dksX5_line_5 15 rfl rfl)
theorem dX5_line_133 : decode cX5_line 133 = .ok (.iload_n 1, 1) := dk_27 (dk_at dksX5_line_5 16 rfl rfl)
theorem dX5_line_134 : decode cX5_line 134 = .ok (.invokevirtual 130, 3) := dk_182 0 130 (dk_at dksX5_line_5 17 rfl rfl)
theorem dX5_line_137 : decode cX5_line 137 = .ok (.invokevirtual 188, 3) := dk_182 0 188 (dk_at dksX5_line_5 20 rfl rfl)
theorem dX5_line_140 : decode cX5_line 140 = .ok (.aload_n 0, 1) := dk_42 (dk_at dksX5_line_5 23 rfl rfl)
theorem dX5_line_141 : decode cX5_line 141 = .ok (.getfield 173, 3) := dk_180 0 173 (dk_at dksX5_line_6 0 rfl rfl)
theorem dX5_line_144 : decode cX5_line 144 = .ok (.ireturn, 1) := dk_172 (dk_at dksX5_line_6 3 rfl rfl)
abbrev cX5_writes : ByteArray := prog_18_method_59_code
def yX5_writes : MethodName := ⟨RX5, "writes", "(I)V"⟩
def dkwX5_writes_0 : List UInt8 := [42, 180, 0, 35, 42, 180, 0, 173, 27, 146, 85, 42, 89, 180, 0, 173, 4, 96, 181, 0, 173, 177]
abbrev dktX5_writes_0 : List UInt8 := dkwX5_writes_0 ++ []
theorem dksX5_writes_0 : cX5_writes.data.toList.drop 0 = dktX5_writes_0 := by decide +kernel
theorem dX5_writes_0 : decode cX5_writes 0 = .ok (.aload_n 0, 1) := dk_42 (dk_at dksX5_writes_0 0 rfl rfl)
theorem dX5_writes_1 : decode cX5_writes 1 = .ok (.getfield 35, 3) := dk_180 0 35 (dk_at dksX5_writes_0 1 rfl rfl)
theorem dX5_writes_4 : decode cX5_writes 4 = .ok (.aload_n 0, 1) := dk_42 (dk_at dksX5_writes_0 4 rfl rfl)
theorem dX5_writes_5 : decode cX5_writes 5 = .ok (.getfield 173, 3) := dk_180 0 173 (dk_at dksX5_writes_0 5 rfl rfl)
theorem dX5_writes_8 : decode cX5_writes 8 = .ok (.iload_n 1, 1) := dk_27 (dk_at dksX5_writes_0 8 rfl rfl)
theorem dX5_writes_9 : decode cX5_writes 9 = .ok (.i2c, 1) := dk_146 (dk_at dksX5_writes_0 9 rfl rfl)
theorem dX5_writes_10 : decode cX5_writes 10 = .ok (.castore, 1) := dk_85 (dk_at dksX5_writes_0 10 rfl rfl)
theorem dX5_writes_11 : decode cX5_writes 11 = .ok (.aload_n 0, 1) := dk_42 (dk_at dksX5_writes_0 11 rfl rfl)
theorem dX5_writes_12 : decode cX5_writes 12 = .ok (.dup, 1) := dk_89 (dk_at dksX5_writes_0 12 rfl rfl)
theorem dX5_writes_13 : decode cX5_writes 13 = .ok (.getfield 173, 3) := dk_180 0 173 (dk_at dksX5_writes_0 13 rfl rfl)
theorem dX5_writes_16 : decode cX5_writes 16 = .ok (.iconst 1, 1) := dk_4 (dk_at dksX5_writes_0 16 rfl rfl)
theorem dX5_writes_17 : decode cX5_writes 17 = .ok (.iadd, 1) := dk_96 (dk_at dksX5_writes_0 17 rfl rfl)
theorem dX5_writes_18 : decode cX5_writes 18 = .ok (.putfield 173, 3) := dk_181 0 173 (dk_at dksX5_writes_0 18 rfl rfl)
theorem dX5_writes_21 : decode cX5_writes 21 = .ok (.return_, 1) := dk_177 (dk_at dksX5_writes_0 21 rfl rfl)
abbrev cX5_writesNumber : ByteArray := prog_18_method_60_code
def yX5_writesNumber : MethodName := ⟨RX5, "writesNumber", "(I)V"⟩
def dkwX5_writesNumber_1 : List UInt8 := [16, 48, 27, 28, 108, 16, 10, 112, 96, 182, 0, 176, 28, 16, 10, 108, 61, 167, 255, 234, 177]
abbrev dktX5_writesNumber_1 : List UInt8 := dkwX5_writesNumber_1 ++ []
def dkwX5_writesNumber_0 : List UInt8 := [4, 61, 27, 28, 108, 16, 9, 164, 0, 11, 28, 16, 10, 104, 61, 167, 255, 243, 28, 158, 0, 24, 42]
abbrev dktX5_writesNumber_0 : List UInt8 := dkwX5_writesNumber_0 ++ dktX5_writesNumber_1
theorem dksX5_writesNumber_0 : cX5_writesNumber.data.toList.drop 0 = dktX5_writesNumber_0 := by decide +kernel
theorem dksX5_writesNumber_1 : cX5_writesNumber.data.toList.drop 23 = dktX5_writesNumber_1 := dk_seg dksX5_writesNumber_0 23 rfl rfl
theorem dX5_writesNumber_0 : decode cX5_writesNumber 0 = .ok (.iconst 1, 1) := dk_4 (dk_at dksX5_writesNumber_0 0 rfl rfl)
theorem dX5_writesNumber_1 : decode cX5_writesNumber 1 = .ok (.istore_n 2, 1) := dk_61 (dk_at dksX5_writesNumber_0 1 rfl rfl)
theorem dX5_writesNumber_2 : decode cX5_writesNumber 2 = .ok (.iload_n 1, 1) := dk_27 (dk_at dksX5_writesNumber_0 2 rfl rfl)
theorem dX5_writesNumber_3 : decode cX5_writesNumber 3 = .ok (.iload_n 2, 1) := dk_28 (dk_at dksX5_writesNumber_0 3 rfl rfl)
theorem dX5_writesNumber_4 : decode cX5_writesNumber 4 = .ok (.idiv, 1) := dk_108 (dk_at dksX5_writesNumber_0 4 rfl rfl)
theorem dX5_writesNumber_5 : decode cX5_writesNumber 5 = .ok (.bipush 9, 2) := dk_16 9 (dk_at dksX5_writesNumber_0 5 rfl rfl)
theorem dX5_writesNumber_7 : decode cX5_writesNumber 7 = .ok (.if_icmp .le 11, 3) := dk_164 0 11 (dk_at dksX5_writesNumber_0 7 rfl rfl)
theorem dX5_writesNumber_10 : decode cX5_writesNumber 10 = .ok (.iload_n 2, 1) := dk_28 (dk_at dksX5_writesNumber_0 10 rfl rfl)
theorem dX5_writesNumber_11 : decode cX5_writesNumber 11 = .ok (.bipush 10, 2) := dk_16 10 (dk_at dksX5_writesNumber_0 11 rfl rfl)
theorem dX5_writesNumber_13 : decode cX5_writesNumber 13 = .ok (.imul, 1) := dk_104 (dk_at dksX5_writesNumber_0 13 rfl rfl)
theorem dX5_writesNumber_14 : decode cX5_writesNumber 14 = .ok (.istore_n 2, 1) := dk_61 (dk_at dksX5_writesNumber_0 14 rfl rfl)
theorem dX5_writesNumber_15 : decode cX5_writesNumber 15 = .ok (.goto (-13), 3) := dk_167 255 243 (dk_at dksX5_writesNumber_0 15 rfl rfl)
theorem dX5_writesNumber_18 : decode cX5_writesNumber 18 = .ok (.iload_n 2, 1) := dk_28 (dk_at dksX5_writesNumber_0 18 rfl rfl)
theorem dX5_writesNumber_19 : decode cX5_writesNumber 19 = .ok (.ifCond .le 24, 3) := dk_158 0 24 (dk_at dksX5_writesNumber_0 19 rfl rfl)
theorem dX5_writesNumber_22 : decode cX5_writesNumber 22 = .ok (.aload_n 0, 1) := dk_42 (dk_at dksX5_writesNumber_0 22 rfl rfl)
theorem dX5_writesNumber_23 : decode cX5_writesNumber 23 = .ok (.bipush 48, 2) := dk_16 48 (dk_at dksX5_writesNumber_1 0 rfl rfl)
theorem dX5_writesNumber_25 : decode cX5_writesNumber 25 = .ok (.iload_n 1, 1) := dk_27 (dk_at dksX5_writesNumber_1 2 rfl rfl)
theorem dX5_writesNumber_26 : decode cX5_writesNumber 26 = .ok (.iload_n 2, 1) := dk_28 (dk_at dksX5_writesNumber_1 3 rfl rfl)
theorem dX5_writesNumber_27 : decode cX5_writesNumber 27 = .ok (.idiv, 1) := dk_108 (dk_at dksX5_writesNumber_1 4 rfl rfl)
theorem dX5_writesNumber_28 : decode cX5_writesNumber 28 = .ok (.bipush 10, 2) := dk_16 10 (dk_at dksX5_writesNumber_1 5 rfl rfl)
theorem dX5_writesNumber_30 : decode cX5_writesNumber 30 = .ok (.irem, 1) := dk_112 (dk_at dksX5_writesNumber_1 7 rfl rfl)
theorem dX5_writesNumber_31 : decode cX5_writesNumber 31 = .ok (.iadd, 1) := dk_96 (dk_at dksX5_writesNumber_1 8 rfl rfl)
theorem dX5_writesNumber_32 : decode cX5_writesNumber 32 = .ok (.invokevirtual 176, 3) := dk_182 0 176 (dk_at dksX5_writesNumber_1 9 rfl rfl)
theorem dX5_writesNumber_35 : decode cX5_writesNumber 35 = .ok (.iload_n 2, 1) := dk_28 (dk_at dksX5_writesNumber_1 12 rfl rfl)
theorem dX5_writesNumber_36 : decode cX5_writesNumber 36 = .ok (.bipush 10, 2) := dk_16 10 (dk_at dksX5_writesNumber_1 13 rfl rfl)
theorem dX5_writesNumber_38 : decode cX5_writesNumber 38 = .ok (.idiv, 1) := dk_108 (dk_at dksX5_writesNumber_1 15 rfl rfl)
theorem dX5_writesNumber_39 : decode cX5_writesNumber 39 = .ok (.istore_n 2, 1) := dk_61 (dk_at dksX5_writesNumber_1 16 rfl rfl)
theorem dX5_writesNumber_40 : decode cX5_writesNumber 40 = .ok (.goto (-22), 3) := dk_167 255 234 (dk_at dksX5_writesNumber_1 17 rfl rfl)
theorem dX5_writesNumber_43 : decode cX5_writesNumber 43 = .ok (.return_, 1) := dk_177 (dk_at dksX5_writesNumber_1 20 rfl rfl)
abbrev cX5_writesText : ByteArray := prog_18_method_61_code
def yX5_writesText : MethodName := ⟨RX5, "writesText", "(Ljava/lang/String;)V"⟩
def dkwX5_writesText_1 : List UInt8 := [167, 255, 236, 177]
abbrev dktX5_writesText_1 : List UInt8 := dkwX5_writesText_1 ++ []
def dkwX5_writesText_0 : List UInt8 := [3, 61, 28, 43, 182, 0, 179, 162, 0, 18, 42, 43, 28, 182, 0, 184, 182, 0, 176, 132, 2, 1]
abbrev dktX5_writesText_0 : List UInt8 := dkwX5_writesText_0 ++ dktX5_writesText_1
theorem dksX5_writesText_0 : cX5_writesText.data.toList.drop 0 = dktX5_writesText_0 := by decide +kernel
theorem dksX5_writesText_1 : cX5_writesText.data.toList.drop 22 = dktX5_writesText_1 := dk_seg dksX5_writesText_0 22 rfl rfl
theorem dX5_writesText_0 : decode cX5_writesText 0 = .ok (.iconst 0, 1) := dk_3 (dk_at dksX5_writesText_0 0 rfl rfl)
theorem dX5_writesText_1 : decode cX5_writesText 1 = .ok (.istore_n 2, 1) := dk_61 (dk_at dksX5_writesText_0 1 rfl rfl)
theorem dX5_writesText_2 : decode cX5_writesText 2 = .ok (.iload_n 2, 1) := dk_28 (dk_at dksX5_writesText_0 2 rfl rfl)
theorem dX5_writesText_3 : decode cX5_writesText 3 = .ok (.aload_n 1, 1) := dk_43 (dk_at dksX5_writesText_0 3 rfl rfl)
theorem dX5_writesText_4 : decode cX5_writesText 4 = .ok (.invokevirtual 179, 3) := dk_182 0 179 (dk_at dksX5_writesText_0 4 rfl rfl)
theorem dX5_writesText_7 : decode cX5_writesText 7 = .ok (.if_icmp .ge 18, 3) := dk_162 0 18 (dk_at dksX5_writesText_0 7 rfl rfl)
theorem dX5_writesText_10 : decode cX5_writesText 10 = .ok (.aload_n 0, 1) := dk_42 (dk_at dksX5_writesText_0 10 rfl rfl)
theorem dX5_writesText_11 : decode cX5_writesText 11 = .ok (.aload_n 1, 1) := dk_43 (dk_at dksX5_writesText_0 11 rfl rfl)
theorem dX5_writesText_12 : decode cX5_writesText 12 = .ok (.iload_n 2, 1) := dk_28 (dk_at dksX5_writesText_0 12 rfl rfl)
theorem dX5_writesText_13 : decode cX5_writesText 13 = .ok (.invokevirtual 184, 3) := dk_182 0 184 (dk_at dksX5_writesText_0 13 rfl rfl)
theorem dX5_writesText_16 : decode cX5_writesText 16 = .ok (.invokevirtual 176, 3) := dk_182 0 176 (dk_at dksX5_writesText_0 16 rfl rfl)
theorem dX5_writesText_19 : decode cX5_writesText 19 = .ok (.iinc 2 1, 3) := dk_132 2 1 (dk_at dksX5_writesText_0 19 rfl rfl)
theorem dX5_writesText_22 : decode cX5_writesText 22 = .ok (.goto (-20), 3) := dk_167 255 236 (dk_at dksX5_writesText_1 0 rfl rfl)
theorem dX5_writesText_25 : decode cX5_writesText 25 = .ok (.return_, 1) := dk_177 (dk_at dksX5_writesText_1 3 rfl rfl)
abbrev cX5_stockLine : ByteArray := prog_18_method_63_code
def yX5_stockLine : MethodName := ⟨RX5, "stockLine", "()I"⟩
def dkwX5_stockLine_2 : List UInt8 := [182, 0, 176, 132, 1, 1, 167, 255, 215, 42, 180, 0, 173, 172]
abbrev dktX5_stockLine_2 : List UInt8 := dkwX5_stockLine_2 ++ []
def dkwX5_stockLine_1 : List UInt8 := [16, 32, 182, 0, 176, 42, 42, 180, 0, 7, 4, 27, 96, 46, 182, 0, 188, 42, 18, 209, 27, 182, 0, 184]
abbrev dktX5_stockLine_1 : List UInt8 := dkwX5_stockLine_1 ++ dktX5_stockLine_2
def dkwX5_stockLine_0 : List UInt8 := [42, 3, 181, 0, 45, 42, 3, 181, 0, 173, 3, 60, 27, 16, 6, 162, 0, 41, 27, 158, 0, 9, 42]
abbrev dktX5_stockLine_0 : List UInt8 := dkwX5_stockLine_0 ++ dktX5_stockLine_1
theorem dksX5_stockLine_0 : cX5_stockLine.data.toList.drop 0 = dktX5_stockLine_0 := by decide +kernel
theorem dksX5_stockLine_1 : cX5_stockLine.data.toList.drop 23 = dktX5_stockLine_1 := dk_seg dksX5_stockLine_0 23 rfl rfl
theorem dksX5_stockLine_2 : cX5_stockLine.data.toList.drop 47 = dktX5_stockLine_2 := dk_seg dksX5_stockLine_1 24 rfl rfl
theorem dX5_stockLine_0 : decode cX5_stockLine 0 = .ok (.aload_n 0, 1) := dk_42 (dk_at dksX5_stockLine_0 0 rfl rfl)
theorem dX5_stockLine_1 : decode cX5_stockLine 1 = .ok (.iconst 0, 1) := dk_3 (dk_at dksX5_stockLine_0 1 rfl rfl)
theorem dX5_stockLine_2 : decode cX5_stockLine 2 = .ok (.putfield 45, 3) := dk_181 0 45 (dk_at dksX5_stockLine_0 2 rfl rfl)
theorem dX5_stockLine_5 : decode cX5_stockLine 5 = .ok (.aload_n 0, 1) := dk_42 (dk_at dksX5_stockLine_0 5 rfl rfl)
theorem dX5_stockLine_6 : decode cX5_stockLine 6 = .ok (.iconst 0, 1) := dk_3 (dk_at dksX5_stockLine_0 6 rfl rfl)
theorem dX5_stockLine_7 : decode cX5_stockLine 7 = .ok (.putfield 173, 3) := dk_181 0 173 (dk_at dksX5_stockLine_0 7 rfl rfl)
theorem dX5_stockLine_10 : decode cX5_stockLine 10 = .ok (.iconst 0, 1) := dk_3 (dk_at dksX5_stockLine_0 10 rfl rfl)
theorem dX5_stockLine_11 : decode cX5_stockLine 11 = .ok (.istore_n 1, 1) := dk_60 (dk_at dksX5_stockLine_0 11 rfl rfl)
theorem dX5_stockLine_12 : decode cX5_stockLine 12 = .ok (.iload_n 1, 1) := dk_27 (dk_at dksX5_stockLine_0 12 rfl rfl)
theorem dX5_stockLine_13 : decode cX5_stockLine 13 = .ok (.bipush 6, 2) := dk_16 6 (dk_at dksX5_stockLine_0 13 rfl rfl)
theorem dX5_stockLine_15 : decode cX5_stockLine 15 = .ok (.if_icmp .ge 41, 3) := dk_162 0 41 (dk_at dksX5_stockLine_0 15 rfl rfl)
theorem dX5_stockLine_18 : decode cX5_stockLine 18 = .ok (.iload_n 1, 1) := dk_27 (dk_at dksX5_stockLine_0 18 rfl rfl)
theorem dX5_stockLine_19 : decode cX5_stockLine 19 = .ok (.ifCond .le 9, 3) := dk_158 0 9 (dk_at dksX5_stockLine_0 19 rfl rfl)
theorem dX5_stockLine_22 : decode cX5_stockLine 22 = .ok (.aload_n 0, 1) := dk_42 (dk_at dksX5_stockLine_0 22 rfl rfl)
theorem dX5_stockLine_23 : decode cX5_stockLine 23 = .ok (.bipush 32, 2) := dk_16 32 (dk_at dksX5_stockLine_1 0 rfl rfl)
theorem dX5_stockLine_25 : decode cX5_stockLine 25 = .ok (.invokevirtual 176, 3) := dk_182 0 176 (dk_at dksX5_stockLine_1 2 rfl rfl)
theorem dX5_stockLine_28 : decode cX5_stockLine 28 = .ok (.aload_n 0, 1) := dk_42 (dk_at dksX5_stockLine_1 5 rfl rfl)
theorem dX5_stockLine_29 : decode cX5_stockLine 29 = .ok (.aload_n 0, 1) := dk_42 (dk_at dksX5_stockLine_1 6 rfl rfl)
theorem dX5_stockLine_30 : decode cX5_stockLine 30 = .ok (.getfield 7, 3) := dk_180 0 7 (dk_at dksX5_stockLine_1 7 rfl rfl)
theorem dX5_stockLine_33 : decode cX5_stockLine 33 = .ok (.iconst 1, 1) := dk_4 (dk_at dksX5_stockLine_1 10 rfl rfl)
theorem dX5_stockLine_34 : decode cX5_stockLine 34 = .ok (.iload_n 1, 1) := dk_27 (dk_at dksX5_stockLine_1 11 rfl rfl)
theorem dX5_stockLine_35 : decode cX5_stockLine 35 = .ok (.iadd, 1) := dk_96 (dk_at dksX5_stockLine_1 12 rfl rfl)
theorem dX5_stockLine_36 : decode cX5_stockLine 36 = .ok (.iaload, 1) := dk_46 (dk_at dksX5_stockLine_1 13 rfl rfl)
theorem dX5_stockLine_37 : decode cX5_stockLine 37 = .ok (.invokevirtual 188, 3) := dk_182 0 188 (dk_at dksX5_stockLine_1 14 rfl rfl)
theorem dX5_stockLine_40 : decode cX5_stockLine 40 = .ok (.aload_n 0, 1) := dk_42 (dk_at dksX5_stockLine_1 17 rfl rfl)
theorem dX5_stockLine_41 : decode cX5_stockLine 41 = .ok (.ldc 209, 2) := dk_18 209 (dk_at dksX5_stockLine_1 18 rfl rfl)
theorem dX5_stockLine_43 : decode cX5_stockLine 43 = .ok (.iload_n 1, 1) := dk_27 (dk_at dksX5_stockLine_1 20 rfl rfl)
theorem dX5_stockLine_44 : decode cX5_stockLine 44 = .ok (.invokevirtual 184, 3) := dk_182 0 184 (dk_at dksX5_stockLine_1 21 rfl rfl)
theorem dX5_stockLine_47 : decode cX5_stockLine 47 = .ok (.invokevirtual 176, 3) := dk_182 0 176 (dk_at dksX5_stockLine_2 0 rfl rfl)
theorem dX5_stockLine_50 : decode cX5_stockLine 50 = .ok (.iinc 1 1, 3) := dk_132 1 1 (dk_at dksX5_stockLine_2 3 rfl rfl)
theorem dX5_stockLine_53 : decode cX5_stockLine 53 = .ok (.goto (-41), 3) := dk_167 255 215 (dk_at dksX5_stockLine_2 6 rfl rfl)
theorem dX5_stockLine_56 : decode cX5_stockLine 56 = .ok (.aload_n 0, 1) := dk_42 (dk_at dksX5_stockLine_2 9 rfl rfl)
theorem dX5_stockLine_57 : decode cX5_stockLine 57 = .ok (.getfield 173, 3) := dk_180 0 173 (dk_at dksX5_stockLine_2 10 rfl rfl)
theorem dX5_stockLine_60 : decode cX5_stockLine 60 = .ok (.ireturn, 1) := dk_172 (dk_at dksX5_stockLine_2 13 rfl rfl)
abbrev cX5_character : ByteArray := prog_18_method_64_code
def yX5_character : MethodName := ⟨RX5, "character", "(I)C"⟩
def dkwX5_character_1 : List UInt8 := [153, 0, 8, 16, 32, 167, 0, 9, 42, 180, 0, 35, 27, 52, 172]
abbrev dktX5_character_1 : List UInt8 := dkwX5_character_1 ++ []
def dkwX5_character_0 : List UInt8 := [42, 27, 3, 42, 180, 0, 173, 4, 100, 184, 0, 65, 153, 0, 7, 3, 167, 0, 4, 4, 182, 0, 73]
abbrev dktX5_character_0 : List UInt8 := dkwX5_character_0 ++ dktX5_character_1
theorem dksX5_character_0 : cX5_character.data.toList.drop 0 = dktX5_character_0 := by decide +kernel
theorem dksX5_character_1 : cX5_character.data.toList.drop 23 = dktX5_character_1 := dk_seg dksX5_character_0 23 rfl rfl
theorem dX5_character_0 : decode cX5_character 0 = .ok (.aload_n 0, 1) := dk_42 (dk_at dksX5_character_0 0 rfl rfl)
theorem dX5_character_1 : decode cX5_character 1 = .ok (.iload_n 1, 1) := dk_27 (dk_at dksX5_character_0 1 rfl rfl)
theorem dX5_character_2 : decode cX5_character 2 = .ok (.iconst 0, 1) := dk_3 (dk_at dksX5_character_0 2 rfl rfl)
theorem dX5_character_3 : decode cX5_character 3 = .ok (.aload_n 0, 1) := dk_42 (dk_at dksX5_character_0 3 rfl rfl)
theorem dX5_character_4 : decode cX5_character 4 = .ok (.getfield 173, 3) := dk_180 0 173 (dk_at dksX5_character_0 4 rfl rfl)
theorem dX5_character_7 : decode cX5_character 7 = .ok (.iconst 1, 1) := dk_4 (dk_at dksX5_character_0 7 rfl rfl)
theorem dX5_character_8 : decode cX5_character 8 = .ok (.isub, 1) := dk_100 (dk_at dksX5_character_0 8 rfl rfl)
theorem dX5_character_9 : decode cX5_character 9 = .ok (.invokestatic 65, 3) := dk_184 0 65 (dk_at dksX5_character_0 9 rfl rfl)
theorem dX5_character_12 : decode cX5_character 12 = .ok (.ifCond .eq 7, 3) := dk_153 0 7 (dk_at dksX5_character_0 12 rfl rfl)
theorem dX5_character_15 : decode cX5_character 15 = .ok (.iconst 0, 1) := dk_3 (dk_at dksX5_character_0 15 rfl rfl)
theorem dX5_character_16 : decode cX5_character 16 = .ok (.goto 4, 3) := dk_167 0 4 (dk_at dksX5_character_0 16 rfl rfl)
theorem dX5_character_19 : decode cX5_character 19 = .ok (.iconst 1, 1) := dk_4 (dk_at dksX5_character_0 19 rfl rfl)
theorem dX5_character_20 : decode cX5_character 20 = .ok (.invokevirtual 73, 3) := dk_182 0 73 (dk_at dksX5_character_0 20 rfl rfl)
theorem dX5_character_23 : decode cX5_character 23 = .ok (.ifCond .eq 8, 3) := dk_153 0 8 (dk_at dksX5_character_1 0 rfl rfl)
theorem dX5_character_26 : decode cX5_character 26 = .ok (.bipush 32, 2) := dk_16 32 (dk_at dksX5_character_1 3 rfl rfl)
theorem dX5_character_28 : decode cX5_character 28 = .ok (.goto 9, 3) := dk_167 0 9 (dk_at dksX5_character_1 5 rfl rfl)
theorem dX5_character_31 : decode cX5_character 31 = .ok (.aload_n 0, 1) := dk_42 (dk_at dksX5_character_1 8 rfl rfl)
theorem dX5_character_32 : decode cX5_character 32 = .ok (.getfield 35, 3) := dk_180 0 35 (dk_at dksX5_character_1 9 rfl rfl)
theorem dX5_character_35 : decode cX5_character 35 = .ok (.iload_n 1, 1) := dk_27 (dk_at dksX5_character_1 12 rfl rfl)
theorem dX5_character_36 : decode cX5_character 36 = .ok (.caload, 1) := dk_52 (dk_at dksX5_character_1 13 rfl rfl)
theorem dX5_character_37 : decode cX5_character 37 = .ok (.ireturn, 1) := dk_172 (dk_at dksX5_character_1 14 rfl rfl)
abbrev cX5_refusal : ByteArray := prog_18_method_65_code
def yX5_refusal : MethodName := ⟨RX5, "refusal", "(Z)I"⟩
def dkwX5_refusal_1 : List UInt8 := [153, 0, 10, 42, 180, 0, 51, 167, 0, 7, 42, 180, 0, 48, 172]
abbrev dktX5_refusal_1 : List UInt8 := dkwX5_refusal_1 ++ []
def dkwX5_refusal_0 : List UInt8 := [42, 42, 180, 0, 48, 154, 0, 7, 4, 167, 0, 4, 3, 182, 0, 73, 153, 0, 7, 3, 167, 0, 18, 27]
abbrev dktX5_refusal_0 : List UInt8 := dkwX5_refusal_0 ++ dktX5_refusal_1
theorem dksX5_refusal_0 : cX5_refusal.data.toList.drop 0 = dktX5_refusal_0 := by decide +kernel
theorem dksX5_refusal_1 : cX5_refusal.data.toList.drop 24 = dktX5_refusal_1 := dk_seg dksX5_refusal_0 24 rfl rfl
theorem dX5_refusal_0 : decode cX5_refusal 0 = .ok (.aload_n 0, 1) := dk_42 (dk_at dksX5_refusal_0 0 rfl rfl)
theorem dX5_refusal_1 : decode cX5_refusal 1 = .ok (.aload_n 0, 1) := dk_42 (dk_at dksX5_refusal_0 1 rfl rfl)
theorem dX5_refusal_2 : decode cX5_refusal 2 = .ok (.getfield 48, 3) := dk_180 0 48 (dk_at dksX5_refusal_0 2 rfl rfl)
theorem dX5_refusal_5 : decode cX5_refusal 5 = .ok (.ifCond .ne 7, 3) := dk_154 0 7 (dk_at dksX5_refusal_0 5 rfl rfl)
theorem dX5_refusal_8 : decode cX5_refusal 8 = .ok (.iconst 1, 1) := dk_4 (dk_at dksX5_refusal_0 8 rfl rfl)
theorem dX5_refusal_9 : decode cX5_refusal 9 = .ok (.goto 4, 3) := dk_167 0 4 (dk_at dksX5_refusal_0 9 rfl rfl)
theorem dX5_refusal_12 : decode cX5_refusal 12 = .ok (.iconst 0, 1) := dk_3 (dk_at dksX5_refusal_0 12 rfl rfl)
theorem dX5_refusal_13 : decode cX5_refusal 13 = .ok (.invokevirtual 73, 3) := dk_182 0 73 (dk_at dksX5_refusal_0 13 rfl rfl)
theorem dX5_refusal_16 : decode cX5_refusal 16 = .ok (.ifCond .eq 7, 3) := dk_153 0 7 (dk_at dksX5_refusal_0 16 rfl rfl)
theorem dX5_refusal_19 : decode cX5_refusal 19 = .ok (.iconst 0, 1) := dk_3 (dk_at dksX5_refusal_0 19 rfl rfl)
theorem dX5_refusal_20 : decode cX5_refusal 20 = .ok (.goto 18, 3) := dk_167 0 18 (dk_at dksX5_refusal_0 20 rfl rfl)
theorem dX5_refusal_23 : decode cX5_refusal 23 = .ok (.iload_n 1, 1) := dk_27 (dk_at dksX5_refusal_0 23 rfl rfl)
theorem dX5_refusal_24 : decode cX5_refusal 24 = .ok (.ifCond .eq 10, 3) := dk_153 0 10 (dk_at dksX5_refusal_1 0 rfl rfl)
theorem dX5_refusal_27 : decode cX5_refusal 27 = .ok (.aload_n 0, 1) := dk_42 (dk_at dksX5_refusal_1 3 rfl rfl)
theorem dX5_refusal_28 : decode cX5_refusal 28 = .ok (.getfield 51, 3) := dk_180 0 51 (dk_at dksX5_refusal_1 4 rfl rfl)
theorem dX5_refusal_31 : decode cX5_refusal 31 = .ok (.goto 7, 3) := dk_167 0 7 (dk_at dksX5_refusal_1 7 rfl rfl)
theorem dX5_refusal_34 : decode cX5_refusal 34 = .ok (.aload_n 0, 1) := dk_42 (dk_at dksX5_refusal_1 10 rfl rfl)
theorem dX5_refusal_35 : decode cX5_refusal 35 = .ok (.getfield 48, 3) := dk_180 0 48 (dk_at dksX5_refusal_1 11 rfl rfl)
theorem dX5_refusal_38 : decode cX5_refusal 38 = .ok (.ireturn, 1) := dk_172 (dk_at dksX5_refusal_1 14 rfl rfl)
abbrev cX5_account : ByteArray := prog_18_method_68_code
def yX5_account : MethodName := ⟨RX5, "account", "(I)I"⟩
def dkwX5_account_5 : List UInt8 := [172, 42, 180, 0, 58, 172, 42, 180, 0, 7, 27, 46, 172]
abbrev dktX5_account_5 : List UInt8 := dkwX5_account_5 ++ []
def dkwX5_account_4 : List UInt8 := [180, 0, 7, 16, 9, 46, 172, 42, 182, 0, 213, 172, 42, 180, 0, 7, 16, 10, 46, 172, 42, 180, 0, 216]
abbrev dktX5_account_4 : List UInt8 := dkwX5_account_4 ++ dktX5_account_5
def dkwX5_account_3 : List UInt8 := [42, 3, 182, 0, 163, 172, 42, 182, 0, 211, 172, 42, 4, 182, 0, 163, 172, 42, 5, 182, 0, 163, 172, 42]
abbrev dktX5_account_3 : List UInt8 := dkwX5_account_3 ++ dktX5_account_4
def dkwX5_account_2 : List UInt8 := [170, 0, 0, 0, 0, 0, 105, 0, 0, 0, 9, 0, 0, 0, 17, 0, 0, 0, 51, 0, 0, 0, 57, 0, 0, 0, 62, 0, 0, 0, 68, 0, 0, 0, 74, 0, 0, 0, 82, 0, 0, 0, 87, 0, 0, 0, 95, 0, 0, 0, 100]
abbrev dktX5_account_2 : List UInt8 := dkwX5_account_2 ++ dktX5_account_3
def dkwX5_account_1 : List UInt8 := [27]
abbrev dktX5_account_1 : List UInt8 := dkwX5_account_1 ++ dktX5_account_2
def dkwX5_account_0 : List UInt8 := [42, 27, 3, 16, 17, 184, 0, 65, 153, 0, 7, 3, 167, 0, 4, 4, 182, 0, 73, 153, 0, 5, 3, 172]
abbrev dktX5_account_0 : List UInt8 := dkwX5_account_0 ++ dktX5_account_1
theorem dksX5_account_0 : cX5_account.data.toList.drop 0 = dktX5_account_0 := by decide +kernel
theorem dksX5_account_1 : cX5_account.data.toList.drop 24 = dktX5_account_1 := dk_seg dksX5_account_0 24 rfl rfl
theorem dksX5_account_2 : cX5_account.data.toList.drop 25 = dktX5_account_2 := dk_seg dksX5_account_1 1 rfl rfl
theorem dksX5_account_3 : cX5_account.data.toList.drop 76 = dktX5_account_3 := dk_seg dksX5_account_2 51 rfl rfl
theorem dksX5_account_4 : cX5_account.data.toList.drop 100 = dktX5_account_4 := dk_seg dksX5_account_3 24 rfl rfl
theorem dksX5_account_5 : cX5_account.data.toList.drop 124 = dktX5_account_5 := dk_seg dksX5_account_4 24 rfl rfl
theorem dX5_account_0 : decode cX5_account 0 = .ok (.aload_n 0, 1) := dk_42 (dk_at dksX5_account_0 0 rfl rfl)
theorem dX5_account_1 : decode cX5_account 1 = .ok (.iload_n 1, 1) := dk_27 (dk_at dksX5_account_0 1 rfl rfl)
theorem dX5_account_2 : decode cX5_account 2 = .ok (.iconst 0, 1) := dk_3 (dk_at dksX5_account_0 2 rfl rfl)
theorem dX5_account_3 : decode cX5_account 3 = .ok (.bipush 17, 2) := dk_16 17 (dk_at dksX5_account_0 3 rfl rfl)
theorem dX5_account_5 : decode cX5_account 5 = .ok (.invokestatic 65, 3) := dk_184 0 65 (dk_at dksX5_account_0 5 rfl rfl)
theorem dX5_account_8 : decode cX5_account 8 = .ok (.ifCond .eq 7, 3) := dk_153 0 7 (dk_at dksX5_account_0 8 rfl rfl)
theorem dX5_account_11 : decode cX5_account 11 = .ok (.iconst 0, 1) := dk_3 (dk_at dksX5_account_0 11 rfl rfl)
theorem dX5_account_12 : decode cX5_account 12 = .ok (.goto 4, 3) := dk_167 0 4 (dk_at dksX5_account_0 12 rfl rfl)
theorem dX5_account_15 : decode cX5_account 15 = .ok (.iconst 1, 1) := dk_4 (dk_at dksX5_account_0 15 rfl rfl)
theorem dX5_account_16 : decode cX5_account 16 = .ok (.invokevirtual 73, 3) := dk_182 0 73 (dk_at dksX5_account_0 16 rfl rfl)
theorem dX5_account_19 : decode cX5_account 19 = .ok (.ifCond .eq 5, 3) := dk_153 0 5 (dk_at dksX5_account_0 19 rfl rfl)
theorem dX5_account_22 : decode cX5_account 22 = .ok (.iconst 0, 1) := dk_3 (dk_at dksX5_account_0 22 rfl rfl)
theorem dX5_account_23 : decode cX5_account 23 = .ok (.ireturn, 1) := dk_172 (dk_at dksX5_account_0 23 rfl rfl)
theorem dX5_account_24 : decode cX5_account 24 = .ok (.iload_n 1, 1) := dk_27 (dk_at dksX5_account_1 0 rfl rfl)
theorem dX5_account_25 : decode cX5_account 25 = .ok (.tableswitch 105 9 17 #[51, 57, 62, 68, 74, 82, 87, 95, 100], 51) := by decide +kernel
theorem dX5_account_76 : decode cX5_account 76 = .ok (.aload_n 0, 1) := dk_42 (dk_at dksX5_account_3 0 rfl rfl)
theorem dX5_account_77 : decode cX5_account 77 = .ok (.iconst 0, 1) := dk_3 (dk_at dksX5_account_3 1 rfl rfl)
theorem dX5_account_78 : decode cX5_account 78 = .ok (.invokevirtual 163, 3) := dk_182 0 163 (dk_at dksX5_account_3 2 rfl rfl)
theorem dX5_account_81 : decode cX5_account 81 = .ok (.ireturn, 1) := dk_172 (dk_at dksX5_account_3 5 rfl rfl)
theorem dX5_account_82 : decode cX5_account 82 = .ok (.aload_n 0, 1) := dk_42 (dk_at dksX5_account_3 6 rfl rfl)
theorem dX5_account_83 : decode cX5_account 83 = .ok (.invokevirtual 211, 3) := dk_182 0 211 (dk_at dksX5_account_3 7 rfl rfl)
theorem dX5_account_86 : decode cX5_account 86 = .ok (.ireturn, 1) := dk_172 (dk_at dksX5_account_3 10 rfl rfl)
theorem dX5_account_87 : decode cX5_account 87 = .ok (.aload_n 0, 1) := dk_42 (dk_at dksX5_account_3 11 rfl rfl)
theorem dX5_account_88 : decode cX5_account 88 = .ok (.iconst 1, 1) := dk_4 (dk_at dksX5_account_3 12 rfl rfl)
theorem dX5_account_89 : decode cX5_account 89 = .ok (.invokevirtual 163, 3) := dk_182 0 163 (dk_at dksX5_account_3 13 rfl rfl)
theorem dX5_account_92 : decode cX5_account 92 = .ok (.ireturn, 1) := dk_172 (dk_at dksX5_account_3 16 rfl rfl)
theorem dX5_account_93 : decode cX5_account 93 = .ok (.aload_n 0, 1) := dk_42 (dk_at dksX5_account_3 17 rfl rfl)
theorem dX5_account_94 : decode cX5_account 94 = .ok (.iconst 2, 1) := dk_5 (dk_at dksX5_account_3 18 rfl rfl)
theorem dX5_account_95 : decode cX5_account 95 = .ok (.invokevirtual 163, 3) := dk_182 0 163 (dk_at dksX5_account_3 19 rfl rfl)
theorem dX5_account_98 : decode cX5_account 98 = .ok (.ireturn, 1) := dk_172 (dk_at dksX5_account_3 22 rfl rfl)
theorem dX5_account_99 : decode cX5_account 99 = .ok (.aload_n 0, 1) := dk_42 (dk_at dksX5_account_3 23 rfl rfl)
theorem dX5_account_100 : decode cX5_account 100 = .ok (.getfield 7, 3) := dk_180 0 7 (dk_at dksX5_account_4 0 rfl rfl)
theorem dX5_account_103 : decode cX5_account 103 = .ok (.bipush 9, 2) := dk_16 9 (dk_at dksX5_account_4 3 rfl rfl)
theorem dX5_account_105 : decode cX5_account 105 = .ok (.iaload, 1) := dk_46 (dk_at dksX5_account_4 5 rfl rfl)
theorem dX5_account_106 : decode cX5_account 106 = .ok (.ireturn, 1) := dk_172 (dk_at dksX5_account_4 6 rfl rfl)
theorem dX5_account_107 : decode cX5_account 107 = .ok (.aload_n 0, 1) := dk_42 (dk_at dksX5_account_4 7 rfl rfl)
theorem dX5_account_108 : decode cX5_account 108 = .ok (.invokevirtual 213, 3) := dk_182 0 213 (dk_at dksX5_account_4 8 rfl rfl)
theorem dX5_account_111 : decode cX5_account 111 = .ok (.ireturn, 1) := dk_172 (dk_at dksX5_account_4 11 rfl rfl)
theorem dX5_account_112 : decode cX5_account 112 = .ok (.aload_n 0, 1) := dk_42 (dk_at dksX5_account_4 12 rfl rfl)
theorem dX5_account_113 : decode cX5_account 113 = .ok (.getfield 7, 3) := dk_180 0 7 (dk_at dksX5_account_4 13 rfl rfl)
theorem dX5_account_116 : decode cX5_account 116 = .ok (.bipush 10, 2) := dk_16 10 (dk_at dksX5_account_4 16 rfl rfl)
theorem dX5_account_118 : decode cX5_account 118 = .ok (.iaload, 1) := dk_46 (dk_at dksX5_account_4 18 rfl rfl)
theorem dX5_account_119 : decode cX5_account 119 = .ok (.ireturn, 1) := dk_172 (dk_at dksX5_account_4 19 rfl rfl)
theorem dX5_account_120 : decode cX5_account 120 = .ok (.aload_n 0, 1) := dk_42 (dk_at dksX5_account_4 20 rfl rfl)
theorem dX5_account_121 : decode cX5_account 121 = .ok (.getfield 216, 3) := dk_180 0 216 (dk_at dksX5_account_4 21 rfl rfl)
theorem dX5_account_124 : decode cX5_account 124 = .ok (.ireturn, 1) := dk_172 (dk_at dksX5_account_5 0 rfl rfl)
theorem dX5_account_125 : decode cX5_account 125 = .ok (.aload_n 0, 1) := dk_42 (dk_at dksX5_account_5 1 rfl rfl)
theorem dX5_account_126 : decode cX5_account 126 = .ok (.getfield 58, 3) := dk_180 0 58 (dk_at dksX5_account_5 2 rfl rfl)
theorem dX5_account_129 : decode cX5_account 129 = .ok (.ireturn, 1) := dk_172 (dk_at dksX5_account_5 5 rfl rfl)
theorem dX5_account_130 : decode cX5_account 130 = .ok (.aload_n 0, 1) := dk_42 (dk_at dksX5_account_5 6 rfl rfl)
theorem dX5_account_131 : decode cX5_account 131 = .ok (.getfield 7, 3) := dk_180 0 7 (dk_at dksX5_account_5 7 rfl rfl)
theorem dX5_account_134 : decode cX5_account 134 = .ok (.iload_n 1, 1) := dk_27 (dk_at dksX5_account_5 10 rfl rfl)
theorem dX5_account_135 : decode cX5_account 135 = .ok (.iaload, 1) := dk_46 (dk_at dksX5_account_5 11 rfl rfl)
theorem dX5_account_136 : decode cX5_account 136 = .ok (.ireturn, 1) := dk_172 (dk_at dksX5_account_5 12 rfl rfl)
abbrev cX5_ripe : ByteArray := prog_18_method_66_code
def yX5_ripe : MethodName := ⟨RX5, "ripe", "()I"⟩
def dkwX5_ripe_1 : List UInt8 := [4, 167, 0, 4, 3, 96, 60, 132, 2, 1, 167, 255, 226, 27, 172]
abbrev dktX5_ripe_1 : List UInt8 := dkwX5_ripe_1 ++ []
def dkwX5_ripe_0 : List UInt8 := [3, 60, 3, 61, 28, 42, 180, 0, 7, 16, 8, 46, 162, 0, 25, 27, 42, 28, 182, 0, 151, 153, 0, 7]
abbrev dktX5_ripe_0 : List UInt8 := dkwX5_ripe_0 ++ dktX5_ripe_1
theorem dksX5_ripe_0 : cX5_ripe.data.toList.drop 0 = dktX5_ripe_0 := by decide +kernel
theorem dksX5_ripe_1 : cX5_ripe.data.toList.drop 24 = dktX5_ripe_1 := dk_seg dksX5_ripe_0 24 rfl rfl
theorem dX5_ripe_0 : decode cX5_ripe 0 = .ok (.iconst 0, 1) := dk_3 (dk_at dksX5_ripe_0 0 rfl rfl)
theorem dX5_ripe_1 : decode cX5_ripe 1 = .ok (.istore_n 1, 1) := dk_60 (dk_at dksX5_ripe_0 1 rfl rfl)
theorem dX5_ripe_2 : decode cX5_ripe 2 = .ok (.iconst 0, 1) := dk_3 (dk_at dksX5_ripe_0 2 rfl rfl)
theorem dX5_ripe_3 : decode cX5_ripe 3 = .ok (.istore_n 2, 1) := dk_61 (dk_at dksX5_ripe_0 3 rfl rfl)
theorem dX5_ripe_4 : decode cX5_ripe 4 = .ok (.iload_n 2, 1) := dk_28 (dk_at dksX5_ripe_0 4 rfl rfl)
theorem dX5_ripe_5 : decode cX5_ripe 5 = .ok (.aload_n 0, 1) := dk_42 (dk_at dksX5_ripe_0 5 rfl rfl)
theorem dX5_ripe_6 : decode cX5_ripe 6 = .ok (.getfield 7, 3) := dk_180 0 7 (dk_at dksX5_ripe_0 6 rfl rfl)
theorem dX5_ripe_9 : decode cX5_ripe 9 = .ok (.bipush 8, 2) := dk_16 8 (dk_at dksX5_ripe_0 9 rfl rfl)
theorem dX5_ripe_11 : decode cX5_ripe 11 = .ok (.iaload, 1) := dk_46 (dk_at dksX5_ripe_0 11 rfl rfl)
theorem dX5_ripe_12 : decode cX5_ripe 12 = .ok (.if_icmp .ge 25, 3) := dk_162 0 25 (dk_at dksX5_ripe_0 12 rfl rfl)
theorem dX5_ripe_15 : decode cX5_ripe 15 = .ok (.iload_n 1, 1) := dk_27 (dk_at dksX5_ripe_0 15 rfl rfl)
theorem dX5_ripe_16 : decode cX5_ripe 16 = .ok (.aload_n 0, 1) := dk_42 (dk_at dksX5_ripe_0 16 rfl rfl)
theorem dX5_ripe_17 : decode cX5_ripe 17 = .ok (.iload_n 2, 1) := dk_28 (dk_at dksX5_ripe_0 17 rfl rfl)
theorem dX5_ripe_18 : decode cX5_ripe 18 = .ok (.invokevirtual 151, 3) := dk_182 0 151 (dk_at dksX5_ripe_0 18 rfl rfl)
theorem dX5_ripe_21 : decode cX5_ripe 21 = .ok (.ifCond .eq 7, 3) := dk_153 0 7 (dk_at dksX5_ripe_0 21 rfl rfl)
theorem dX5_ripe_24 : decode cX5_ripe 24 = .ok (.iconst 1, 1) := dk_4 (dk_at dksX5_ripe_1 0 rfl rfl)
theorem dX5_ripe_25 : decode cX5_ripe 25 = .ok (.goto 4, 3) := dk_167 0 4 (dk_at dksX5_ripe_1 1 rfl rfl)
theorem dX5_ripe_28 : decode cX5_ripe 28 = .ok (.iconst 0, 1) := dk_3 (dk_at dksX5_ripe_1 4 rfl rfl)
theorem dX5_ripe_29 : decode cX5_ripe 29 = .ok (.iadd, 1) := dk_96 (dk_at dksX5_ripe_1 5 rfl rfl)
theorem dX5_ripe_30 : decode cX5_ripe 30 = .ok (.istore_n 1, 1) := dk_60 (dk_at dksX5_ripe_1 6 rfl rfl)
theorem dX5_ripe_31 : decode cX5_ripe 31 = .ok (.iinc 2 1, 3) := dk_132 2 1 (dk_at dksX5_ripe_1 7 rfl rfl)
theorem dX5_ripe_34 : decode cX5_ripe 34 = .ok (.goto (-30), 3) := dk_167 255 226 (dk_at dksX5_ripe_1 10 rfl rfl)
theorem dX5_ripe_37 : decode cX5_ripe 37 = .ok (.iload_n 1, 1) := dk_27 (dk_at dksX5_ripe_1 13 rfl rfl)
theorem dX5_ripe_38 : decode cX5_ripe 38 = .ok (.ireturn, 1) := dk_172 (dk_at dksX5_ripe_1 14 rfl rfl)
abbrev cX5_openOrders : ByteArray := prog_18_method_67_code
def yX5_openOrders : MethodName := ⟨RX5, "openOrders", "()I"⟩
def dkwX5_openOrders_1 : List UInt8 := [154, 0, 7, 4, 167, 0, 4, 3, 96, 60, 132, 2, 1, 167, 255, 225, 27, 172]
abbrev dktX5_openOrders_1 : List UInt8 := dkwX5_openOrders_1 ++ []
def dkwX5_openOrders_0 : List UInt8 := [3, 60, 3, 61, 28, 42, 180, 0, 7, 16, 9, 46, 162, 0, 26, 27, 42, 28, 5, 182, 0, 154]
abbrev dktX5_openOrders_0 : List UInt8 := dkwX5_openOrders_0 ++ dktX5_openOrders_1
theorem dksX5_openOrders_0 : cX5_openOrders.data.toList.drop 0 = dktX5_openOrders_0 := by decide +kernel
theorem dksX5_openOrders_1 : cX5_openOrders.data.toList.drop 22 = dktX5_openOrders_1 := dk_seg dksX5_openOrders_0 22 rfl rfl
theorem dX5_openOrders_0 : decode cX5_openOrders 0 = .ok (.iconst 0, 1) := dk_3 (dk_at dksX5_openOrders_0 0 rfl rfl)
theorem dX5_openOrders_1 : decode cX5_openOrders 1 = .ok (.istore_n 1, 1) := dk_60 (dk_at dksX5_openOrders_0 1 rfl rfl)
theorem dX5_openOrders_2 : decode cX5_openOrders 2 = .ok (.iconst 0, 1) := dk_3 (dk_at dksX5_openOrders_0 2 rfl rfl)
theorem dX5_openOrders_3 : decode cX5_openOrders 3 = .ok (.istore_n 2, 1) := dk_61 (dk_at dksX5_openOrders_0 3 rfl rfl)
theorem dX5_openOrders_4 : decode cX5_openOrders 4 = .ok (.iload_n 2, 1) := dk_28 (dk_at dksX5_openOrders_0 4 rfl rfl)
theorem dX5_openOrders_5 : decode cX5_openOrders 5 = .ok (.aload_n 0, 1) := dk_42 (dk_at dksX5_openOrders_0 5 rfl rfl)
theorem dX5_openOrders_6 : decode cX5_openOrders 6 = .ok (.getfield 7, 3) := dk_180 0 7 (dk_at dksX5_openOrders_0 6 rfl rfl)
theorem dX5_openOrders_9 : decode cX5_openOrders 9 = .ok (.bipush 9, 2) := dk_16 9 (dk_at dksX5_openOrders_0 9 rfl rfl)
theorem dX5_openOrders_11 : decode cX5_openOrders 11 = .ok (.iaload, 1) := dk_46 (dk_at dksX5_openOrders_0 11 rfl rfl)
theorem dX5_openOrders_12 : decode cX5_openOrders 12 = .ok (.if_icmp .ge 26, 3) := dk_162 0 26 (dk_at dksX5_openOrders_0 12 rfl rfl)
theorem dX5_openOrders_15 : decode cX5_openOrders 15 = .ok (.iload_n 1, 1) := dk_27 (dk_at dksX5_openOrders_0 15 rfl rfl)
theorem dX5_openOrders_16 : decode cX5_openOrders 16 = .ok (.aload_n 0, 1) := dk_42 (dk_at dksX5_openOrders_0 16 rfl rfl)
theorem dX5_openOrders_17 : decode cX5_openOrders 17 = .ok (.iload_n 2, 1) := dk_28 (dk_at dksX5_openOrders_0 17 rfl rfl)
theorem dX5_openOrders_18 : decode cX5_openOrders 18 = .ok (.iconst 2, 1) := dk_5 (dk_at dksX5_openOrders_0 18 rfl rfl)
theorem dX5_openOrders_19 : decode cX5_openOrders 19 = .ok (.invokevirtual 154, 3) := dk_182 0 154 (dk_at dksX5_openOrders_0 19 rfl rfl)
theorem dX5_openOrders_22 : decode cX5_openOrders 22 = .ok (.ifCond .ne 7, 3) := dk_154 0 7 (dk_at dksX5_openOrders_1 0 rfl rfl)
theorem dX5_openOrders_25 : decode cX5_openOrders 25 = .ok (.iconst 1, 1) := dk_4 (dk_at dksX5_openOrders_1 3 rfl rfl)
theorem dX5_openOrders_26 : decode cX5_openOrders 26 = .ok (.goto 4, 3) := dk_167 0 4 (dk_at dksX5_openOrders_1 4 rfl rfl)
theorem dX5_openOrders_29 : decode cX5_openOrders 29 = .ok (.iconst 0, 1) := dk_3 (dk_at dksX5_openOrders_1 7 rfl rfl)
theorem dX5_openOrders_30 : decode cX5_openOrders 30 = .ok (.iadd, 1) := dk_96 (dk_at dksX5_openOrders_1 8 rfl rfl)
theorem dX5_openOrders_31 : decode cX5_openOrders 31 = .ok (.istore_n 1, 1) := dk_60 (dk_at dksX5_openOrders_1 9 rfl rfl)
theorem dX5_openOrders_32 : decode cX5_openOrders 32 = .ok (.iinc 2 1, 3) := dk_132 2 1 (dk_at dksX5_openOrders_1 10 rfl rfl)
theorem dX5_openOrders_35 : decode cX5_openOrders 35 = .ok (.goto (-31), 3) := dk_167 255 225 (dk_at dksX5_openOrders_1 13 rfl rfl)
theorem dX5_openOrders_38 : decode cX5_openOrders 38 = .ok (.iload_n 1, 1) := dk_27 (dk_at dksX5_openOrders_1 16 rfl rfl)
theorem dX5_openOrders_39 : decode cX5_openOrders 39 = .ok (.ireturn, 1) := dk_172 (dk_at dksX5_openOrders_1 17 rfl rfl)
abbrev cX5_meanTear : ByteArray := prog_18_method_69_code
def yX5_meanTear : MethodName := ⟨RX5, "meanTear", "()D"⟩
def dkwX5_meanTear_3 : List UInt8 := [5, 182, 0, 163, 135, 111, 175]
abbrev dktX5_meanTear_3 : List UInt8 := dkwX5_meanTear_3 ++ []
def dkwX5_meanTear_2 : List UInt8 := [182, 0, 163, 154, 0, 7, 4, 167, 0, 4, 3, 182, 0, 73, 153, 0, 7, 14, 167, 0, 12, 27, 135, 42]
abbrev dktX5_meanTear_2 : List UInt8 := dkwX5_meanTear_2 ++ dktX5_meanTear_3
def dkwX5_meanTear_1 : List UInt8 := [160, 0, 12, 42, 28, 6, 182, 0, 121, 167, 0, 4, 3, 96, 60, 132, 2, 1, 167, 255, 219, 42, 42, 5]
abbrev dktX5_meanTear_1 : List UInt8 := dkwX5_meanTear_1 ++ dktX5_meanTear_2
def dkwX5_meanTear_0 : List UInt8 := [3, 60, 3, 61, 28, 42, 180, 0, 7, 16, 8, 46, 162, 0, 32, 27, 42, 28, 3, 182, 0, 121, 5]
abbrev dktX5_meanTear_0 : List UInt8 := dkwX5_meanTear_0 ++ dktX5_meanTear_1
theorem dksX5_meanTear_0 : cX5_meanTear.data.toList.drop 0 = dktX5_meanTear_0 := by decide +kernel
theorem dksX5_meanTear_1 : cX5_meanTear.data.toList.drop 23 = dktX5_meanTear_1 := dk_seg dksX5_meanTear_0 23 rfl rfl
theorem dksX5_meanTear_2 : cX5_meanTear.data.toList.drop 47 = dktX5_meanTear_2 := dk_seg dksX5_meanTear_1 24 rfl rfl
theorem dksX5_meanTear_3 : cX5_meanTear.data.toList.drop 71 = dktX5_meanTear_3 := dk_seg dksX5_meanTear_2 24 rfl rfl
theorem dX5_meanTear_0 : decode cX5_meanTear 0 = .ok (.iconst 0, 1) := dk_3 (dk_at dksX5_meanTear_0 0 rfl rfl)
theorem dX5_meanTear_1 : decode cX5_meanTear 1 = .ok (.istore_n 1, 1) := dk_60 (dk_at dksX5_meanTear_0 1 rfl rfl)
theorem dX5_meanTear_2 : decode cX5_meanTear 2 = .ok (.iconst 0, 1) := dk_3 (dk_at dksX5_meanTear_0 2 rfl rfl)
theorem dX5_meanTear_3 : decode cX5_meanTear 3 = .ok (.istore_n 2, 1) := dk_61 (dk_at dksX5_meanTear_0 3 rfl rfl)
theorem dX5_meanTear_4 : decode cX5_meanTear 4 = .ok (.iload_n 2, 1) := dk_28 (dk_at dksX5_meanTear_0 4 rfl rfl)
theorem dX5_meanTear_5 : decode cX5_meanTear 5 = .ok (.aload_n 0, 1) := dk_42 (dk_at dksX5_meanTear_0 5 rfl rfl)
theorem dX5_meanTear_6 : decode cX5_meanTear 6 = .ok (.getfield 7, 3) := dk_180 0 7 (dk_at dksX5_meanTear_0 6 rfl rfl)
theorem dX5_meanTear_9 : decode cX5_meanTear 9 = .ok (.bipush 8, 2) := dk_16 8 (dk_at dksX5_meanTear_0 9 rfl rfl)
theorem dX5_meanTear_11 : decode cX5_meanTear 11 = .ok (.iaload, 1) := dk_46 (dk_at dksX5_meanTear_0 11 rfl rfl)
theorem dX5_meanTear_12 : decode cX5_meanTear 12 = .ok (.if_icmp .ge 32, 3) := dk_162 0 32 (dk_at dksX5_meanTear_0 12 rfl rfl)
theorem dX5_meanTear_15 : decode cX5_meanTear 15 = .ok (.iload_n 1, 1) := dk_27 (dk_at dksX5_meanTear_0 15 rfl rfl)
theorem dX5_meanTear_16 : decode cX5_meanTear 16 = .ok (.aload_n 0, 1) := dk_42 (dk_at dksX5_meanTear_0 16 rfl rfl)
theorem dX5_meanTear_17 : decode cX5_meanTear 17 = .ok (.iload_n 2, 1) := dk_28 (dk_at dksX5_meanTear_0 17 rfl rfl)
theorem dX5_meanTear_18 : decode cX5_meanTear 18 = .ok (.iconst 0, 1) := dk_3 (dk_at dksX5_meanTear_0 18 rfl rfl)
theorem dX5_meanTear_19 : decode cX5_meanTear 19 = .ok (.invokevirtual 121, 3) := dk_182 0 121 (dk_at dksX5_meanTear_0 19 rfl rfl)
theorem dX5_meanTear_22 : decode cX5_meanTear 22 = .ok (.iconst 2, 1) := dk_5 (dk_at dksX5_meanTear_0 22 rfl rfl)
theorem dX5_meanTear_23 : decode cX5_meanTear 23 = .ok (.if_icmp .ne 12, 3) := dk_160 0 12 (dk_at dksX5_meanTear_1 0 rfl rfl)
theorem dX5_meanTear_26 : decode cX5_meanTear 26 = .ok (.aload_n 0, 1) := dk_42 (dk_at dksX5_meanTear_1 3 rfl rfl)
theorem dX5_meanTear_27 : decode cX5_meanTear 27 = .ok (.iload_n 2, 1) := dk_28 (dk_at dksX5_meanTear_1 4 rfl rfl)
theorem dX5_meanTear_28 : decode cX5_meanTear 28 = .ok (.iconst 3, 1) := dk_6 (dk_at dksX5_meanTear_1 5 rfl rfl)
theorem dX5_meanTear_29 : decode cX5_meanTear 29 = .ok (.invokevirtual 121, 3) := dk_182 0 121 (dk_at dksX5_meanTear_1 6 rfl rfl)
theorem dX5_meanTear_32 : decode cX5_meanTear 32 = .ok (.goto 4, 3) := dk_167 0 4 (dk_at dksX5_meanTear_1 9 rfl rfl)
theorem dX5_meanTear_35 : decode cX5_meanTear 35 = .ok (.iconst 0, 1) := dk_3 (dk_at dksX5_meanTear_1 12 rfl rfl)
theorem dX5_meanTear_36 : decode cX5_meanTear 36 = .ok (.iadd, 1) := dk_96 (dk_at dksX5_meanTear_1 13 rfl rfl)
theorem dX5_meanTear_37 : decode cX5_meanTear 37 = .ok (.istore_n 1, 1) := dk_60 (dk_at dksX5_meanTear_1 14 rfl rfl)
theorem dX5_meanTear_38 : decode cX5_meanTear 38 = .ok (.iinc 2 1, 3) := dk_132 2 1 (dk_at dksX5_meanTear_1 15 rfl rfl)
theorem dX5_meanTear_41 : decode cX5_meanTear 41 = .ok (.goto (-37), 3) := dk_167 255 219 (dk_at dksX5_meanTear_1 18 rfl rfl)
theorem dX5_meanTear_44 : decode cX5_meanTear 44 = .ok (.aload_n 0, 1) := dk_42 (dk_at dksX5_meanTear_1 21 rfl rfl)
theorem dX5_meanTear_45 : decode cX5_meanTear 45 = .ok (.aload_n 0, 1) := dk_42 (dk_at dksX5_meanTear_1 22 rfl rfl)
theorem dX5_meanTear_46 : decode cX5_meanTear 46 = .ok (.iconst 2, 1) := dk_5 (dk_at dksX5_meanTear_1 23 rfl rfl)
theorem dX5_meanTear_47 : decode cX5_meanTear 47 = .ok (.invokevirtual 163, 3) := dk_182 0 163 (dk_at dksX5_meanTear_2 0 rfl rfl)
theorem dX5_meanTear_50 : decode cX5_meanTear 50 = .ok (.ifCond .ne 7, 3) := dk_154 0 7 (dk_at dksX5_meanTear_2 3 rfl rfl)
theorem dX5_meanTear_53 : decode cX5_meanTear 53 = .ok (.iconst 1, 1) := dk_4 (dk_at dksX5_meanTear_2 6 rfl rfl)
theorem dX5_meanTear_54 : decode cX5_meanTear 54 = .ok (.goto 4, 3) := dk_167 0 4 (dk_at dksX5_meanTear_2 7 rfl rfl)
theorem dX5_meanTear_57 : decode cX5_meanTear 57 = .ok (.iconst 0, 1) := dk_3 (dk_at dksX5_meanTear_2 10 rfl rfl)
theorem dX5_meanTear_58 : decode cX5_meanTear 58 = .ok (.invokevirtual 73, 3) := dk_182 0 73 (dk_at dksX5_meanTear_2 11 rfl rfl)
theorem dX5_meanTear_61 : decode cX5_meanTear 61 = .ok (.ifCond .eq 7, 3) := dk_153 0 7 (dk_at dksX5_meanTear_2 14 rfl rfl)
theorem dX5_meanTear_64 : decode cX5_meanTear 64 = .ok (.dconst 0, 1) := dk_14 (dk_at dksX5_meanTear_2 17 rfl rfl)
theorem dX5_meanTear_65 : decode cX5_meanTear 65 = .ok (.goto 12, 3) := dk_167 0 12 (dk_at dksX5_meanTear_2 18 rfl rfl)
theorem dX5_meanTear_68 : decode cX5_meanTear 68 = .ok (.iload_n 1, 1) := dk_27 (dk_at dksX5_meanTear_2 21 rfl rfl)
theorem dX5_meanTear_69 : decode cX5_meanTear 69 = .ok (.i2d, 1) := dk_135 (dk_at dksX5_meanTear_2 22 rfl rfl)
theorem dX5_meanTear_70 : decode cX5_meanTear 70 = .ok (.aload_n 0, 1) := dk_42 (dk_at dksX5_meanTear_2 23 rfl rfl)
theorem dX5_meanTear_71 : decode cX5_meanTear 71 = .ok (.iconst 2, 1) := dk_5 (dk_at dksX5_meanTear_3 0 rfl rfl)
theorem dX5_meanTear_72 : decode cX5_meanTear 72 = .ok (.invokevirtual 163, 3) := dk_182 0 163 (dk_at dksX5_meanTear_3 1 rfl rfl)
theorem dX5_meanTear_75 : decode cX5_meanTear 75 = .ok (.i2d, 1) := dk_135 (dk_at dksX5_meanTear_3 4 rfl rfl)
theorem dX5_meanTear_76 : decode cX5_meanTear 76 = .ok (.ddiv, 1) := dk_111 (dk_at dksX5_meanTear_3 5 rfl rfl)
theorem dX5_meanTear_77 : decode cX5_meanTear 77 = .ok (.dreturn, 1) := dk_175 (dk_at dksX5_meanTear_3 6 rfl rfl)
abbrev cX5_soldShare : ByteArray := prog_18_method_70_code
def yX5_soldShare : MethodName := ⟨RX5, "soldShare", "()F"⟩
def dkwX5_soldShare_1 : List UInt8 := [167, 0, 18, 42, 5, 182, 0, 163, 134, 42, 180, 0, 7, 16, 8, 46, 134, 110, 174]
abbrev dktX5_soldShare_1 : List UInt8 := dkwX5_soldShare_1 ++ []
def dkwX5_soldShare_0 : List UInt8 := [42, 42, 180, 0, 7, 16, 8, 46, 154, 0, 7, 4, 167, 0, 4, 3, 182, 0, 73, 153, 0, 7, 11]
abbrev dktX5_soldShare_0 : List UInt8 := dkwX5_soldShare_0 ++ dktX5_soldShare_1
theorem dksX5_soldShare_0 : cX5_soldShare.data.toList.drop 0 = dktX5_soldShare_0 := by decide +kernel
theorem dksX5_soldShare_1 : cX5_soldShare.data.toList.drop 23 = dktX5_soldShare_1 := dk_seg dksX5_soldShare_0 23 rfl rfl
theorem dX5_soldShare_0 : decode cX5_soldShare 0 = .ok (.aload_n 0, 1) := dk_42 (dk_at dksX5_soldShare_0 0 rfl rfl)
theorem dX5_soldShare_1 : decode cX5_soldShare 1 = .ok (.aload_n 0, 1) := dk_42 (dk_at dksX5_soldShare_0 1 rfl rfl)
theorem dX5_soldShare_2 : decode cX5_soldShare 2 = .ok (.getfield 7, 3) := dk_180 0 7 (dk_at dksX5_soldShare_0 2 rfl rfl)
theorem dX5_soldShare_5 : decode cX5_soldShare 5 = .ok (.bipush 8, 2) := dk_16 8 (dk_at dksX5_soldShare_0 5 rfl rfl)
theorem dX5_soldShare_7 : decode cX5_soldShare 7 = .ok (.iaload, 1) := dk_46 (dk_at dksX5_soldShare_0 7 rfl rfl)
theorem dX5_soldShare_8 : decode cX5_soldShare 8 = .ok (.ifCond .ne 7, 3) := dk_154 0 7 (dk_at dksX5_soldShare_0 8 rfl rfl)
theorem dX5_soldShare_11 : decode cX5_soldShare 11 = .ok (.iconst 1, 1) := dk_4 (dk_at dksX5_soldShare_0 11 rfl rfl)
theorem dX5_soldShare_12 : decode cX5_soldShare 12 = .ok (.goto 4, 3) := dk_167 0 4 (dk_at dksX5_soldShare_0 12 rfl rfl)
theorem dX5_soldShare_15 : decode cX5_soldShare 15 = .ok (.iconst 0, 1) := dk_3 (dk_at dksX5_soldShare_0 15 rfl rfl)
theorem dX5_soldShare_16 : decode cX5_soldShare 16 = .ok (.invokevirtual 73, 3) := dk_182 0 73 (dk_at dksX5_soldShare_0 16 rfl rfl)
theorem dX5_soldShare_19 : decode cX5_soldShare 19 = .ok (.ifCond .eq 7, 3) := dk_153 0 7 (dk_at dksX5_soldShare_0 19 rfl rfl)
theorem dX5_soldShare_22 : decode cX5_soldShare 22 = .ok (.fconst 0, 1) := dk_11 (dk_at dksX5_soldShare_0 22 rfl rfl)
theorem dX5_soldShare_23 : decode cX5_soldShare 23 = .ok (.goto 18, 3) := dk_167 0 18 (dk_at dksX5_soldShare_1 0 rfl rfl)
theorem dX5_soldShare_26 : decode cX5_soldShare 26 = .ok (.aload_n 0, 1) := dk_42 (dk_at dksX5_soldShare_1 3 rfl rfl)
theorem dX5_soldShare_27 : decode cX5_soldShare 27 = .ok (.iconst 2, 1) := dk_5 (dk_at dksX5_soldShare_1 4 rfl rfl)
theorem dX5_soldShare_28 : decode cX5_soldShare 28 = .ok (.invokevirtual 163, 3) := dk_182 0 163 (dk_at dksX5_soldShare_1 5 rfl rfl)
theorem dX5_soldShare_31 : decode cX5_soldShare 31 = .ok (.i2f, 1) := dk_134 (dk_at dksX5_soldShare_1 8 rfl rfl)
theorem dX5_soldShare_32 : decode cX5_soldShare 32 = .ok (.aload_n 0, 1) := dk_42 (dk_at dksX5_soldShare_1 9 rfl rfl)
theorem dX5_soldShare_33 : decode cX5_soldShare 33 = .ok (.getfield 7, 3) := dk_180 0 7 (dk_at dksX5_soldShare_1 10 rfl rfl)
theorem dX5_soldShare_36 : decode cX5_soldShare 36 = .ok (.bipush 8, 2) := dk_16 8 (dk_at dksX5_soldShare_1 13 rfl rfl)
theorem dX5_soldShare_38 : decode cX5_soldShare 38 = .ok (.iaload, 1) := dk_46 (dk_at dksX5_soldShare_1 15 rfl rfl)
theorem dX5_soldShare_39 : decode cX5_soldShare 39 = .ok (.i2f, 1) := dk_134 (dk_at dksX5_soldShare_1 16 rfl rfl)
theorem dX5_soldShare_40 : decode cX5_soldShare 40 = .ok (.fdiv, 1) := dk_110 (dk_at dksX5_soldShare_1 17 rfl rfl)
theorem dX5_soldShare_41 : decode cX5_soldShare 41 = .ok (.freturn, 1) := dk_174 (dk_at dksX5_soldShare_1 18 rfl rfl)
abbrev cX5_append : ByteArray := prog_18_method_71_code
def yX5_append : MethodName := ⟨RX5, "append", "(I)I"⟩
def dkwX5_append_6 : List UInt8 := [167, 255, 211, 42, 180, 0, 216, 172]
abbrev dktX5_append_6 : List UInt8 := dkwX5_append_6 ++ []
def dkwX5_append_5 : List UInt8 := [42, 180, 0, 25, 42, 180, 0, 216, 21, 4, 79, 42, 89, 180, 0, 216, 4, 96, 181, 0, 216, 132, 3, 248]
abbrev dktX5_append_5 : List UInt8 := dkwX5_append_5 ++ dktX5_append_6
def dkwX5_append_4 : List UInt8 := [16, 24, 62, 29, 155, 0, 47, 27, 29, 124, 17, 0, 255, 126, 54, 4, 21, 4, 154, 0, 6, 167, 0, 24]
abbrev dktX5_append_4 : List UInt8 := dkwX5_append_4 ++ dktX5_append_5
def dkwX5_append_3 : List UInt8 := [180, 0, 216, 28, 96, 16, 60, 164, 0, 7, 5, 167, 0, 4, 3, 182, 0, 73, 153, 0, 5, 3, 172]
abbrev dktX5_append_3 : List UInt8 := dkwX5_append_3 ++ dktX5_append_4
def dkwX5_append_2 : List UInt8 := [172, 28, 21, 4, 154, 0, 7, 3, 167, 0, 4, 4, 96, 61, 132, 3, 248, 167, 255, 196, 42, 42]
abbrev dktX5_append_2 : List UInt8 := dkwX5_append_2 ++ dktX5_append_3
def dkwX5_append_1 : List UInt8 := [21, 4, 16, 32, 16, 126, 184, 0, 65, 153, 0, 7, 3, 167, 0, 4, 4, 182, 0, 73, 153, 0, 5, 3]
abbrev dktX5_append_1 : List UInt8 := dkwX5_append_1 ++ dktX5_append_2
def dkwX5_append_0 : List UInt8 := [3, 61, 16, 24, 62, 29, 155, 0, 62, 27, 29, 124, 17, 0, 255, 126, 54, 4, 42, 21, 4, 153, 0, 15]
abbrev dktX5_append_0 : List UInt8 := dkwX5_append_0 ++ dktX5_append_1
theorem dksX5_append_0 : cX5_append.data.toList.drop 0 = dktX5_append_0 := by decide +kernel
theorem dksX5_append_1 : cX5_append.data.toList.drop 24 = dktX5_append_1 := dk_seg dksX5_append_0 24 rfl rfl
theorem dksX5_append_2 : cX5_append.data.toList.drop 48 = dktX5_append_2 := dk_seg dksX5_append_1 24 rfl rfl
theorem dksX5_append_3 : cX5_append.data.toList.drop 70 = dktX5_append_3 := dk_seg dksX5_append_2 22 rfl rfl
theorem dksX5_append_4 : cX5_append.data.toList.drop 93 = dktX5_append_4 := dk_seg dksX5_append_3 23 rfl rfl
theorem dksX5_append_5 : cX5_append.data.toList.drop 117 = dktX5_append_5 := dk_seg dksX5_append_4 24 rfl rfl
theorem dksX5_append_6 : cX5_append.data.toList.drop 141 = dktX5_append_6 := dk_seg dksX5_append_5 24 rfl rfl
theorem dX5_append_0 : decode cX5_append 0 = .ok (.iconst 0, 1) := dk_3 (dk_at dksX5_append_0 0 rfl rfl)
theorem dX5_append_1 : decode cX5_append 1 = .ok (.istore_n 2, 1) := dk_61 (dk_at dksX5_append_0 1 rfl rfl)
theorem dX5_append_2 : decode cX5_append 2 = .ok (.bipush 24, 2) := dk_16 24 (dk_at dksX5_append_0 2 rfl rfl)
theorem dX5_append_4 : decode cX5_append 4 = .ok (.istore_n 3, 1) := dk_62 (dk_at dksX5_append_0 4 rfl rfl)
theorem dX5_append_5 : decode cX5_append 5 = .ok (.iload_n 3, 1) := dk_29 (dk_at dksX5_append_0 5 rfl rfl)
theorem dX5_append_6 : decode cX5_append 6 = .ok (.ifCond .lt 62, 3) := dk_155 0 62 (dk_at dksX5_append_0 6 rfl rfl)
theorem dX5_append_9 : decode cX5_append 9 = .ok (.iload_n 1, 1) := dk_27 (dk_at dksX5_append_0 9 rfl rfl)
theorem dX5_append_10 : decode cX5_append 10 = .ok (.iload_n 3, 1) := dk_29 (dk_at dksX5_append_0 10 rfl rfl)
theorem dX5_append_11 : decode cX5_append 11 = .ok (.iushr, 1) := dk_124 (dk_at dksX5_append_0 11 rfl rfl)
theorem dX5_append_12 : decode cX5_append 12 = .ok (.sipush 255, 3) := dk_17 0 255 (dk_at dksX5_append_0 12 rfl rfl)
theorem dX5_append_15 : decode cX5_append 15 = .ok (.iand, 1) := dk_126 (dk_at dksX5_append_0 15 rfl rfl)
theorem dX5_append_16 : decode cX5_append 16 = .ok (.istore 4, 2) := dk_54 4 (dk_at dksX5_append_0 16 rfl rfl)
theorem dX5_append_18 : decode cX5_append 18 = .ok (.aload_n 0, 1) := dk_42 (dk_at dksX5_append_0 18 rfl rfl)
theorem dX5_append_19 : decode cX5_append 19 = .ok (.iload 4, 2) := dk_21 4 (dk_at dksX5_append_0 19 rfl rfl)
theorem dX5_append_21 : decode cX5_append 21 = .ok (.ifCond .eq 15, 3) := dk_153 0 15 (dk_at dksX5_append_0 21 rfl rfl)
theorem dX5_append_24 : decode cX5_append 24 = .ok (.iload 4, 2) := dk_21 4 (dk_at dksX5_append_1 0 rfl rfl)
theorem dX5_append_26 : decode cX5_append 26 = .ok (.bipush 32, 2) := dk_16 32 (dk_at dksX5_append_1 2 rfl rfl)
theorem dX5_append_28 : decode cX5_append 28 = .ok (.bipush 126, 2) := dk_16 126 (dk_at dksX5_append_1 4 rfl rfl)
theorem dX5_append_30 : decode cX5_append 30 = .ok (.invokestatic 65, 3) := dk_184 0 65 (dk_at dksX5_append_1 6 rfl rfl)
theorem dX5_append_33 : decode cX5_append 33 = .ok (.ifCond .eq 7, 3) := dk_153 0 7 (dk_at dksX5_append_1 9 rfl rfl)
theorem dX5_append_36 : decode cX5_append 36 = .ok (.iconst 0, 1) := dk_3 (dk_at dksX5_append_1 12 rfl rfl)
theorem dX5_append_37 : decode cX5_append 37 = .ok (.goto 4, 3) := dk_167 0 4 (dk_at dksX5_append_1 13 rfl rfl)
theorem dX5_append_40 : decode cX5_append 40 = .ok (.iconst 1, 1) := dk_4 (dk_at dksX5_append_1 16 rfl rfl)
theorem dX5_append_41 : decode cX5_append 41 = .ok (.invokevirtual 73, 3) := dk_182 0 73 (dk_at dksX5_append_1 17 rfl rfl)
theorem dX5_append_44 : decode cX5_append 44 = .ok (.ifCond .eq 5, 3) := dk_153 0 5 (dk_at dksX5_append_1 20 rfl rfl)
theorem dX5_append_47 : decode cX5_append 47 = .ok (.iconst 0, 1) := dk_3 (dk_at dksX5_append_1 23 rfl rfl)
theorem dX5_append_48 : decode cX5_append 48 = .ok (.ireturn, 1) := dk_172 (dk_at dksX5_append_2 0 rfl rfl)
theorem dX5_append_49 : decode cX5_append 49 = .ok (.iload_n 2, 1) := dk_28 (dk_at dksX5_append_2 1 rfl rfl)
theorem dX5_append_50 : decode cX5_append 50 = .ok (.iload 4, 2) := dk_21 4 (dk_at dksX5_append_2 2 rfl rfl)
theorem dX5_append_52 : decode cX5_append 52 = .ok (.ifCond .ne 7, 3) := dk_154 0 7 (dk_at dksX5_append_2 4 rfl rfl)
theorem dX5_append_55 : decode cX5_append 55 = .ok (.iconst 0, 1) := dk_3 (dk_at dksX5_append_2 7 rfl rfl)
theorem dX5_append_56 : decode cX5_append 56 = .ok (.goto 4, 3) := dk_167 0 4 (dk_at dksX5_append_2 8 rfl rfl)
theorem dX5_append_59 : decode cX5_append 59 = .ok (.iconst 1, 1) := dk_4 (dk_at dksX5_append_2 11 rfl rfl)
theorem dX5_append_60 : decode cX5_append 60 = .ok (.iadd, 1) := dk_96 (dk_at dksX5_append_2 12 rfl rfl)
theorem dX5_append_61 : decode cX5_append 61 = .ok (.istore_n 2, 1) := dk_61 (dk_at dksX5_append_2 13 rfl rfl)
theorem dX5_append_62 : decode cX5_append 62 = .ok (.iinc 3 (-8), 3) := dk_132 3 248 (dk_at dksX5_append_2 14 rfl rfl)
theorem dX5_append_65 : decode cX5_append 65 = .ok (.goto (-60), 3) := dk_167 255 196 (dk_at dksX5_append_2 17 rfl rfl)
theorem dX5_append_68 : decode cX5_append 68 = .ok (.aload_n 0, 1) := dk_42 (dk_at dksX5_append_2 20 rfl rfl)
theorem dX5_append_69 : decode cX5_append 69 = .ok (.aload_n 0, 1) := dk_42 (dk_at dksX5_append_2 21 rfl rfl)
theorem dX5_append_70 : decode cX5_append 70 = .ok (.getfield 216, 3) := dk_180 0 216 (dk_at dksX5_append_3 0 rfl rfl)
theorem dX5_append_73 : decode cX5_append 73 = .ok (.iload_n 2, 1) := dk_28 (dk_at dksX5_append_3 3 rfl rfl)
theorem dX5_append_74 : decode cX5_append 74 = .ok (.iadd, 1) := dk_96 (dk_at dksX5_append_3 4 rfl rfl)
theorem dX5_append_75 : decode cX5_append 75 = .ok (.bipush 60, 2) := dk_16 60 (dk_at dksX5_append_3 5 rfl rfl)
theorem dX5_append_77 : decode cX5_append 77 = .ok (.if_icmp .le 7, 3) := dk_164 0 7 (dk_at dksX5_append_3 7 rfl rfl)
theorem dX5_append_80 : decode cX5_append 80 = .ok (.iconst 2, 1) := dk_5 (dk_at dksX5_append_3 10 rfl rfl)
theorem dX5_append_81 : decode cX5_append 81 = .ok (.goto 4, 3) := dk_167 0 4 (dk_at dksX5_append_3 11 rfl rfl)
theorem dX5_append_84 : decode cX5_append 84 = .ok (.iconst 0, 1) := dk_3 (dk_at dksX5_append_3 14 rfl rfl)
theorem dX5_append_85 : decode cX5_append 85 = .ok (.invokevirtual 73, 3) := dk_182 0 73 (dk_at dksX5_append_3 15 rfl rfl)
theorem dX5_append_88 : decode cX5_append 88 = .ok (.ifCond .eq 5, 3) := dk_153 0 5 (dk_at dksX5_append_3 18 rfl rfl)
theorem dX5_append_91 : decode cX5_append 91 = .ok (.iconst 0, 1) := dk_3 (dk_at dksX5_append_3 21 rfl rfl)
theorem dX5_append_92 : decode cX5_append 92 = .ok (.ireturn, 1) := dk_172 (dk_at dksX5_append_3 22 rfl rfl)
theorem dX5_append_93 : decode cX5_append 93 = .ok (.bipush 24, 2) := dk_16 24 (dk_at dksX5_append_4 0 rfl rfl)
theorem dX5_append_95 : decode cX5_append 95 = .ok (.istore_n 3, 1) := dk_62 (dk_at dksX5_append_4 2 rfl rfl)
theorem dX5_append_96 : decode cX5_append 96 = .ok (.iload_n 3, 1) := dk_29 (dk_at dksX5_append_4 3 rfl rfl)
theorem dX5_append_97 : decode cX5_append 97 = .ok (.ifCond .lt 47, 3) := dk_155 0 47 (dk_at dksX5_append_4 4 rfl rfl)
theorem dX5_append_100 : decode cX5_append 100 = .ok (.iload_n 1, 1) := dk_27 (dk_at dksX5_append_4 7 rfl rfl)
theorem dX5_append_101 : decode cX5_append 101 = .ok (.iload_n 3, 1) := dk_29 (dk_at dksX5_append_4 8 rfl rfl)
theorem dX5_append_102 : decode cX5_append 102 = .ok (.iushr, 1) := dk_124 (dk_at dksX5_append_4 9 rfl rfl)
theorem dX5_append_103 : decode cX5_append 103 = .ok (.sipush 255, 3) := dk_17 0 255 (dk_at dksX5_append_4 10 rfl rfl)
theorem dX5_append_106 : decode cX5_append 106 = .ok (.iand, 1) := dk_126 (dk_at dksX5_append_4 13 rfl rfl)
theorem dX5_append_107 : decode cX5_append 107 = .ok (.istore 4, 2) := dk_54 4 (dk_at dksX5_append_4 14 rfl rfl)
theorem dX5_append_109 : decode cX5_append 109 = .ok (.iload 4, 2) := dk_21 4 (dk_at dksX5_append_4 16 rfl rfl)
theorem dX5_append_111 : decode cX5_append 111 = .ok (.ifCond .ne 6, 3) := dk_154 0 6 (dk_at dksX5_append_4 18 rfl rfl)
theorem dX5_append_114 : decode cX5_append 114 = .ok (.goto 24, 3) := dk_167 0 24 (dk_at dksX5_append_4 21 rfl rfl)
theorem dX5_append_117 : decode cX5_append 117 = .ok (.aload_n 0, 1) := dk_42 (dk_at dksX5_append_5 0 rfl rfl)
theorem dX5_append_118 : decode cX5_append 118 = .ok (.getfield 25, 3) := dk_180 0 25 (dk_at dksX5_append_5 1 rfl rfl)
theorem dX5_append_121 : decode cX5_append 121 = .ok (.aload_n 0, 1) := dk_42 (dk_at dksX5_append_5 4 rfl rfl)
theorem dX5_append_122 : decode cX5_append 122 = .ok (.getfield 216, 3) := dk_180 0 216 (dk_at dksX5_append_5 5 rfl rfl)
theorem dX5_append_125 : decode cX5_append 125 = .ok (.iload 4, 2) := dk_21 4 (dk_at dksX5_append_5 8 rfl rfl)
theorem dX5_append_127 : decode cX5_append 127 = .ok (.iastore, 1) := dk_79 (dk_at dksX5_append_5 10 rfl rfl)
theorem dX5_append_128 : decode cX5_append 128 = .ok (.aload_n 0, 1) := dk_42 (dk_at dksX5_append_5 11 rfl rfl)
theorem dX5_append_129 : decode cX5_append 129 = .ok (.dup, 1) := dk_89 (dk_at dksX5_append_5 12 rfl rfl)
theorem dX5_append_130 : decode cX5_append 130 = .ok (.getfield 216, 3) := dk_180 0 216 (dk_at dksX5_append_5 13 rfl rfl)
theorem dX5_append_133 : decode cX5_append 133 = .ok (.iconst 1, 1) := dk_4 (dk_at dksX5_append_5 16 rfl rfl)
theorem dX5_append_134 : decode cX5_append 134 = .ok (.iadd, 1) := dk_96 (dk_at dksX5_append_5 17 rfl rfl)
theorem dX5_append_135 : decode cX5_append 135 = .ok (.putfield 216, 3) := dk_181 0 216 (dk_at dksX5_append_5 18 rfl rfl)
theorem dX5_append_138 : decode cX5_append 138 = .ok (.iinc 3 (-8), 3) := dk_132 3 248 (dk_at dksX5_append_5 21 rfl rfl)
theorem dX5_append_141 : decode cX5_append 141 = .ok (.goto (-45), 3) := dk_167 255 211 (dk_at dksX5_append_6 0 rfl rfl)
theorem dX5_append_144 : decode cX5_append 144 = .ok (.aload_n 0, 1) := dk_42 (dk_at dksX5_append_6 3 rfl rfl)
theorem dX5_append_145 : decode cX5_append 145 = .ok (.getfield 216, 3) := dk_180 0 216 (dk_at dksX5_append_6 4 rfl rfl)
theorem dX5_append_148 : decode cX5_append 148 = .ok (.ireturn, 1) := dk_172 (dk_at dksX5_append_6 7 rfl rfl)
abbrev cX5_read : ByteArray := prog_18_method_80_code
def yX5_read : MethodName := ⟨RX5, "read", "()I"⟩
def dkwX5_read_6 : List UInt8 := [180, 0, 19, 182, 0, 81, 42, 180, 0, 247, 172]
abbrev dktX5_read_6 : List UInt8 := dkwX5_read_6 ++ []
def dkwX5_read_5 : List UInt8 := [28, 4, 100, 181, 0, 32, 42, 5, 181, 0, 45, 29, 158, 0, 7, 3, 167, 0, 4, 29, 172, 42, 42]
abbrev dktX5_read_5 : List UInt8 := dkwX5_read_5 ++ dktX5_read_6
def dkwX5_read_4 : List UInt8 := [181, 0, 54, 42, 180, 0, 45, 158, 0, 38, 42, 180, 0, 19, 3, 42, 180, 0, 7, 3, 184, 0, 61, 42]
abbrev dktX5_read_4 : List UInt8 := dkwX5_read_4 ++ dktX5_read_5
def dkwX5_read_3 : List UInt8 := [42, 180, 0, 45, 154, 0, 17, 42, 8, 28, 104, 182, 1, 23, 62, 132, 2, 1, 167, 255, 230, 42, 3]
abbrev dktX5_read_3 : List UInt8 := dkwX5_read_3 ++ dktX5_read_4
def dkwX5_read_2 : List UInt8 := [180, 0, 19, 3, 184, 0, 61, 42, 4, 181, 0, 54, 3, 61, 3, 62, 28, 42, 180, 0, 247, 162, 0, 24]
abbrev dktX5_read_2 : List UInt8 := dkwX5_read_2 ++ dktX5_read_3
def dkwX5_read_1 : List UInt8 := [153, 0, 7, 3, 167, 0, 4, 4, 182, 0, 73, 153, 0, 5, 3, 172, 42, 180, 0, 7, 3, 42]
abbrev dktX5_read_1 : List UInt8 := dkwX5_read_1 ++ dktX5_read_2
def dkwX5_read_0 : List UInt8 := [42, 182, 1, 20, 60, 27, 154, 0, 11, 42, 42, 180, 0, 218, 181, 0, 28, 42, 3, 181, 0, 216, 42, 27]
abbrev dktX5_read_0 : List UInt8 := dkwX5_read_0 ++ dktX5_read_1
theorem dksX5_read_0 : cX5_read.data.toList.drop 0 = dktX5_read_0 := by decide +kernel
theorem dksX5_read_1 : cX5_read.data.toList.drop 24 = dktX5_read_1 := dk_seg dksX5_read_0 24 rfl rfl
theorem dksX5_read_2 : cX5_read.data.toList.drop 46 = dktX5_read_2 := dk_seg dksX5_read_1 22 rfl rfl
theorem dksX5_read_3 : cX5_read.data.toList.drop 70 = dktX5_read_3 := dk_seg dksX5_read_2 24 rfl rfl
theorem dksX5_read_4 : cX5_read.data.toList.drop 93 = dktX5_read_4 := dk_seg dksX5_read_3 23 rfl rfl
theorem dksX5_read_5 : cX5_read.data.toList.drop 117 = dktX5_read_5 := dk_seg dksX5_read_4 24 rfl rfl
theorem dksX5_read_6 : cX5_read.data.toList.drop 140 = dktX5_read_6 := dk_seg dksX5_read_5 23 rfl rfl
theorem dX5_read_0 : decode cX5_read 0 = .ok (.aload_n 0, 1) := dk_42 (dk_at dksX5_read_0 0 rfl rfl)
theorem dX5_read_1 : decode cX5_read 1 = .ok (.invokevirtual 276, 3) := dk_182 1 20 (dk_at dksX5_read_0 1 rfl rfl)
theorem dX5_read_4 : decode cX5_read 4 = .ok (.istore_n 1, 1) := dk_60 (dk_at dksX5_read_0 4 rfl rfl)
theorem dX5_read_5 : decode cX5_read 5 = .ok (.iload_n 1, 1) := dk_27 (dk_at dksX5_read_0 5 rfl rfl)
theorem dX5_read_6 : decode cX5_read 6 = .ok (.ifCond .ne 11, 3) := dk_154 0 11 (dk_at dksX5_read_0 6 rfl rfl)
theorem dX5_read_9 : decode cX5_read 9 = .ok (.aload_n 0, 1) := dk_42 (dk_at dksX5_read_0 9 rfl rfl)
theorem dX5_read_10 : decode cX5_read 10 = .ok (.aload_n 0, 1) := dk_42 (dk_at dksX5_read_0 10 rfl rfl)
theorem dX5_read_11 : decode cX5_read 11 = .ok (.getfield 218, 3) := dk_180 0 218 (dk_at dksX5_read_0 11 rfl rfl)
theorem dX5_read_14 : decode cX5_read 14 = .ok (.putfield 28, 3) := dk_181 0 28 (dk_at dksX5_read_0 14 rfl rfl)
theorem dX5_read_17 : decode cX5_read 17 = .ok (.aload_n 0, 1) := dk_42 (dk_at dksX5_read_0 17 rfl rfl)
theorem dX5_read_18 : decode cX5_read 18 = .ok (.iconst 0, 1) := dk_3 (dk_at dksX5_read_0 18 rfl rfl)
theorem dX5_read_19 : decode cX5_read 19 = .ok (.putfield 216, 3) := dk_181 0 216 (dk_at dksX5_read_0 19 rfl rfl)
theorem dX5_read_22 : decode cX5_read 22 = .ok (.aload_n 0, 1) := dk_42 (dk_at dksX5_read_0 22 rfl rfl)
theorem dX5_read_23 : decode cX5_read 23 = .ok (.iload_n 1, 1) := dk_27 (dk_at dksX5_read_0 23 rfl rfl)
theorem dX5_read_24 : decode cX5_read 24 = .ok (.ifCond .eq 7, 3) := dk_153 0 7 (dk_at dksX5_read_1 0 rfl rfl)
theorem dX5_read_27 : decode cX5_read 27 = .ok (.iconst 0, 1) := dk_3 (dk_at dksX5_read_1 3 rfl rfl)
theorem dX5_read_28 : decode cX5_read 28 = .ok (.goto 4, 3) := dk_167 0 4 (dk_at dksX5_read_1 4 rfl rfl)
theorem dX5_read_31 : decode cX5_read 31 = .ok (.iconst 1, 1) := dk_4 (dk_at dksX5_read_1 7 rfl rfl)
theorem dX5_read_32 : decode cX5_read 32 = .ok (.invokevirtual 73, 3) := dk_182 0 73 (dk_at dksX5_read_1 8 rfl rfl)
theorem dX5_read_35 : decode cX5_read 35 = .ok (.ifCond .eq 5, 3) := dk_153 0 5 (dk_at dksX5_read_1 11 rfl rfl)
theorem dX5_read_38 : decode cX5_read 38 = .ok (.iconst 0, 1) := dk_3 (dk_at dksX5_read_1 14 rfl rfl)
theorem dX5_read_39 : decode cX5_read 39 = .ok (.ireturn, 1) := dk_172 (dk_at dksX5_read_1 15 rfl rfl)
theorem dX5_read_40 : decode cX5_read 40 = .ok (.aload_n 0, 1) := dk_42 (dk_at dksX5_read_1 16 rfl rfl)
theorem dX5_read_41 : decode cX5_read 41 = .ok (.getfield 7, 3) := dk_180 0 7 (dk_at dksX5_read_1 17 rfl rfl)
theorem dX5_read_44 : decode cX5_read 44 = .ok (.iconst 0, 1) := dk_3 (dk_at dksX5_read_1 20 rfl rfl)
theorem dX5_read_45 : decode cX5_read 45 = .ok (.aload_n 0, 1) := dk_42 (dk_at dksX5_read_1 21 rfl rfl)
theorem dX5_read_46 : decode cX5_read 46 = .ok (.getfield 19, 3) := dk_180 0 19 (dk_at dksX5_read_2 0 rfl rfl)
theorem dX5_read_49 : decode cX5_read 49 = .ok (.iconst 0, 1) := dk_3 (dk_at dksX5_read_2 3 rfl rfl)
theorem dX5_read_50 : decode cX5_read 50 = .ok (.invokestatic 61, 3) := dk_184 0 61 (dk_at dksX5_read_2 4 rfl rfl)
theorem dX5_read_53 : decode cX5_read 53 = .ok (.aload_n 0, 1) := dk_42 (dk_at dksX5_read_2 7 rfl rfl)
theorem dX5_read_54 : decode cX5_read 54 = .ok (.iconst 1, 1) := dk_4 (dk_at dksX5_read_2 8 rfl rfl)
theorem dX5_read_55 : decode cX5_read 55 = .ok (.putfield 54, 3) := dk_181 0 54 (dk_at dksX5_read_2 9 rfl rfl)
theorem dX5_read_58 : decode cX5_read 58 = .ok (.iconst 0, 1) := dk_3 (dk_at dksX5_read_2 12 rfl rfl)
theorem dX5_read_59 : decode cX5_read 59 = .ok (.istore_n 2, 1) := dk_61 (dk_at dksX5_read_2 13 rfl rfl)
theorem dX5_read_60 : decode cX5_read 60 = .ok (.iconst 0, 1) := dk_3 (dk_at dksX5_read_2 14 rfl rfl)
theorem dX5_read_61 : decode cX5_read 61 = .ok (.istore_n 3, 1) := dk_62 (dk_at dksX5_read_2 15 rfl rfl)
theorem dX5_read_62 : decode cX5_read 62 = .ok (.iload_n 2, 1) := dk_28 (dk_at dksX5_read_2 16 rfl rfl)
theorem dX5_read_63 : decode cX5_read 63 = .ok (.aload_n 0, 1) := dk_42 (dk_at dksX5_read_2 17 rfl rfl)
theorem dX5_read_64 : decode cX5_read 64 = .ok (.getfield 247, 3) := dk_180 0 247 (dk_at dksX5_read_2 18 rfl rfl)
theorem dX5_read_67 : decode cX5_read 67 = .ok (.if_icmp .ge 24, 3) := dk_162 0 24 (dk_at dksX5_read_2 21 rfl rfl)
theorem dX5_read_70 : decode cX5_read 70 = .ok (.aload_n 0, 1) := dk_42 (dk_at dksX5_read_3 0 rfl rfl)
theorem dX5_read_71 : decode cX5_read 71 = .ok (.getfield 45, 3) := dk_180 0 45 (dk_at dksX5_read_3 1 rfl rfl)
theorem dX5_read_74 : decode cX5_read 74 = .ok (.ifCond .ne 17, 3) := dk_154 0 17 (dk_at dksX5_read_3 4 rfl rfl)
theorem dX5_read_77 : decode cX5_read 77 = .ok (.aload_n 0, 1) := dk_42 (dk_at dksX5_read_3 7 rfl rfl)
theorem dX5_read_78 : decode cX5_read 78 = .ok (.iconst 5, 1) := dk_8 (dk_at dksX5_read_3 8 rfl rfl)
theorem dX5_read_79 : decode cX5_read 79 = .ok (.iload_n 2, 1) := dk_28 (dk_at dksX5_read_3 9 rfl rfl)
theorem dX5_read_80 : decode cX5_read 80 = .ok (.imul, 1) := dk_104 (dk_at dksX5_read_3 10 rfl rfl)
theorem dX5_read_81 : decode cX5_read 81 = .ok (.invokevirtual 279, 3) := dk_182 1 23 (dk_at dksX5_read_3 11 rfl rfl)
theorem dX5_read_84 : decode cX5_read 84 = .ok (.istore_n 3, 1) := dk_62 (dk_at dksX5_read_3 14 rfl rfl)
theorem dX5_read_85 : decode cX5_read 85 = .ok (.iinc 2 1, 3) := dk_132 2 1 (dk_at dksX5_read_3 15 rfl rfl)
theorem dX5_read_88 : decode cX5_read 88 = .ok (.goto (-26), 3) := dk_167 255 230 (dk_at dksX5_read_3 18 rfl rfl)
theorem dX5_read_91 : decode cX5_read 91 = .ok (.aload_n 0, 1) := dk_42 (dk_at dksX5_read_3 21 rfl rfl)
theorem dX5_read_92 : decode cX5_read 92 = .ok (.iconst 0, 1) := dk_3 (dk_at dksX5_read_3 22 rfl rfl)
theorem dX5_read_93 : decode cX5_read 93 = .ok (.putfield 54, 3) := dk_181 0 54 (dk_at dksX5_read_4 0 rfl rfl)
theorem dX5_read_96 : decode cX5_read 96 = .ok (.aload_n 0, 1) := dk_42 (dk_at dksX5_read_4 3 rfl rfl)
theorem dX5_read_97 : decode cX5_read 97 = .ok (.getfield 45, 3) := dk_180 0 45 (dk_at dksX5_read_4 4 rfl rfl)
theorem dX5_read_100 : decode cX5_read 100 = .ok (.ifCond .le 38, 3) := dk_158 0 38 (dk_at dksX5_read_4 7 rfl rfl)
theorem dX5_read_103 : decode cX5_read 103 = .ok (.aload_n 0, 1) := dk_42 (dk_at dksX5_read_4 10 rfl rfl)
theorem dX5_read_104 : decode cX5_read 104 = .ok (.getfield 19, 3) := dk_180 0 19 (dk_at dksX5_read_4 11 rfl rfl)
theorem dX5_read_107 : decode cX5_read 107 = .ok (.iconst 0, 1) := dk_3 (dk_at dksX5_read_4 14 rfl rfl)
theorem dX5_read_108 : decode cX5_read 108 = .ok (.aload_n 0, 1) := dk_42 (dk_at dksX5_read_4 15 rfl rfl)
theorem dX5_read_109 : decode cX5_read 109 = .ok (.getfield 7, 3) := dk_180 0 7 (dk_at dksX5_read_4 16 rfl rfl)
theorem dX5_read_112 : decode cX5_read 112 = .ok (.iconst 0, 1) := dk_3 (dk_at dksX5_read_4 19 rfl rfl)
theorem dX5_read_113 : decode cX5_read 113 = .ok (.invokestatic 61, 3) := dk_184 0 61 (dk_at dksX5_read_4 20 rfl rfl)
theorem dX5_read_116 : decode cX5_read 116 = .ok (.aload_n 0, 1) := dk_42 (dk_at dksX5_read_4 23 rfl rfl)
theorem dX5_read_117 : decode cX5_read 117 = .ok (.iload_n 2, 1) := dk_28 (dk_at dksX5_read_5 0 rfl rfl)
theorem dX5_read_118 : decode cX5_read 118 = .ok (.iconst 1, 1) := dk_4 (dk_at dksX5_read_5 1 rfl rfl)
theorem dX5_read_119 : decode cX5_read 119 = .ok (.isub, 1) := dk_100 (dk_at dksX5_read_5 2 rfl rfl)
theorem dX5_read_120 : decode cX5_read 120 = .ok (.putfield 32, 3) := dk_181 0 32 (dk_at dksX5_read_5 3 rfl rfl)
theorem dX5_read_123 : decode cX5_read 123 = .ok (.aload_n 0, 1) := dk_42 (dk_at dksX5_read_5 6 rfl rfl)
theorem dX5_read_124 : decode cX5_read 124 = .ok (.iconst 2, 1) := dk_5 (dk_at dksX5_read_5 7 rfl rfl)
theorem dX5_read_125 : decode cX5_read 125 = .ok (.putfield 45, 3) := dk_181 0 45 (dk_at dksX5_read_5 8 rfl rfl)
theorem dX5_read_128 : decode cX5_read 128 = .ok (.iload_n 3, 1) := dk_29 (dk_at dksX5_read_5 11 rfl rfl)
theorem dX5_read_129 : decode cX5_read 129 = .ok (.ifCond .le 7, 3) := dk_158 0 7 (dk_at dksX5_read_5 12 rfl rfl)
theorem dX5_read_132 : decode cX5_read 132 = .ok (.iconst 0, 1) := dk_3 (dk_at dksX5_read_5 15 rfl rfl)
theorem dX5_read_133 : decode cX5_read 133 = .ok (.goto 4, 3) := dk_167 0 4 (dk_at dksX5_read_5 16 rfl rfl)
theorem dX5_read_136 : decode cX5_read 136 = .ok (.iload_n 3, 1) := dk_29 (dk_at dksX5_read_5 19 rfl rfl)
theorem dX5_read_137 : decode cX5_read 137 = .ok (.ireturn, 1) := dk_172 (dk_at dksX5_read_5 20 rfl rfl)
theorem dX5_read_138 : decode cX5_read 138 = .ok (.aload_n 0, 1) := dk_42 (dk_at dksX5_read_5 21 rfl rfl)
theorem dX5_read_139 : decode cX5_read 139 = .ok (.aload_n 0, 1) := dk_42 (dk_at dksX5_read_5 22 rfl rfl)
theorem dX5_read_140 : decode cX5_read 140 = .ok (.getfield 19, 3) := dk_180 0 19 (dk_at dksX5_read_6 0 rfl rfl)
theorem dX5_read_143 : decode cX5_read 143 = .ok (.invokevirtual 81, 3) := dk_182 0 81 (dk_at dksX5_read_6 3 rfl rfl)
theorem dX5_read_146 : decode cX5_read 146 = .ok (.aload_n 0, 1) := dk_42 (dk_at dksX5_read_6 6 rfl rfl)
theorem dX5_read_147 : decode cX5_read 147 = .ok (.getfield 247, 3) := dk_180 0 247 (dk_at dksX5_read_6 7 rfl rfl)
theorem dX5_read_150 : decode cX5_read 150 = .ok (.ireturn, 1) := dk_172 (dk_at dksX5_read_6 10 rfl rfl)
abbrev cX5_isText : ByteArray := prog_18_method_78_code
def yX5_isText : MethodName := ⟨RX5, "isText", "()Z"⟩
def dkwX5_isText_2 : List UInt8 := [160, 0, 7, 4, 167, 0, 4, 3, 172]
abbrev dktX5_isText_2 : List UInt8 := dkwX5_isText_2 ++ []
def dkwX5_isText_1 : List UInt8 := [4, 96, 181, 0, 247, 42, 16, 59, 182, 0, 224, 154, 255, 231, 42, 180, 0, 218, 42, 180, 0, 216]
abbrev dktX5_isText_1 : List UInt8 := dkwX5_isText_1 ++ dktX5_isText_2
def dkwX5_isText_0 : List UInt8 := [42, 3, 181, 0, 218, 42, 3, 181, 0, 247, 42, 182, 1, 0, 154, 0, 5, 3, 172, 42, 89, 180, 0, 247]
abbrev dktX5_isText_0 : List UInt8 := dkwX5_isText_0 ++ dktX5_isText_1
theorem dksX5_isText_0 : cX5_isText.data.toList.drop 0 = dktX5_isText_0 := by decide +kernel
theorem dksX5_isText_1 : cX5_isText.data.toList.drop 24 = dktX5_isText_1 := dk_seg dksX5_isText_0 24 rfl rfl
theorem dksX5_isText_2 : cX5_isText.data.toList.drop 46 = dktX5_isText_2 := dk_seg dksX5_isText_1 22 rfl rfl
theorem dX5_isText_0 : decode cX5_isText 0 = .ok (.aload_n 0, 1) := dk_42 (dk_at dksX5_isText_0 0 rfl rfl)
theorem dX5_isText_1 : decode cX5_isText 1 = .ok (.iconst 0, 1) := dk_3 (dk_at dksX5_isText_0 1 rfl rfl)
theorem dX5_isText_2 : decode cX5_isText 2 = .ok (.putfield 218, 3) := dk_181 0 218 (dk_at dksX5_isText_0 2 rfl rfl)
theorem dX5_isText_5 : decode cX5_isText 5 = .ok (.aload_n 0, 1) := dk_42 (dk_at dksX5_isText_0 5 rfl rfl)
theorem dX5_isText_6 : decode cX5_isText 6 = .ok (.iconst 0, 1) := dk_3 (dk_at dksX5_isText_0 6 rfl rfl)
theorem dX5_isText_7 : decode cX5_isText 7 = .ok (.putfield 247, 3) := dk_181 0 247 (dk_at dksX5_isText_0 7 rfl rfl)
theorem dX5_isText_10 : decode cX5_isText 10 = .ok (.aload_n 0, 1) := dk_42 (dk_at dksX5_isText_0 10 rfl rfl)
theorem dX5_isText_11 : decode cX5_isText 11 = .ok (.invokevirtual 256, 3) := dk_182 1 0 (dk_at dksX5_isText_0 11 rfl rfl)
theorem dX5_isText_14 : decode cX5_isText 14 = .ok (.ifCond .ne 5, 3) := dk_154 0 5 (dk_at dksX5_isText_0 14 rfl rfl)
theorem dX5_isText_17 : decode cX5_isText 17 = .ok (.iconst 0, 1) := dk_3 (dk_at dksX5_isText_0 17 rfl rfl)
theorem dX5_isText_18 : decode cX5_isText 18 = .ok (.ireturn, 1) := dk_172 (dk_at dksX5_isText_0 18 rfl rfl)
theorem dX5_isText_19 : decode cX5_isText 19 = .ok (.aload_n 0, 1) := dk_42 (dk_at dksX5_isText_0 19 rfl rfl)
theorem dX5_isText_20 : decode cX5_isText 20 = .ok (.dup, 1) := dk_89 (dk_at dksX5_isText_0 20 rfl rfl)
theorem dX5_isText_21 : decode cX5_isText 21 = .ok (.getfield 247, 3) := dk_180 0 247 (dk_at dksX5_isText_0 21 rfl rfl)
theorem dX5_isText_24 : decode cX5_isText 24 = .ok (.iconst 1, 1) := dk_4 (dk_at dksX5_isText_1 0 rfl rfl)
theorem dX5_isText_25 : decode cX5_isText 25 = .ok (.iadd, 1) := dk_96 (dk_at dksX5_isText_1 1 rfl rfl)
theorem dX5_isText_26 : decode cX5_isText 26 = .ok (.putfield 247, 3) := dk_181 0 247 (dk_at dksX5_isText_1 2 rfl rfl)
theorem dX5_isText_29 : decode cX5_isText 29 = .ok (.aload_n 0, 1) := dk_42 (dk_at dksX5_isText_1 5 rfl rfl)
theorem dX5_isText_30 : decode cX5_isText 30 = .ok (.bipush 59, 2) := dk_16 59 (dk_at dksX5_isText_1 6 rfl rfl)
theorem dX5_isText_32 : decode cX5_isText 32 = .ok (.invokevirtual 224, 3) := dk_182 0 224 (dk_at dksX5_isText_1 8 rfl rfl)
theorem dX5_isText_35 : decode cX5_isText 35 = .ok (.ifCond .ne (-25), 3) := dk_154 255 231 (dk_at dksX5_isText_1 11 rfl rfl)
theorem dX5_isText_38 : decode cX5_isText 38 = .ok (.aload_n 0, 1) := dk_42 (dk_at dksX5_isText_1 14 rfl rfl)
theorem dX5_isText_39 : decode cX5_isText 39 = .ok (.getfield 218, 3) := dk_180 0 218 (dk_at dksX5_isText_1 15 rfl rfl)
theorem dX5_isText_42 : decode cX5_isText 42 = .ok (.aload_n 0, 1) := dk_42 (dk_at dksX5_isText_1 18 rfl rfl)
theorem dX5_isText_43 : decode cX5_isText 43 = .ok (.getfield 216, 3) := dk_180 0 216 (dk_at dksX5_isText_1 19 rfl rfl)
theorem dX5_isText_46 : decode cX5_isText 46 = .ok (.if_icmp .ne 7, 3) := dk_160 0 7 (dk_at dksX5_isText_2 0 rfl rfl)
theorem dX5_isText_49 : decode cX5_isText 49 = .ok (.iconst 1, 1) := dk_4 (dk_at dksX5_isText_2 3 rfl rfl)
theorem dX5_isText_50 : decode cX5_isText 50 = .ok (.goto 4, 3) := dk_167 0 4 (dk_at dksX5_isText_2 4 rfl rfl)
theorem dX5_isText_53 : decode cX5_isText 53 = .ok (.iconst 0, 1) := dk_3 (dk_at dksX5_isText_2 7 rfl rfl)
theorem dX5_isText_54 : decode cX5_isText 54 = .ok (.ireturn, 1) := dk_172 (dk_at dksX5_isText_2 8 rfl rfl)
abbrev cX5_orderHere : ByteArray := prog_18_method_77_code
def yX5_orderHere : MethodName := ⟨RX5, "orderHere", "()Z"⟩
def dkwX5_orderHere_3 : List UInt8 := [167, 0, 4, 4, 182, 0, 253, 153, 0, 7, 4, 167, 0, 4, 3, 172]
abbrev dktX5_orderHere_3 : List UInt8 := dkwX5_orderHere_3 ++ []
def dkwX5_orderHere_2 : List UInt8 := [180, 0, 39, 27, 46, 16, 109, 159, 0, 14, 42, 180, 0, 39, 27, 46, 16, 106, 160, 0, 7, 5]
abbrev dktX5_orderHere_2 : List UInt8 := dkwX5_orderHere_2 ++ dktX5_orderHere_3
def dkwX5_orderHere_1 : List UInt8 := [155, 0, 59, 42, 27, 4, 96, 42, 180, 0, 39, 27, 46, 16, 103, 160, 0, 7, 7, 167, 0, 30, 42]
abbrev dktX5_orderHere_1 : List UInt8 := dkwX5_orderHere_1 ++ dktX5_orderHere_2
def dkwX5_orderHere_0 : List UInt8 := [8, 42, 180, 0, 247, 104, 60, 42, 180, 0, 39, 27, 42, 182, 0, 250, 79, 42, 180, 0, 39, 27, 46]
abbrev dktX5_orderHere_0 : List UInt8 := dkwX5_orderHere_0 ++ dktX5_orderHere_1
theorem dksX5_orderHere_0 : cX5_orderHere.data.toList.drop 0 = dktX5_orderHere_0 := by decide +kernel
theorem dksX5_orderHere_1 : cX5_orderHere.data.toList.drop 23 = dktX5_orderHere_1 := dk_seg dksX5_orderHere_0 23 rfl rfl
theorem dksX5_orderHere_2 : cX5_orderHere.data.toList.drop 46 = dktX5_orderHere_2 := dk_seg dksX5_orderHere_1 23 rfl rfl
theorem dksX5_orderHere_3 : cX5_orderHere.data.toList.drop 68 = dktX5_orderHere_3 := dk_seg dksX5_orderHere_2 22 rfl rfl
theorem dX5_orderHere_0 : decode cX5_orderHere 0 = .ok (.iconst 5, 1) := dk_8 (dk_at dksX5_orderHere_0 0 rfl rfl)
theorem dX5_orderHere_1 : decode cX5_orderHere 1 = .ok (.aload_n 0, 1) := dk_42 (dk_at dksX5_orderHere_0 1 rfl rfl)
theorem dX5_orderHere_2 : decode cX5_orderHere 2 = .ok (.getfield 247, 3) := dk_180 0 247 (dk_at dksX5_orderHere_0 2 rfl rfl)
theorem dX5_orderHere_5 : decode cX5_orderHere 5 = .ok (.imul, 1) := dk_104 (dk_at dksX5_orderHere_0 5 rfl rfl)
theorem dX5_orderHere_6 : decode cX5_orderHere 6 = .ok (.istore_n 1, 1) := dk_60 (dk_at dksX5_orderHere_0 6 rfl rfl)
theorem dX5_orderHere_7 : decode cX5_orderHere 7 = .ok (.aload_n 0, 1) := dk_42 (dk_at dksX5_orderHere_0 7 rfl rfl)
theorem dX5_orderHere_8 : decode cX5_orderHere 8 = .ok (.getfield 39, 3) := dk_180 0 39 (dk_at dksX5_orderHere_0 8 rfl rfl)
theorem dX5_orderHere_11 : decode cX5_orderHere 11 = .ok (.iload_n 1, 1) := dk_27 (dk_at dksX5_orderHere_0 11 rfl rfl)
theorem dX5_orderHere_12 : decode cX5_orderHere 12 = .ok (.aload_n 0, 1) := dk_42 (dk_at dksX5_orderHere_0 12 rfl rfl)
theorem dX5_orderHere_13 : decode cX5_orderHere 13 = .ok (.invokevirtual 250, 3) := dk_182 0 250 (dk_at dksX5_orderHere_0 13 rfl rfl)
theorem dX5_orderHere_16 : decode cX5_orderHere 16 = .ok (.iastore, 1) := dk_79 (dk_at dksX5_orderHere_0 16 rfl rfl)
theorem dX5_orderHere_17 : decode cX5_orderHere 17 = .ok (.aload_n 0, 1) := dk_42 (dk_at dksX5_orderHere_0 17 rfl rfl)
theorem dX5_orderHere_18 : decode cX5_orderHere 18 = .ok (.getfield 39, 3) := dk_180 0 39 (dk_at dksX5_orderHere_0 18 rfl rfl)
theorem dX5_orderHere_21 : decode cX5_orderHere 21 = .ok (.iload_n 1, 1) := dk_27 (dk_at dksX5_orderHere_0 21 rfl rfl)
theorem dX5_orderHere_22 : decode cX5_orderHere 22 = .ok (.iaload, 1) := dk_46 (dk_at dksX5_orderHere_0 22 rfl rfl)
theorem dX5_orderHere_23 : decode cX5_orderHere 23 = .ok (.ifCond .lt 59, 3) := dk_155 0 59 (dk_at dksX5_orderHere_1 0 rfl rfl)
theorem dX5_orderHere_26 : decode cX5_orderHere 26 = .ok (.aload_n 0, 1) := dk_42 (dk_at dksX5_orderHere_1 3 rfl rfl)
theorem dX5_orderHere_27 : decode cX5_orderHere 27 = .ok (.iload_n 1, 1) := dk_27 (dk_at dksX5_orderHere_1 4 rfl rfl)
theorem dX5_orderHere_28 : decode cX5_orderHere 28 = .ok (.iconst 1, 1) := dk_4 (dk_at dksX5_orderHere_1 5 rfl rfl)
theorem dX5_orderHere_29 : decode cX5_orderHere 29 = .ok (.iadd, 1) := dk_96 (dk_at dksX5_orderHere_1 6 rfl rfl)
theorem dX5_orderHere_30 : decode cX5_orderHere 30 = .ok (.aload_n 0, 1) := dk_42 (dk_at dksX5_orderHere_1 7 rfl rfl)
theorem dX5_orderHere_31 : decode cX5_orderHere 31 = .ok (.getfield 39, 3) := dk_180 0 39 (dk_at dksX5_orderHere_1 8 rfl rfl)
theorem dX5_orderHere_34 : decode cX5_orderHere 34 = .ok (.iload_n 1, 1) := dk_27 (dk_at dksX5_orderHere_1 11 rfl rfl)
theorem dX5_orderHere_35 : decode cX5_orderHere 35 = .ok (.iaload, 1) := dk_46 (dk_at dksX5_orderHere_1 12 rfl rfl)
theorem dX5_orderHere_36 : decode cX5_orderHere 36 = .ok (.bipush 103, 2) := dk_16 103 (dk_at dksX5_orderHere_1 13 rfl rfl)
theorem dX5_orderHere_38 : decode cX5_orderHere 38 = .ok (.if_icmp .ne 7, 3) := dk_160 0 7 (dk_at dksX5_orderHere_1 15 rfl rfl)
theorem dX5_orderHere_41 : decode cX5_orderHere 41 = .ok (.iconst 4, 1) := dk_7 (dk_at dksX5_orderHere_1 18 rfl rfl)
theorem dX5_orderHere_42 : decode cX5_orderHere 42 = .ok (.goto 30, 3) := dk_167 0 30 (dk_at dksX5_orderHere_1 19 rfl rfl)
theorem dX5_orderHere_45 : decode cX5_orderHere 45 = .ok (.aload_n 0, 1) := dk_42 (dk_at dksX5_orderHere_1 22 rfl rfl)
theorem dX5_orderHere_46 : decode cX5_orderHere 46 = .ok (.getfield 39, 3) := dk_180 0 39 (dk_at dksX5_orderHere_2 0 rfl rfl)
theorem dX5_orderHere_49 : decode cX5_orderHere 49 = .ok (.iload_n 1, 1) := dk_27 (dk_at dksX5_orderHere_2 3 rfl rfl)
theorem dX5_orderHere_50 : decode cX5_orderHere 50 = .ok (.iaload, 1) := dk_46 (dk_at dksX5_orderHere_2 4 rfl rfl)
theorem dX5_orderHere_51 : decode cX5_orderHere 51 = .ok (.bipush 109, 2) := dk_16 109 (dk_at dksX5_orderHere_2 5 rfl rfl)
theorem dX5_orderHere_53 : decode cX5_orderHere 53 = .ok (.if_icmp .eq 14, 3) := dk_159 0 14 (dk_at dksX5_orderHere_2 7 rfl rfl)
theorem dX5_orderHere_56 : decode cX5_orderHere 56 = .ok (.aload_n 0, 1) := dk_42 (dk_at dksX5_orderHere_2 10 rfl rfl)
theorem dX5_orderHere_57 : decode cX5_orderHere 57 = .ok (.getfield 39, 3) := dk_180 0 39 (dk_at dksX5_orderHere_2 11 rfl rfl)
theorem dX5_orderHere_60 : decode cX5_orderHere 60 = .ok (.iload_n 1, 1) := dk_27 (dk_at dksX5_orderHere_2 14 rfl rfl)
theorem dX5_orderHere_61 : decode cX5_orderHere 61 = .ok (.iaload, 1) := dk_46 (dk_at dksX5_orderHere_2 15 rfl rfl)
theorem dX5_orderHere_62 : decode cX5_orderHere 62 = .ok (.bipush 106, 2) := dk_16 106 (dk_at dksX5_orderHere_2 16 rfl rfl)
theorem dX5_orderHere_64 : decode cX5_orderHere 64 = .ok (.if_icmp .ne 7, 3) := dk_160 0 7 (dk_at dksX5_orderHere_2 18 rfl rfl)
theorem dX5_orderHere_67 : decode cX5_orderHere 67 = .ok (.iconst 2, 1) := dk_5 (dk_at dksX5_orderHere_2 21 rfl rfl)
theorem dX5_orderHere_68 : decode cX5_orderHere 68 = .ok (.goto 4, 3) := dk_167 0 4 (dk_at dksX5_orderHere_3 0 rfl rfl)
theorem dX5_orderHere_71 : decode cX5_orderHere 71 = .ok (.iconst 1, 1) := dk_4 (dk_at dksX5_orderHere_3 3 rfl rfl)
theorem dX5_orderHere_72 : decode cX5_orderHere 72 = .ok (.invokevirtual 253, 3) := dk_182 0 253 (dk_at dksX5_orderHere_3 4 rfl rfl)
theorem dX5_orderHere_75 : decode cX5_orderHere 75 = .ok (.ifCond .eq 7, 3) := dk_153 0 7 (dk_at dksX5_orderHere_3 7 rfl rfl)
theorem dX5_orderHere_78 : decode cX5_orderHere 78 = .ok (.iconst 1, 1) := dk_4 (dk_at dksX5_orderHere_3 10 rfl rfl)
theorem dX5_orderHere_79 : decode cX5_orderHere 79 = .ok (.goto 4, 3) := dk_167 0 4 (dk_at dksX5_orderHere_3 11 rfl rfl)
theorem dX5_orderHere_82 : decode cX5_orderHere 82 = .ok (.iconst 0, 1) := dk_3 (dk_at dksX5_orderHere_3 14 rfl rfl)
theorem dX5_orderHere_83 : decode cX5_orderHere 83 = .ok (.ireturn, 1) := dk_172 (dk_at dksX5_orderHere_3 15 rfl rfl)
abbrev cX5_wordHere : ByteArray := prog_18_method_76_code
def yX5_wordHere : MethodName := ⟨RX5, "wordHere", "()I"⟩
def dkwX5_wordHere_9 : List UInt8 := [2, 172]
abbrev dktX5_wordHere_9 : List UInt8 := dkwX5_wordHere_9 ++ []
def dkwX5_wordHere_8 : List UInt8 := [16, 101, 167, 0, 23, 2, 167, 0, 19, 42, 18, 245, 5, 182, 0, 229, 153, 0, 8, 16, 118, 167, 0, 4]
abbrev dktX5_wordHere_8 : List UInt8 := dkwX5_wordHere_8 ++ dktX5_wordHere_9
def dkwX5_wordHere_7 : List UInt8 := [154, 0, 5, 2, 172, 42, 16, 108, 182, 0, 224, 153, 0, 22, 42, 18, 243, 6, 182, 0, 229, 153, 0, 8]
abbrev dktX5_wordHere_7 : List UInt8 := dkwX5_wordHere_7 ++ dktX5_wordHere_8
def dkwX5_wordHere_6 : List UInt8 := [153, 0, 8, 16, 114, 167, 0, 4, 2, 172, 167, 0, 5, 2, 172, 42, 18, 241, 3, 182, 0, 229]
abbrev dktX5_wordHere_6 : List UInt8 := dkwX5_wordHere_6 ++ dktX5_wordHere_7
def dkwX5_wordHere_5 : List UInt8 := [18, 201, 3, 182, 0, 229, 153, 0, 8, 16, 111, 167, 0, 4, 2, 172, 42, 18, 239, 3, 182, 0, 229]
abbrev dktX5_wordHere_5 : List UInt8 := dkwX5_wordHere_5 ++ dktX5_wordHere_6
def dkwX5_wordHere_4 : List UInt8 := [167, 0, 4, 2, 172, 42, 18, 237, 3, 182, 0, 229, 153, 0, 8, 16, 106, 167, 0, 4, 2, 172, 42]
abbrev dktX5_wordHere_4 : List UInt8 := dkwX5_wordHere_4 ++ dktX5_wordHere_5
def dkwX5_wordHere_3 : List UInt8 := [153, 0, 8, 16, 100, 167, 0, 4, 2, 172, 42, 18, 235, 3, 182, 0, 229, 153, 0, 8, 16, 109]
abbrev dktX5_wordHere_3 : List UInt8 := dkwX5_wordHere_3 ++ dktX5_wordHere_4
def dkwX5_wordHere_2 : List UInt8 := [42, 18, 227, 3, 182, 0, 229, 153, 0, 8, 16, 103, 167, 0, 4, 2, 172, 42, 18, 233, 3, 182, 0, 229]
abbrev dktX5_wordHere_2 : List UInt8 := dkwX5_wordHere_2 ++ dktX5_wordHere_3
def dkwX5_wordHere_1 : List UInt8 := [170, 0, 0, 0, 0, 0, 0, 185, 0, 0, 0, 100, 0, 0, 0, 115, 0, 0, 0, 97, 0, 0, 0, 185, 0, 0, 0, 185, 0, 0, 0, 80, 0, 0, 0, 185, 0, 0, 0, 185, 0, 0, 0, 131, 0, 0, 0, 185, 0, 0, 0, 185, 0, 0, 0, 114, 0, 0, 0, 185, 0, 0, 0, 148, 0, 0, 0, 185, 0, 0, 0, 185, 0, 0, 0, 165, 0, 0, 0, 182]
abbrev dktX5_wordHere_1 : List UInt8 := dkwX5_wordHere_1 ++ dktX5_wordHere_2
def dkwX5_wordHere_0 : List UInt8 := [42, 182, 0, 221]
abbrev dktX5_wordHere_0 : List UInt8 := dkwX5_wordHere_0 ++ dktX5_wordHere_1
theorem dksX5_wordHere_0 : cX5_wordHere.data.toList.drop 0 = dktX5_wordHere_0 := by decide +kernel
theorem dksX5_wordHere_1 : cX5_wordHere.data.toList.drop 4 = dktX5_wordHere_1 := dk_seg dksX5_wordHere_0 4 rfl rfl
theorem dksX5_wordHere_2 : cX5_wordHere.data.toList.drop 84 = dktX5_wordHere_2 := dk_seg dksX5_wordHere_1 80 rfl rfl
theorem dksX5_wordHere_3 : cX5_wordHere.data.toList.drop 108 = dktX5_wordHere_3 := dk_seg dksX5_wordHere_2 24 rfl rfl
theorem dksX5_wordHere_4 : cX5_wordHere.data.toList.drop 130 = dktX5_wordHere_4 := dk_seg dksX5_wordHere_3 22 rfl rfl
theorem dksX5_wordHere_5 : cX5_wordHere.data.toList.drop 153 = dktX5_wordHere_5 := dk_seg dksX5_wordHere_4 23 rfl rfl
theorem dksX5_wordHere_6 : cX5_wordHere.data.toList.drop 176 = dktX5_wordHere_6 := dk_seg dksX5_wordHere_5 23 rfl rfl
theorem dksX5_wordHere_7 : cX5_wordHere.data.toList.drop 198 = dktX5_wordHere_7 := dk_seg dksX5_wordHere_6 22 rfl rfl
theorem dksX5_wordHere_8 : cX5_wordHere.data.toList.drop 222 = dktX5_wordHere_8 := dk_seg dksX5_wordHere_7 24 rfl rfl
theorem dksX5_wordHere_9 : cX5_wordHere.data.toList.drop 246 = dktX5_wordHere_9 := dk_seg dksX5_wordHere_8 24 rfl rfl
theorem dX5_wordHere_0 : decode cX5_wordHere 0 = .ok (.aload_n 0, 1) := dk_42 (dk_at dksX5_wordHere_0 0 rfl rfl)
theorem dX5_wordHere_1 : decode cX5_wordHere 1 = .ok (.invokevirtual 221, 3) := dk_182 0 221 (dk_at dksX5_wordHere_0 1 rfl rfl)
theorem dX5_wordHere_4 : decode cX5_wordHere 4 = .ok (.tableswitch 185 100 115 #[97, 185, 185, 80, 185, 185, 131, 185, 185, 114, 185, 148, 185, 185, 165, 182], 80) := by decide +kernel
theorem dX5_wordHere_84 : decode cX5_wordHere 84 = .ok (.aload_n 0, 1) := dk_42 (dk_at dksX5_wordHere_2 0 rfl rfl)
theorem dX5_wordHere_85 : decode cX5_wordHere 85 = .ok (.ldc 227, 2) := dk_18 227 (dk_at dksX5_wordHere_2 1 rfl rfl)
theorem dX5_wordHere_87 : decode cX5_wordHere 87 = .ok (.iconst 0, 1) := dk_3 (dk_at dksX5_wordHere_2 3 rfl rfl)
theorem dX5_wordHere_88 : decode cX5_wordHere 88 = .ok (.invokevirtual 229, 3) := dk_182 0 229 (dk_at dksX5_wordHere_2 4 rfl rfl)
theorem dX5_wordHere_91 : decode cX5_wordHere 91 = .ok (.ifCond .eq 8, 3) := dk_153 0 8 (dk_at dksX5_wordHere_2 7 rfl rfl)
theorem dX5_wordHere_94 : decode cX5_wordHere 94 = .ok (.bipush 103, 2) := dk_16 103 (dk_at dksX5_wordHere_2 10 rfl rfl)
theorem dX5_wordHere_96 : decode cX5_wordHere 96 = .ok (.goto 4, 3) := dk_167 0 4 (dk_at dksX5_wordHere_2 12 rfl rfl)
theorem dX5_wordHere_99 : decode cX5_wordHere 99 = .ok (.iconst (-1), 1) := dk_2 (dk_at dksX5_wordHere_2 15 rfl rfl)
theorem dX5_wordHere_100 : decode cX5_wordHere 100 = .ok (.ireturn, 1) := dk_172 (dk_at dksX5_wordHere_2 16 rfl rfl)
theorem dX5_wordHere_101 : decode cX5_wordHere 101 = .ok (.aload_n 0, 1) := dk_42 (dk_at dksX5_wordHere_2 17 rfl rfl)
theorem dX5_wordHere_102 : decode cX5_wordHere 102 = .ok (.ldc 233, 2) := dk_18 233 (dk_at dksX5_wordHere_2 18 rfl rfl)
theorem dX5_wordHere_104 : decode cX5_wordHere 104 = .ok (.iconst 0, 1) := dk_3 (dk_at dksX5_wordHere_2 20 rfl rfl)
theorem dX5_wordHere_105 : decode cX5_wordHere 105 = .ok (.invokevirtual 229, 3) := dk_182 0 229 (dk_at dksX5_wordHere_2 21 rfl rfl)
theorem dX5_wordHere_108 : decode cX5_wordHere 108 = .ok (.ifCond .eq 8, 3) := dk_153 0 8 (dk_at dksX5_wordHere_3 0 rfl rfl)
theorem dX5_wordHere_111 : decode cX5_wordHere 111 = .ok (.bipush 100, 2) := dk_16 100 (dk_at dksX5_wordHere_3 3 rfl rfl)
theorem dX5_wordHere_113 : decode cX5_wordHere 113 = .ok (.goto 4, 3) := dk_167 0 4 (dk_at dksX5_wordHere_3 5 rfl rfl)
theorem dX5_wordHere_116 : decode cX5_wordHere 116 = .ok (.iconst (-1), 1) := dk_2 (dk_at dksX5_wordHere_3 8 rfl rfl)
theorem dX5_wordHere_117 : decode cX5_wordHere 117 = .ok (.ireturn, 1) := dk_172 (dk_at dksX5_wordHere_3 9 rfl rfl)
theorem dX5_wordHere_118 : decode cX5_wordHere 118 = .ok (.aload_n 0, 1) := dk_42 (dk_at dksX5_wordHere_3 10 rfl rfl)
theorem dX5_wordHere_119 : decode cX5_wordHere 119 = .ok (.ldc 235, 2) := dk_18 235 (dk_at dksX5_wordHere_3 11 rfl rfl)
theorem dX5_wordHere_121 : decode cX5_wordHere 121 = .ok (.iconst 0, 1) := dk_3 (dk_at dksX5_wordHere_3 13 rfl rfl)
theorem dX5_wordHere_122 : decode cX5_wordHere 122 = .ok (.invokevirtual 229, 3) := dk_182 0 229 (dk_at dksX5_wordHere_3 14 rfl rfl)
theorem dX5_wordHere_125 : decode cX5_wordHere 125 = .ok (.ifCond .eq 8, 3) := dk_153 0 8 (dk_at dksX5_wordHere_3 17 rfl rfl)
theorem dX5_wordHere_128 : decode cX5_wordHere 128 = .ok (.bipush 109, 2) := dk_16 109 (dk_at dksX5_wordHere_3 20 rfl rfl)
theorem dX5_wordHere_130 : decode cX5_wordHere 130 = .ok (.goto 4, 3) := dk_167 0 4 (dk_at dksX5_wordHere_4 0 rfl rfl)
theorem dX5_wordHere_133 : decode cX5_wordHere 133 = .ok (.iconst (-1), 1) := dk_2 (dk_at dksX5_wordHere_4 3 rfl rfl)
theorem dX5_wordHere_134 : decode cX5_wordHere 134 = .ok (.ireturn, 1) := dk_172 (dk_at dksX5_wordHere_4 4 rfl rfl)
theorem dX5_wordHere_135 : decode cX5_wordHere 135 = .ok (.aload_n 0, 1) := dk_42 (dk_at dksX5_wordHere_4 5 rfl rfl)
theorem dX5_wordHere_136 : decode cX5_wordHere 136 = .ok (.ldc 237, 2) := dk_18 237 (dk_at dksX5_wordHere_4 6 rfl rfl)
theorem dX5_wordHere_138 : decode cX5_wordHere 138 = .ok (.iconst 0, 1) := dk_3 (dk_at dksX5_wordHere_4 8 rfl rfl)
theorem dX5_wordHere_139 : decode cX5_wordHere 139 = .ok (.invokevirtual 229, 3) := dk_182 0 229 (dk_at dksX5_wordHere_4 9 rfl rfl)
theorem dX5_wordHere_142 : decode cX5_wordHere 142 = .ok (.ifCond .eq 8, 3) := dk_153 0 8 (dk_at dksX5_wordHere_4 12 rfl rfl)
theorem dX5_wordHere_145 : decode cX5_wordHere 145 = .ok (.bipush 106, 2) := dk_16 106 (dk_at dksX5_wordHere_4 15 rfl rfl)
theorem dX5_wordHere_147 : decode cX5_wordHere 147 = .ok (.goto 4, 3) := dk_167 0 4 (dk_at dksX5_wordHere_4 17 rfl rfl)
theorem dX5_wordHere_150 : decode cX5_wordHere 150 = .ok (.iconst (-1), 1) := dk_2 (dk_at dksX5_wordHere_4 20 rfl rfl)
theorem dX5_wordHere_151 : decode cX5_wordHere 151 = .ok (.ireturn, 1) := dk_172 (dk_at dksX5_wordHere_4 21 rfl rfl)
theorem dX5_wordHere_152 : decode cX5_wordHere 152 = .ok (.aload_n 0, 1) := dk_42 (dk_at dksX5_wordHere_4 22 rfl rfl)
theorem dX5_wordHere_153 : decode cX5_wordHere 153 = .ok (.ldc 201, 2) := dk_18 201 (dk_at dksX5_wordHere_5 0 rfl rfl)
theorem dX5_wordHere_155 : decode cX5_wordHere 155 = .ok (.iconst 0, 1) := dk_3 (dk_at dksX5_wordHere_5 2 rfl rfl)
theorem dX5_wordHere_156 : decode cX5_wordHere 156 = .ok (.invokevirtual 229, 3) := dk_182 0 229 (dk_at dksX5_wordHere_5 3 rfl rfl)
theorem dX5_wordHere_159 : decode cX5_wordHere 159 = .ok (.ifCond .eq 8, 3) := dk_153 0 8 (dk_at dksX5_wordHere_5 6 rfl rfl)
theorem dX5_wordHere_162 : decode cX5_wordHere 162 = .ok (.bipush 111, 2) := dk_16 111 (dk_at dksX5_wordHere_5 9 rfl rfl)
theorem dX5_wordHere_164 : decode cX5_wordHere 164 = .ok (.goto 4, 3) := dk_167 0 4 (dk_at dksX5_wordHere_5 11 rfl rfl)
theorem dX5_wordHere_167 : decode cX5_wordHere 167 = .ok (.iconst (-1), 1) := dk_2 (dk_at dksX5_wordHere_5 14 rfl rfl)
theorem dX5_wordHere_168 : decode cX5_wordHere 168 = .ok (.ireturn, 1) := dk_172 (dk_at dksX5_wordHere_5 15 rfl rfl)
theorem dX5_wordHere_169 : decode cX5_wordHere 169 = .ok (.aload_n 0, 1) := dk_42 (dk_at dksX5_wordHere_5 16 rfl rfl)
theorem dX5_wordHere_170 : decode cX5_wordHere 170 = .ok (.ldc 239, 2) := dk_18 239 (dk_at dksX5_wordHere_5 17 rfl rfl)
theorem dX5_wordHere_172 : decode cX5_wordHere 172 = .ok (.iconst 0, 1) := dk_3 (dk_at dksX5_wordHere_5 19 rfl rfl)
theorem dX5_wordHere_173 : decode cX5_wordHere 173 = .ok (.invokevirtual 229, 3) := dk_182 0 229 (dk_at dksX5_wordHere_5 20 rfl rfl)
theorem dX5_wordHere_176 : decode cX5_wordHere 176 = .ok (.ifCond .eq 8, 3) := dk_153 0 8 (dk_at dksX5_wordHere_6 0 rfl rfl)
theorem dX5_wordHere_179 : decode cX5_wordHere 179 = .ok (.bipush 114, 2) := dk_16 114 (dk_at dksX5_wordHere_6 3 rfl rfl)
theorem dX5_wordHere_181 : decode cX5_wordHere 181 = .ok (.goto 4, 3) := dk_167 0 4 (dk_at dksX5_wordHere_6 5 rfl rfl)
theorem dX5_wordHere_184 : decode cX5_wordHere 184 = .ok (.iconst (-1), 1) := dk_2 (dk_at dksX5_wordHere_6 8 rfl rfl)
theorem dX5_wordHere_185 : decode cX5_wordHere 185 = .ok (.ireturn, 1) := dk_172 (dk_at dksX5_wordHere_6 9 rfl rfl)
theorem dX5_wordHere_186 : decode cX5_wordHere 186 = .ok (.goto 5, 3) := dk_167 0 5 (dk_at dksX5_wordHere_6 10 rfl rfl)
theorem dX5_wordHere_189 : decode cX5_wordHere 189 = .ok (.iconst (-1), 1) := dk_2 (dk_at dksX5_wordHere_6 13 rfl rfl)
theorem dX5_wordHere_190 : decode cX5_wordHere 190 = .ok (.ireturn, 1) := dk_172 (dk_at dksX5_wordHere_6 14 rfl rfl)
theorem dX5_wordHere_191 : decode cX5_wordHere 191 = .ok (.aload_n 0, 1) := dk_42 (dk_at dksX5_wordHere_6 15 rfl rfl)
theorem dX5_wordHere_192 : decode cX5_wordHere 192 = .ok (.ldc 241, 2) := dk_18 241 (dk_at dksX5_wordHere_6 16 rfl rfl)
theorem dX5_wordHere_194 : decode cX5_wordHere 194 = .ok (.iconst 0, 1) := dk_3 (dk_at dksX5_wordHere_6 18 rfl rfl)
theorem dX5_wordHere_195 : decode cX5_wordHere 195 = .ok (.invokevirtual 229, 3) := dk_182 0 229 (dk_at dksX5_wordHere_6 19 rfl rfl)
theorem dX5_wordHere_198 : decode cX5_wordHere 198 = .ok (.ifCond .ne 5, 3) := dk_154 0 5 (dk_at dksX5_wordHere_7 0 rfl rfl)
theorem dX5_wordHere_201 : decode cX5_wordHere 201 = .ok (.iconst (-1), 1) := dk_2 (dk_at dksX5_wordHere_7 3 rfl rfl)
theorem dX5_wordHere_202 : decode cX5_wordHere 202 = .ok (.ireturn, 1) := dk_172 (dk_at dksX5_wordHere_7 4 rfl rfl)
theorem dX5_wordHere_203 : decode cX5_wordHere 203 = .ok (.aload_n 0, 1) := dk_42 (dk_at dksX5_wordHere_7 5 rfl rfl)
theorem dX5_wordHere_204 : decode cX5_wordHere 204 = .ok (.bipush 108, 2) := dk_16 108 (dk_at dksX5_wordHere_7 6 rfl rfl)
theorem dX5_wordHere_206 : decode cX5_wordHere 206 = .ok (.invokevirtual 224, 3) := dk_182 0 224 (dk_at dksX5_wordHere_7 8 rfl rfl)
theorem dX5_wordHere_209 : decode cX5_wordHere 209 = .ok (.ifCond .eq 22, 3) := dk_153 0 22 (dk_at dksX5_wordHere_7 11 rfl rfl)
theorem dX5_wordHere_212 : decode cX5_wordHere 212 = .ok (.aload_n 0, 1) := dk_42 (dk_at dksX5_wordHere_7 14 rfl rfl)
theorem dX5_wordHere_213 : decode cX5_wordHere 213 = .ok (.ldc 243, 2) := dk_18 243 (dk_at dksX5_wordHere_7 15 rfl rfl)
theorem dX5_wordHere_215 : decode cX5_wordHere 215 = .ok (.iconst 3, 1) := dk_6 (dk_at dksX5_wordHere_7 17 rfl rfl)
theorem dX5_wordHere_216 : decode cX5_wordHere 216 = .ok (.invokevirtual 229, 3) := dk_182 0 229 (dk_at dksX5_wordHere_7 18 rfl rfl)
theorem dX5_wordHere_219 : decode cX5_wordHere 219 = .ok (.ifCond .eq 8, 3) := dk_153 0 8 (dk_at dksX5_wordHere_7 21 rfl rfl)
theorem dX5_wordHere_222 : decode cX5_wordHere 222 = .ok (.bipush 101, 2) := dk_16 101 (dk_at dksX5_wordHere_8 0 rfl rfl)
theorem dX5_wordHere_224 : decode cX5_wordHere 224 = .ok (.goto 23, 3) := dk_167 0 23 (dk_at dksX5_wordHere_8 2 rfl rfl)
theorem dX5_wordHere_227 : decode cX5_wordHere 227 = .ok (.iconst (-1), 1) := dk_2 (dk_at dksX5_wordHere_8 5 rfl rfl)
theorem dX5_wordHere_228 : decode cX5_wordHere 228 = .ok (.goto 19, 3) := dk_167 0 19 (dk_at dksX5_wordHere_8 6 rfl rfl)
theorem dX5_wordHere_231 : decode cX5_wordHere 231 = .ok (.aload_n 0, 1) := dk_42 (dk_at dksX5_wordHere_8 9 rfl rfl)
theorem dX5_wordHere_232 : decode cX5_wordHere 232 = .ok (.ldc 245, 2) := dk_18 245 (dk_at dksX5_wordHere_8 10 rfl rfl)
theorem dX5_wordHere_234 : decode cX5_wordHere 234 = .ok (.iconst 2, 1) := dk_5 (dk_at dksX5_wordHere_8 12 rfl rfl)
theorem dX5_wordHere_235 : decode cX5_wordHere 235 = .ok (.invokevirtual 229, 3) := dk_182 0 229 (dk_at dksX5_wordHere_8 13 rfl rfl)
theorem dX5_wordHere_238 : decode cX5_wordHere 238 = .ok (.ifCond .eq 8, 3) := dk_153 0 8 (dk_at dksX5_wordHere_8 16 rfl rfl)
theorem dX5_wordHere_241 : decode cX5_wordHere 241 = .ok (.bipush 118, 2) := dk_16 118 (dk_at dksX5_wordHere_8 19 rfl rfl)
theorem dX5_wordHere_243 : decode cX5_wordHere 243 = .ok (.goto 4, 3) := dk_167 0 4 (dk_at dksX5_wordHere_8 21 rfl rfl)
theorem dX5_wordHere_246 : decode cX5_wordHere 246 = .ok (.iconst (-1), 1) := dk_2 (dk_at dksX5_wordHere_9 0 rfl rfl)
theorem dX5_wordHere_247 : decode cX5_wordHere 247 = .ok (.ireturn, 1) := dk_172 (dk_at dksX5_wordHere_9 1 rfl rfl)
abbrev cX5_here : ByteArray := prog_18_method_72_code
def yX5_here : MethodName := ⟨RX5, "here", "()I"⟩
def dkwX5_here_1 : List UInt8 := [172]
abbrev dktX5_here_1 : List UInt8 := dkwX5_here_1 ++ []
def dkwX5_here_0 : List UInt8 := [42, 180, 0, 218, 42, 180, 0, 216, 162, 0, 15, 42, 180, 0, 25, 42, 180, 0, 218, 46, 167, 0, 4, 2]
abbrev dktX5_here_0 : List UInt8 := dkwX5_here_0 ++ dktX5_here_1
theorem dksX5_here_0 : cX5_here.data.toList.drop 0 = dktX5_here_0 := by decide +kernel
theorem dksX5_here_1 : cX5_here.data.toList.drop 24 = dktX5_here_1 := dk_seg dksX5_here_0 24 rfl rfl
theorem dX5_here_0 : decode cX5_here 0 = .ok (.aload_n 0, 1) := dk_42 (dk_at dksX5_here_0 0 rfl rfl)
theorem dX5_here_1 : decode cX5_here 1 = .ok (.getfield 218, 3) := dk_180 0 218 (dk_at dksX5_here_0 1 rfl rfl)
theorem dX5_here_4 : decode cX5_here 4 = .ok (.aload_n 0, 1) := dk_42 (dk_at dksX5_here_0 4 rfl rfl)
theorem dX5_here_5 : decode cX5_here 5 = .ok (.getfield 216, 3) := dk_180 0 216 (dk_at dksX5_here_0 5 rfl rfl)
theorem dX5_here_8 : decode cX5_here 8 = .ok (.if_icmp .ge 15, 3) := dk_162 0 15 (dk_at dksX5_here_0 8 rfl rfl)
theorem dX5_here_11 : decode cX5_here 11 = .ok (.aload_n 0, 1) := dk_42 (dk_at dksX5_here_0 11 rfl rfl)
theorem dX5_here_12 : decode cX5_here 12 = .ok (.getfield 25, 3) := dk_180 0 25 (dk_at dksX5_here_0 12 rfl rfl)
theorem dX5_here_15 : decode cX5_here 15 = .ok (.aload_n 0, 1) := dk_42 (dk_at dksX5_here_0 15 rfl rfl)
theorem dX5_here_16 : decode cX5_here 16 = .ok (.getfield 218, 3) := dk_180 0 218 (dk_at dksX5_here_0 16 rfl rfl)
theorem dX5_here_19 : decode cX5_here 19 = .ok (.iaload, 1) := dk_46 (dk_at dksX5_here_0 19 rfl rfl)
theorem dX5_here_20 : decode cX5_here 20 = .ok (.goto 4, 3) := dk_167 0 4 (dk_at dksX5_here_0 20 rfl rfl)
theorem dX5_here_23 : decode cX5_here 23 = .ok (.iconst (-1), 1) := dk_2 (dk_at dksX5_here_0 23 rfl rfl)
theorem dX5_here_24 : decode cX5_here 24 = .ok (.ireturn, 1) := dk_172 (dk_at dksX5_here_1 0 rfl rfl)
abbrev cX5_word : ByteArray := prog_18_method_74_code
def yX5_word : MethodName := ⟨RX5, "word", "(Ljava/lang/String;I)Z"⟩
def dkwX5_word_1 : List UInt8 := [132, 3, 1, 167, 255, 231, 4, 172]
abbrev dktX5_word_1 : List UInt8 := dkwX5_word_1 ++ []
def dkwX5_word_0 : List UInt8 := [28, 62, 29, 43, 182, 0, 179, 162, 0, 23, 42, 43, 29, 182, 0, 184, 182, 0, 224, 154, 0, 5, 3, 172]
abbrev dktX5_word_0 : List UInt8 := dkwX5_word_0 ++ dktX5_word_1
theorem dksX5_word_0 : cX5_word.data.toList.drop 0 = dktX5_word_0 := by decide +kernel
theorem dksX5_word_1 : cX5_word.data.toList.drop 24 = dktX5_word_1 := dk_seg dksX5_word_0 24 rfl rfl
theorem dX5_word_0 : decode cX5_word 0 = .ok (.iload_n 2, 1) := dk_28 (dk_at dksX5_word_0 0 rfl rfl)
theorem dX5_word_1 : decode cX5_word 1 = .ok (.istore_n 3, 1) := dk_62 (dk_at dksX5_word_0 1 rfl rfl)
theorem dX5_word_2 : decode cX5_word 2 = .ok (.iload_n 3, 1) := dk_29 (dk_at dksX5_word_0 2 rfl rfl)
theorem dX5_word_3 : decode cX5_word 3 = .ok (.aload_n 1, 1) := dk_43 (dk_at dksX5_word_0 3 rfl rfl)
theorem dX5_word_4 : decode cX5_word 4 = .ok (.invokevirtual 179, 3) := dk_182 0 179 (dk_at dksX5_word_0 4 rfl rfl)
theorem dX5_word_7 : decode cX5_word 7 = .ok (.if_icmp .ge 23, 3) := dk_162 0 23 (dk_at dksX5_word_0 7 rfl rfl)
theorem dX5_word_10 : decode cX5_word 10 = .ok (.aload_n 0, 1) := dk_42 (dk_at dksX5_word_0 10 rfl rfl)
theorem dX5_word_11 : decode cX5_word 11 = .ok (.aload_n 1, 1) := dk_43 (dk_at dksX5_word_0 11 rfl rfl)
theorem dX5_word_12 : decode cX5_word 12 = .ok (.iload_n 3, 1) := dk_29 (dk_at dksX5_word_0 12 rfl rfl)
theorem dX5_word_13 : decode cX5_word 13 = .ok (.invokevirtual 184, 3) := dk_182 0 184 (dk_at dksX5_word_0 13 rfl rfl)
theorem dX5_word_16 : decode cX5_word 16 = .ok (.invokevirtual 224, 3) := dk_182 0 224 (dk_at dksX5_word_0 16 rfl rfl)
theorem dX5_word_19 : decode cX5_word 19 = .ok (.ifCond .ne 5, 3) := dk_154 0 5 (dk_at dksX5_word_0 19 rfl rfl)
theorem dX5_word_22 : decode cX5_word 22 = .ok (.iconst 0, 1) := dk_3 (dk_at dksX5_word_0 22 rfl rfl)
theorem dX5_word_23 : decode cX5_word 23 = .ok (.ireturn, 1) := dk_172 (dk_at dksX5_word_0 23 rfl rfl)
theorem dX5_word_24 : decode cX5_word 24 = .ok (.iinc 3 1, 3) := dk_132 3 1 (dk_at dksX5_word_1 0 rfl rfl)
theorem dX5_word_27 : decode cX5_word 27 = .ok (.goto (-25), 3) := dk_167 255 231 (dk_at dksX5_word_1 3 rfl rfl)
theorem dX5_word_30 : decode cX5_word 30 = .ok (.iconst 1, 1) := dk_4 (dk_at dksX5_word_1 6 rfl rfl)
theorem dX5_word_31 : decode cX5_word 31 = .ok (.ireturn, 1) := dk_172 (dk_at dksX5_word_1 7 rfl rfl)
abbrev cX5_skips : ByteArray := prog_18_method_73_code
def yX5_skips : MethodName := ⟨RX5, "skips", "(I)Z"⟩
def dkwX5_skips_0 : List UInt8 := [42, 182, 0, 221, 27, 159, 0, 5, 3, 172, 42, 89, 180, 0, 218, 4, 96, 181, 0, 218, 4, 172]
abbrev dktX5_skips_0 : List UInt8 := dkwX5_skips_0 ++ []
theorem dksX5_skips_0 : cX5_skips.data.toList.drop 0 = dktX5_skips_0 := by decide +kernel
theorem dX5_skips_0 : decode cX5_skips 0 = .ok (.aload_n 0, 1) := dk_42 (dk_at dksX5_skips_0 0 rfl rfl)
theorem dX5_skips_1 : decode cX5_skips 1 = .ok (.invokevirtual 221, 3) := dk_182 0 221 (dk_at dksX5_skips_0 1 rfl rfl)
theorem dX5_skips_4 : decode cX5_skips 4 = .ok (.iload_n 1, 1) := dk_27 (dk_at dksX5_skips_0 4 rfl rfl)
theorem dX5_skips_5 : decode cX5_skips 5 = .ok (.if_icmp .eq 5, 3) := dk_159 0 5 (dk_at dksX5_skips_0 5 rfl rfl)
theorem dX5_skips_8 : decode cX5_skips 8 = .ok (.iconst 0, 1) := dk_3 (dk_at dksX5_skips_0 8 rfl rfl)
theorem dX5_skips_9 : decode cX5_skips 9 = .ok (.ireturn, 1) := dk_172 (dk_at dksX5_skips_0 9 rfl rfl)
theorem dX5_skips_10 : decode cX5_skips 10 = .ok (.aload_n 0, 1) := dk_42 (dk_at dksX5_skips_0 10 rfl rfl)
theorem dX5_skips_11 : decode cX5_skips 11 = .ok (.dup, 1) := dk_89 (dk_at dksX5_skips_0 11 rfl rfl)
theorem dX5_skips_12 : decode cX5_skips 12 = .ok (.getfield 218, 3) := dk_180 0 218 (dk_at dksX5_skips_0 12 rfl rfl)
theorem dX5_skips_15 : decode cX5_skips 15 = .ok (.iconst 1, 1) := dk_4 (dk_at dksX5_skips_0 15 rfl rfl)
theorem dX5_skips_16 : decode cX5_skips 16 = .ok (.iadd, 1) := dk_96 (dk_at dksX5_skips_0 16 rfl rfl)
theorem dX5_skips_17 : decode cX5_skips 17 = .ok (.putfield 218, 3) := dk_181 0 218 (dk_at dksX5_skips_0 17 rfl rfl)
theorem dX5_skips_20 : decode cX5_skips 20 = .ok (.iconst 1, 1) := dk_4 (dk_at dksX5_skips_0 20 rfl rfl)
theorem dX5_skips_21 : decode cX5_skips 21 = .ok (.ireturn, 1) := dk_172 (dk_at dksX5_skips_0 21 rfl rfl)
abbrev cX5_numbers : ByteArray := prog_18_method_75_code
def yX5_numbers : MethodName := ⟨RX5, "numbers", "(II)Z"⟩
def dkwX5_numbers_5 : List UInt8 := [132, 3, 1, 167, 255, 136, 4, 172]
abbrev dktX5_numbers_5 : List UInt8 := dkwX5_numbers_5 ++ []
def dkwX5_numbers_4 : List UInt8 := [29, 96, 46, 104, 42, 182, 0, 221, 96, 16, 48, 100, 79, 42, 89, 180, 0, 218, 4, 96, 181, 0, 218]
abbrev dktX5_numbers_4 : List UInt8 := dkwX5_numbers_4 ++ dktX5_numbers_5
def dkwX5_numbers_3 : List UInt8 := [16, 48, 16, 57, 184, 0, 65, 153, 0, 40, 42, 180, 0, 39, 27, 29, 96, 16, 10, 42, 180, 0, 39, 27]
abbrev dktX5_numbers_3 : List UInt8 := dkwX5_numbers_3 ++ dktX5_numbers_4
def dkwX5_numbers_2 : List UInt8 := [89, 180, 0, 218, 4, 96, 181, 0, 218, 42, 180, 0, 39, 27, 29, 96, 46, 158, 0, 54, 42, 182, 0, 221]
abbrev dktX5_numbers_2 : List UInt8 := dkwX5_numbers_2 ++ dktX5_numbers_3
def dkwX5_numbers_1 : List UInt8 := [184, 0, 65, 154, 0, 5, 3, 172, 42, 180, 0, 39, 27, 29, 96, 42, 182, 0, 221, 16, 48, 100, 79, 42]
abbrev dktX5_numbers_1 : List UInt8 := dkwX5_numbers_1 ++ dktX5_numbers_2
def dkwX5_numbers_0 : List UInt8 := [3, 62, 29, 28, 162, 0, 121, 42, 16, 32, 182, 0, 224, 153, 0, 17, 42, 182, 0, 221, 16, 48, 16, 57]
abbrev dktX5_numbers_0 : List UInt8 := dkwX5_numbers_0 ++ dktX5_numbers_1
theorem dksX5_numbers_0 : cX5_numbers.data.toList.drop 0 = dktX5_numbers_0 := by decide +kernel
theorem dksX5_numbers_1 : cX5_numbers.data.toList.drop 24 = dktX5_numbers_1 := dk_seg dksX5_numbers_0 24 rfl rfl
theorem dksX5_numbers_2 : cX5_numbers.data.toList.drop 48 = dktX5_numbers_2 := dk_seg dksX5_numbers_1 24 rfl rfl
theorem dksX5_numbers_3 : cX5_numbers.data.toList.drop 72 = dktX5_numbers_3 := dk_seg dksX5_numbers_2 24 rfl rfl
theorem dksX5_numbers_4 : cX5_numbers.data.toList.drop 96 = dktX5_numbers_4 := dk_seg dksX5_numbers_3 24 rfl rfl
theorem dksX5_numbers_5 : cX5_numbers.data.toList.drop 119 = dktX5_numbers_5 := dk_seg dksX5_numbers_4 23 rfl rfl
theorem dX5_numbers_0 : decode cX5_numbers 0 = .ok (.iconst 0, 1) := dk_3 (dk_at dksX5_numbers_0 0 rfl rfl)
theorem dX5_numbers_1 : decode cX5_numbers 1 = .ok (.istore_n 3, 1) := dk_62 (dk_at dksX5_numbers_0 1 rfl rfl)
theorem dX5_numbers_2 : decode cX5_numbers 2 = .ok (.iload_n 3, 1) := dk_29 (dk_at dksX5_numbers_0 2 rfl rfl)
theorem dX5_numbers_3 : decode cX5_numbers 3 = .ok (.iload_n 2, 1) := dk_28 (dk_at dksX5_numbers_0 3 rfl rfl)
theorem dX5_numbers_4 : decode cX5_numbers 4 = .ok (.if_icmp .ge 121, 3) := dk_162 0 121 (dk_at dksX5_numbers_0 4 rfl rfl)
theorem dX5_numbers_7 : decode cX5_numbers 7 = .ok (.aload_n 0, 1) := dk_42 (dk_at dksX5_numbers_0 7 rfl rfl)
theorem dX5_numbers_8 : decode cX5_numbers 8 = .ok (.bipush 32, 2) := dk_16 32 (dk_at dksX5_numbers_0 8 rfl rfl)
theorem dX5_numbers_10 : decode cX5_numbers 10 = .ok (.invokevirtual 224, 3) := dk_182 0 224 (dk_at dksX5_numbers_0 10 rfl rfl)
theorem dX5_numbers_13 : decode cX5_numbers 13 = .ok (.ifCond .eq 17, 3) := dk_153 0 17 (dk_at dksX5_numbers_0 13 rfl rfl)
theorem dX5_numbers_16 : decode cX5_numbers 16 = .ok (.aload_n 0, 1) := dk_42 (dk_at dksX5_numbers_0 16 rfl rfl)
theorem dX5_numbers_17 : decode cX5_numbers 17 = .ok (.invokevirtual 221, 3) := dk_182 0 221 (dk_at dksX5_numbers_0 17 rfl rfl)
theorem dX5_numbers_20 : decode cX5_numbers 20 = .ok (.bipush 48, 2) := dk_16 48 (dk_at dksX5_numbers_0 20 rfl rfl)
theorem dX5_numbers_22 : decode cX5_numbers 22 = .ok (.bipush 57, 2) := dk_16 57 (dk_at dksX5_numbers_0 22 rfl rfl)
theorem dX5_numbers_24 : decode cX5_numbers 24 = .ok (.invokestatic 65, 3) := dk_184 0 65 (dk_at dksX5_numbers_1 0 rfl rfl)
theorem dX5_numbers_27 : decode cX5_numbers 27 = .ok (.ifCond .ne 5, 3) := dk_154 0 5 (dk_at dksX5_numbers_1 3 rfl rfl)
theorem dX5_numbers_30 : decode cX5_numbers 30 = .ok (.iconst 0, 1) := dk_3 (dk_at dksX5_numbers_1 6 rfl rfl)
theorem dX5_numbers_31 : decode cX5_numbers 31 = .ok (.ireturn, 1) := dk_172 (dk_at dksX5_numbers_1 7 rfl rfl)
theorem dX5_numbers_32 : decode cX5_numbers 32 = .ok (.aload_n 0, 1) := dk_42 (dk_at dksX5_numbers_1 8 rfl rfl)
theorem dX5_numbers_33 : decode cX5_numbers 33 = .ok (.getfield 39, 3) := dk_180 0 39 (dk_at dksX5_numbers_1 9 rfl rfl)
theorem dX5_numbers_36 : decode cX5_numbers 36 = .ok (.iload_n 1, 1) := dk_27 (dk_at dksX5_numbers_1 12 rfl rfl)
theorem dX5_numbers_37 : decode cX5_numbers 37 = .ok (.iload_n 3, 1) := dk_29 (dk_at dksX5_numbers_1 13 rfl rfl)
theorem dX5_numbers_38 : decode cX5_numbers 38 = .ok (.iadd, 1) := dk_96 (dk_at dksX5_numbers_1 14 rfl rfl)
theorem dX5_numbers_39 : decode cX5_numbers 39 = .ok (.aload_n 0, 1) := dk_42 (dk_at dksX5_numbers_1 15 rfl rfl)
theorem dX5_numbers_40 : decode cX5_numbers 40 = .ok (.invokevirtual 221, 3) := dk_182 0 221 (dk_at dksX5_numbers_1 16 rfl rfl)
theorem dX5_numbers_43 : decode cX5_numbers 43 = .ok (.bipush 48, 2) := dk_16 48 (dk_at dksX5_numbers_1 19 rfl rfl)
theorem dX5_numbers_45 : decode cX5_numbers 45 = .ok (.isub, 1) := dk_100 (dk_at dksX5_numbers_1 21 rfl rfl)
theorem dX5_numbers_46 : decode cX5_numbers 46 = .ok (.iastore, 1) := dk_79 (dk_at dksX5_numbers_1 22 rfl rfl)
theorem dX5_numbers_47 : decode cX5_numbers 47 = .ok (.aload_n 0, 1) := dk_42 (dk_at dksX5_numbers_1 23 rfl rfl)
theorem dX5_numbers_48 : decode cX5_numbers 48 = .ok (.dup, 1) := dk_89 (dk_at dksX5_numbers_2 0 rfl rfl)
theorem dX5_numbers_49 : decode cX5_numbers 49 = .ok (.getfield 218, 3) := dk_180 0 218 (dk_at dksX5_numbers_2 1 rfl rfl)
theorem dX5_numbers_52 : decode cX5_numbers 52 = .ok (.iconst 1, 1) := dk_4 (dk_at dksX5_numbers_2 4 rfl rfl)
theorem dX5_numbers_53 : decode cX5_numbers 53 = .ok (.iadd, 1) := dk_96 (dk_at dksX5_numbers_2 5 rfl rfl)
theorem dX5_numbers_54 : decode cX5_numbers 54 = .ok (.putfield 218, 3) := dk_181 0 218 (dk_at dksX5_numbers_2 6 rfl rfl)
theorem dX5_numbers_57 : decode cX5_numbers 57 = .ok (.aload_n 0, 1) := dk_42 (dk_at dksX5_numbers_2 9 rfl rfl)
theorem dX5_numbers_58 : decode cX5_numbers 58 = .ok (.getfield 39, 3) := dk_180 0 39 (dk_at dksX5_numbers_2 10 rfl rfl)
theorem dX5_numbers_61 : decode cX5_numbers 61 = .ok (.iload_n 1, 1) := dk_27 (dk_at dksX5_numbers_2 13 rfl rfl)
theorem dX5_numbers_62 : decode cX5_numbers 62 = .ok (.iload_n 3, 1) := dk_29 (dk_at dksX5_numbers_2 14 rfl rfl)
theorem dX5_numbers_63 : decode cX5_numbers 63 = .ok (.iadd, 1) := dk_96 (dk_at dksX5_numbers_2 15 rfl rfl)
theorem dX5_numbers_64 : decode cX5_numbers 64 = .ok (.iaload, 1) := dk_46 (dk_at dksX5_numbers_2 16 rfl rfl)
theorem dX5_numbers_65 : decode cX5_numbers 65 = .ok (.ifCond .le 54, 3) := dk_158 0 54 (dk_at dksX5_numbers_2 17 rfl rfl)
theorem dX5_numbers_68 : decode cX5_numbers 68 = .ok (.aload_n 0, 1) := dk_42 (dk_at dksX5_numbers_2 20 rfl rfl)
theorem dX5_numbers_69 : decode cX5_numbers 69 = .ok (.invokevirtual 221, 3) := dk_182 0 221 (dk_at dksX5_numbers_2 21 rfl rfl)
theorem dX5_numbers_72 : decode cX5_numbers 72 = .ok (.bipush 48, 2) := dk_16 48 (dk_at dksX5_numbers_3 0 rfl rfl)
theorem dX5_numbers_74 : decode cX5_numbers 74 = .ok (.bipush 57, 2) := dk_16 57 (dk_at dksX5_numbers_3 2 rfl rfl)
theorem dX5_numbers_76 : decode cX5_numbers 76 = .ok (.invokestatic 65, 3) := dk_184 0 65 (dk_at dksX5_numbers_3 4 rfl rfl)
theorem dX5_numbers_79 : decode cX5_numbers 79 = .ok (.ifCond .eq 40, 3) := dk_153 0 40 (dk_at dksX5_numbers_3 7 rfl rfl)
theorem dX5_numbers_82 : decode cX5_numbers 82 = .ok (.aload_n 0, 1) := dk_42 (dk_at dksX5_numbers_3 10 rfl rfl)
theorem dX5_numbers_83 : decode cX5_numbers 83 = .ok (.getfield 39, 3) := dk_180 0 39 (dk_at dksX5_numbers_3 11 rfl rfl)
theorem dX5_numbers_86 : decode cX5_numbers 86 = .ok (.iload_n 1, 1) := dk_27 (dk_at dksX5_numbers_3 14 rfl rfl)
theorem dX5_numbers_87 : decode cX5_numbers 87 = .ok (.iload_n 3, 1) := dk_29 (dk_at dksX5_numbers_3 15 rfl rfl)
theorem dX5_numbers_88 : decode cX5_numbers 88 = .ok (.iadd, 1) := dk_96 (dk_at dksX5_numbers_3 16 rfl rfl)
theorem dX5_numbers_89 : decode cX5_numbers 89 = .ok (.bipush 10, 2) := dk_16 10 (dk_at dksX5_numbers_3 17 rfl rfl)
theorem dX5_numbers_91 : decode cX5_numbers 91 = .ok (.aload_n 0, 1) := dk_42 (dk_at dksX5_numbers_3 19 rfl rfl)
theorem dX5_numbers_92 : decode cX5_numbers 92 = .ok (.getfield 39, 3) := dk_180 0 39 (dk_at dksX5_numbers_3 20 rfl rfl)
theorem dX5_numbers_95 : decode cX5_numbers 95 = .ok (.iload_n 1, 1) := dk_27 (dk_at dksX5_numbers_3 23 rfl rfl)
theorem dX5_numbers_96 : decode cX5_numbers 96 = .ok (.iload_n 3, 1) := dk_29 (dk_at dksX5_numbers_4 0 rfl rfl)
theorem dX5_numbers_97 : decode cX5_numbers 97 = .ok (.iadd, 1) := dk_96 (dk_at dksX5_numbers_4 1 rfl rfl)
theorem dX5_numbers_98 : decode cX5_numbers 98 = .ok (.iaload, 1) := dk_46 (dk_at dksX5_numbers_4 2 rfl rfl)
theorem dX5_numbers_99 : decode cX5_numbers 99 = .ok (.imul, 1) := dk_104 (dk_at dksX5_numbers_4 3 rfl rfl)
theorem dX5_numbers_100 : decode cX5_numbers 100 = .ok (.aload_n 0, 1) := dk_42 (dk_at dksX5_numbers_4 4 rfl rfl)
theorem dX5_numbers_101 : decode cX5_numbers 101 = .ok (.invokevirtual 221, 3) := dk_182 0 221 (dk_at dksX5_numbers_4 5 rfl rfl)
theorem dX5_numbers_104 : decode cX5_numbers 104 = .ok (.iadd, 1) := dk_96 (dk_at dksX5_numbers_4 8 rfl rfl)
theorem dX5_numbers_105 : decode cX5_numbers 105 = .ok (.bipush 48, 2) := dk_16 48 (dk_at dksX5_numbers_4 9 rfl rfl)
theorem dX5_numbers_107 : decode cX5_numbers 107 = .ok (.isub, 1) := dk_100 (dk_at dksX5_numbers_4 11 rfl rfl)
theorem dX5_numbers_108 : decode cX5_numbers 108 = .ok (.iastore, 1) := dk_79 (dk_at dksX5_numbers_4 12 rfl rfl)
theorem dX5_numbers_109 : decode cX5_numbers 109 = .ok (.aload_n 0, 1) := dk_42 (dk_at dksX5_numbers_4 13 rfl rfl)
theorem dX5_numbers_110 : decode cX5_numbers 110 = .ok (.dup, 1) := dk_89 (dk_at dksX5_numbers_4 14 rfl rfl)
theorem dX5_numbers_111 : decode cX5_numbers 111 = .ok (.getfield 218, 3) := dk_180 0 218 (dk_at dksX5_numbers_4 15 rfl rfl)
theorem dX5_numbers_114 : decode cX5_numbers 114 = .ok (.iconst 1, 1) := dk_4 (dk_at dksX5_numbers_4 18 rfl rfl)
theorem dX5_numbers_115 : decode cX5_numbers 115 = .ok (.iadd, 1) := dk_96 (dk_at dksX5_numbers_4 19 rfl rfl)
theorem dX5_numbers_116 : decode cX5_numbers 116 = .ok (.putfield 218, 3) := dk_181 0 218 (dk_at dksX5_numbers_4 20 rfl rfl)
theorem dX5_numbers_119 : decode cX5_numbers 119 = .ok (.iinc 3 1, 3) := dk_132 3 1 (dk_at dksX5_numbers_5 0 rfl rfl)
theorem dX5_numbers_122 : decode cX5_numbers 122 = .ok (.goto (-120), 3) := dk_167 255 136 (dk_at dksX5_numbers_5 3 rfl rfl)
theorem dX5_numbers_125 : decode cX5_numbers 125 = .ok (.iconst 1, 1) := dk_4 (dk_at dksX5_numbers_5 6 rfl rfl)
theorem dX5_numbers_126 : decode cX5_numbers 126 = .ok (.ireturn, 1) := dk_172 (dk_at dksX5_numbers_5 7 rfl rfl)
abbrev cX5_carries : ByteArray := prog_18_method_79_code
def yX5_carries : MethodName := ⟨RX5, "carries", "(I)I"⟩
def dkwX5_carries_8 : List UInt8 := [182, 1, 18, 172]
abbrev dktX5_carries_8 : List UInt8 := dkwX5_carries_8 ++ []
def dkwX5_carries_7 : List UInt8 := [42, 42, 180, 0, 39, 27, 4, 96, 46, 182, 1, 16, 172, 42, 42, 180, 0, 39, 27, 4, 96, 46]
abbrev dktX5_carries_7 : List UInt8 := dkwX5_carries_7 ++ dktX5_carries_8
def dkwX5_carries_6 : List UInt8 := [180, 0, 39, 27, 4, 96, 46, 182, 1, 12, 172, 42, 42, 180, 0, 39, 27, 4, 96, 46, 182, 1, 14, 172]
abbrev dktX5_carries_6 : List UInt8 := dkwX5_carries_6 ++ dktX5_carries_7
def dkwX5_carries_5 : List UInt8 := [172, 42, 42, 180, 0, 39, 27, 4, 96, 46, 42, 180, 0, 39, 27, 5, 96, 46, 182, 1, 10, 172, 42, 42]
abbrev dktX5_carries_5 : List UInt8 := dkwX5_carries_5 ++ dktX5_carries_6
def dkwX5_carries_4 : List UInt8 := [182, 1, 6, 172, 42, 42, 180, 0, 39, 27, 4, 96, 46, 42, 180, 0, 39, 27, 5, 96, 46, 182, 1, 8]
abbrev dktX5_carries_4 : List UInt8 := dkwX5_carries_4 ++ dktX5_carries_5
def dkwX5_carries_3 : List UInt8 := [46, 42, 180, 0, 39, 27, 7, 96, 46, 182, 1, 4, 172, 42, 42, 180, 0, 39, 27, 4, 96, 46]
abbrev dktX5_carries_3 : List UInt8 := dkwX5_carries_3 ++ dktX5_carries_4
def dkwX5_carries_2 : List UInt8 := [42, 42, 180, 0, 39, 27, 4, 96, 46, 42, 180, 0, 39, 27, 5, 96, 46, 42, 180, 0, 39, 27, 6, 96]
abbrev dktX5_carries_2 : List UInt8 := dkwX5_carries_2 ++ dktX5_carries_3
def dkwX5_carries_1 : List UInt8 := [170, 0, 0, 0, 0, 221, 0, 0, 0, 100, 0, 0, 0, 118, 0, 0, 0, 127, 0, 0, 0, 195, 0, 0, 0, 221, 0, 0, 0, 90, 0, 0, 0, 221, 0, 0, 0, 221, 0, 0, 0, 161, 0, 0, 0, 221, 0, 0, 0, 221, 0, 0, 0, 140, 0, 0, 0, 221, 0, 0, 0, 182, 0, 0, 0, 221, 0, 0, 0, 221, 0, 0, 0, 221, 0, 0, 0, 221, 0, 0, 0, 221, 0, 0, 0, 221, 0, 0, 0, 208]
abbrev dktX5_carries_1 : List UInt8 := dkwX5_carries_1 ++ dktX5_carries_2
def dkwX5_carries_0 : List UInt8 := [42, 180, 0, 39, 27, 46]
abbrev dktX5_carries_0 : List UInt8 := dkwX5_carries_0 ++ dktX5_carries_1
theorem dksX5_carries_0 : cX5_carries.data.toList.drop 0 = dktX5_carries_0 := by decide +kernel
theorem dksX5_carries_1 : cX5_carries.data.toList.drop 6 = dktX5_carries_1 := dk_seg dksX5_carries_0 6 rfl rfl
theorem dksX5_carries_2 : cX5_carries.data.toList.drop 96 = dktX5_carries_2 := dk_seg dksX5_carries_1 90 rfl rfl
theorem dksX5_carries_3 : cX5_carries.data.toList.drop 120 = dktX5_carries_3 := dk_seg dksX5_carries_2 24 rfl rfl
theorem dksX5_carries_4 : cX5_carries.data.toList.drop 142 = dktX5_carries_4 := dk_seg dksX5_carries_3 22 rfl rfl
theorem dksX5_carries_5 : cX5_carries.data.toList.drop 166 = dktX5_carries_5 := dk_seg dksX5_carries_4 24 rfl rfl
theorem dksX5_carries_6 : cX5_carries.data.toList.drop 190 = dktX5_carries_6 := dk_seg dksX5_carries_5 24 rfl rfl
theorem dksX5_carries_7 : cX5_carries.data.toList.drop 214 = dktX5_carries_7 := dk_seg dksX5_carries_6 24 rfl rfl
theorem dksX5_carries_8 : cX5_carries.data.toList.drop 236 = dktX5_carries_8 := dk_seg dksX5_carries_7 22 rfl rfl
theorem dX5_carries_0 : decode cX5_carries 0 = .ok (.aload_n 0, 1) := dk_42 (dk_at dksX5_carries_0 0 rfl rfl)
theorem dX5_carries_1 : decode cX5_carries 1 = .ok (.getfield 39, 3) := dk_180 0 39 (dk_at dksX5_carries_0 1 rfl rfl)
theorem dX5_carries_4 : decode cX5_carries 4 = .ok (.iload_n 1, 1) := dk_27 (dk_at dksX5_carries_0 4 rfl rfl)
theorem dX5_carries_5 : decode cX5_carries 5 = .ok (.iaload, 1) := dk_46 (dk_at dksX5_carries_0 5 rfl rfl)
theorem dX5_carries_6 : decode cX5_carries 6 = .ok (.tableswitch 221 100 118 #[127, 195, 221, 90, 221, 221, 161, 221, 221, 140, 221, 182, 221, 221, 221, 221, 221, 221, 208], 90) := by decide +kernel
theorem dX5_carries_96 : decode cX5_carries 96 = .ok (.aload_n 0, 1) := dk_42 (dk_at dksX5_carries_2 0 rfl rfl)
theorem dX5_carries_97 : decode cX5_carries 97 = .ok (.aload_n 0, 1) := dk_42 (dk_at dksX5_carries_2 1 rfl rfl)
theorem dX5_carries_98 : decode cX5_carries 98 = .ok (.getfield 39, 3) := dk_180 0 39 (dk_at dksX5_carries_2 2 rfl rfl)
theorem dX5_carries_101 : decode cX5_carries 101 = .ok (.iload_n 1, 1) := dk_27 (dk_at dksX5_carries_2 5 rfl rfl)
theorem dX5_carries_102 : decode cX5_carries 102 = .ok (.iconst 1, 1) := dk_4 (dk_at dksX5_carries_2 6 rfl rfl)
theorem dX5_carries_103 : decode cX5_carries 103 = .ok (.iadd, 1) := dk_96 (dk_at dksX5_carries_2 7 rfl rfl)
theorem dX5_carries_104 : decode cX5_carries 104 = .ok (.iaload, 1) := dk_46 (dk_at dksX5_carries_2 8 rfl rfl)
theorem dX5_carries_105 : decode cX5_carries 105 = .ok (.aload_n 0, 1) := dk_42 (dk_at dksX5_carries_2 9 rfl rfl)
theorem dX5_carries_106 : decode cX5_carries 106 = .ok (.getfield 39, 3) := dk_180 0 39 (dk_at dksX5_carries_2 10 rfl rfl)
theorem dX5_carries_109 : decode cX5_carries 109 = .ok (.iload_n 1, 1) := dk_27 (dk_at dksX5_carries_2 13 rfl rfl)
theorem dX5_carries_110 : decode cX5_carries 110 = .ok (.iconst 2, 1) := dk_5 (dk_at dksX5_carries_2 14 rfl rfl)
theorem dX5_carries_111 : decode cX5_carries 111 = .ok (.iadd, 1) := dk_96 (dk_at dksX5_carries_2 15 rfl rfl)
theorem dX5_carries_112 : decode cX5_carries 112 = .ok (.iaload, 1) := dk_46 (dk_at dksX5_carries_2 16 rfl rfl)
theorem dX5_carries_113 : decode cX5_carries 113 = .ok (.aload_n 0, 1) := dk_42 (dk_at dksX5_carries_2 17 rfl rfl)
theorem dX5_carries_114 : decode cX5_carries 114 = .ok (.getfield 39, 3) := dk_180 0 39 (dk_at dksX5_carries_2 18 rfl rfl)
theorem dX5_carries_117 : decode cX5_carries 117 = .ok (.iload_n 1, 1) := dk_27 (dk_at dksX5_carries_2 21 rfl rfl)
theorem dX5_carries_118 : decode cX5_carries 118 = .ok (.iconst 3, 1) := dk_6 (dk_at dksX5_carries_2 22 rfl rfl)
theorem dX5_carries_119 : decode cX5_carries 119 = .ok (.iadd, 1) := dk_96 (dk_at dksX5_carries_2 23 rfl rfl)
theorem dX5_carries_120 : decode cX5_carries 120 = .ok (.iaload, 1) := dk_46 (dk_at dksX5_carries_3 0 rfl rfl)
theorem dX5_carries_121 : decode cX5_carries 121 = .ok (.aload_n 0, 1) := dk_42 (dk_at dksX5_carries_3 1 rfl rfl)
theorem dX5_carries_122 : decode cX5_carries 122 = .ok (.getfield 39, 3) := dk_180 0 39 (dk_at dksX5_carries_3 2 rfl rfl)
theorem dX5_carries_125 : decode cX5_carries 125 = .ok (.iload_n 1, 1) := dk_27 (dk_at dksX5_carries_3 5 rfl rfl)
theorem dX5_carries_126 : decode cX5_carries 126 = .ok (.iconst 4, 1) := dk_7 (dk_at dksX5_carries_3 6 rfl rfl)
theorem dX5_carries_127 : decode cX5_carries 127 = .ok (.iadd, 1) := dk_96 (dk_at dksX5_carries_3 7 rfl rfl)
theorem dX5_carries_128 : decode cX5_carries 128 = .ok (.iaload, 1) := dk_46 (dk_at dksX5_carries_3 8 rfl rfl)
theorem dX5_carries_129 : decode cX5_carries 129 = .ok (.invokevirtual 260, 3) := dk_182 1 4 (dk_at dksX5_carries_3 9 rfl rfl)
theorem dX5_carries_132 : decode cX5_carries 132 = .ok (.ireturn, 1) := dk_172 (dk_at dksX5_carries_3 12 rfl rfl)
theorem dX5_carries_133 : decode cX5_carries 133 = .ok (.aload_n 0, 1) := dk_42 (dk_at dksX5_carries_3 13 rfl rfl)
theorem dX5_carries_134 : decode cX5_carries 134 = .ok (.aload_n 0, 1) := dk_42 (dk_at dksX5_carries_3 14 rfl rfl)
theorem dX5_carries_135 : decode cX5_carries 135 = .ok (.getfield 39, 3) := dk_180 0 39 (dk_at dksX5_carries_3 15 rfl rfl)
theorem dX5_carries_138 : decode cX5_carries 138 = .ok (.iload_n 1, 1) := dk_27 (dk_at dksX5_carries_3 18 rfl rfl)
theorem dX5_carries_139 : decode cX5_carries 139 = .ok (.iconst 1, 1) := dk_4 (dk_at dksX5_carries_3 19 rfl rfl)
theorem dX5_carries_140 : decode cX5_carries 140 = .ok (.iadd, 1) := dk_96 (dk_at dksX5_carries_3 20 rfl rfl)
theorem dX5_carries_141 : decode cX5_carries 141 = .ok (.iaload, 1) := dk_46 (dk_at dksX5_carries_3 21 rfl rfl)
theorem dX5_carries_142 : decode cX5_carries 142 = .ok (.invokevirtual 262, 3) := dk_182 1 6 (dk_at dksX5_carries_4 0 rfl rfl)
theorem dX5_carries_145 : decode cX5_carries 145 = .ok (.ireturn, 1) := dk_172 (dk_at dksX5_carries_4 3 rfl rfl)
theorem dX5_carries_146 : decode cX5_carries 146 = .ok (.aload_n 0, 1) := dk_42 (dk_at dksX5_carries_4 4 rfl rfl)
theorem dX5_carries_147 : decode cX5_carries 147 = .ok (.aload_n 0, 1) := dk_42 (dk_at dksX5_carries_4 5 rfl rfl)
theorem dX5_carries_148 : decode cX5_carries 148 = .ok (.getfield 39, 3) := dk_180 0 39 (dk_at dksX5_carries_4 6 rfl rfl)
theorem dX5_carries_151 : decode cX5_carries 151 = .ok (.iload_n 1, 1) := dk_27 (dk_at dksX5_carries_4 9 rfl rfl)
theorem dX5_carries_152 : decode cX5_carries 152 = .ok (.iconst 1, 1) := dk_4 (dk_at dksX5_carries_4 10 rfl rfl)
theorem dX5_carries_153 : decode cX5_carries 153 = .ok (.iadd, 1) := dk_96 (dk_at dksX5_carries_4 11 rfl rfl)
theorem dX5_carries_154 : decode cX5_carries 154 = .ok (.iaload, 1) := dk_46 (dk_at dksX5_carries_4 12 rfl rfl)
theorem dX5_carries_155 : decode cX5_carries 155 = .ok (.aload_n 0, 1) := dk_42 (dk_at dksX5_carries_4 13 rfl rfl)
theorem dX5_carries_156 : decode cX5_carries 156 = .ok (.getfield 39, 3) := dk_180 0 39 (dk_at dksX5_carries_4 14 rfl rfl)
theorem dX5_carries_159 : decode cX5_carries 159 = .ok (.iload_n 1, 1) := dk_27 (dk_at dksX5_carries_4 17 rfl rfl)
theorem dX5_carries_160 : decode cX5_carries 160 = .ok (.iconst 2, 1) := dk_5 (dk_at dksX5_carries_4 18 rfl rfl)
theorem dX5_carries_161 : decode cX5_carries 161 = .ok (.iadd, 1) := dk_96 (dk_at dksX5_carries_4 19 rfl rfl)
theorem dX5_carries_162 : decode cX5_carries 162 = .ok (.iaload, 1) := dk_46 (dk_at dksX5_carries_4 20 rfl rfl)
theorem dX5_carries_163 : decode cX5_carries 163 = .ok (.invokevirtual 264, 3) := dk_182 1 8 (dk_at dksX5_carries_4 21 rfl rfl)
theorem dX5_carries_166 : decode cX5_carries 166 = .ok (.ireturn, 1) := dk_172 (dk_at dksX5_carries_5 0 rfl rfl)
theorem dX5_carries_167 : decode cX5_carries 167 = .ok (.aload_n 0, 1) := dk_42 (dk_at dksX5_carries_5 1 rfl rfl)
theorem dX5_carries_168 : decode cX5_carries 168 = .ok (.aload_n 0, 1) := dk_42 (dk_at dksX5_carries_5 2 rfl rfl)
theorem dX5_carries_169 : decode cX5_carries 169 = .ok (.getfield 39, 3) := dk_180 0 39 (dk_at dksX5_carries_5 3 rfl rfl)
theorem dX5_carries_172 : decode cX5_carries 172 = .ok (.iload_n 1, 1) := dk_27 (dk_at dksX5_carries_5 6 rfl rfl)
theorem dX5_carries_173 : decode cX5_carries 173 = .ok (.iconst 1, 1) := dk_4 (dk_at dksX5_carries_5 7 rfl rfl)
theorem dX5_carries_174 : decode cX5_carries 174 = .ok (.iadd, 1) := dk_96 (dk_at dksX5_carries_5 8 rfl rfl)
theorem dX5_carries_175 : decode cX5_carries 175 = .ok (.iaload, 1) := dk_46 (dk_at dksX5_carries_5 9 rfl rfl)
theorem dX5_carries_176 : decode cX5_carries 176 = .ok (.aload_n 0, 1) := dk_42 (dk_at dksX5_carries_5 10 rfl rfl)
theorem dX5_carries_177 : decode cX5_carries 177 = .ok (.getfield 39, 3) := dk_180 0 39 (dk_at dksX5_carries_5 11 rfl rfl)
theorem dX5_carries_180 : decode cX5_carries 180 = .ok (.iload_n 1, 1) := dk_27 (dk_at dksX5_carries_5 14 rfl rfl)
theorem dX5_carries_181 : decode cX5_carries 181 = .ok (.iconst 2, 1) := dk_5 (dk_at dksX5_carries_5 15 rfl rfl)
theorem dX5_carries_182 : decode cX5_carries 182 = .ok (.iadd, 1) := dk_96 (dk_at dksX5_carries_5 16 rfl rfl)
theorem dX5_carries_183 : decode cX5_carries 183 = .ok (.iaload, 1) := dk_46 (dk_at dksX5_carries_5 17 rfl rfl)
theorem dX5_carries_184 : decode cX5_carries 184 = .ok (.invokevirtual 266, 3) := dk_182 1 10 (dk_at dksX5_carries_5 18 rfl rfl)
theorem dX5_carries_187 : decode cX5_carries 187 = .ok (.ireturn, 1) := dk_172 (dk_at dksX5_carries_5 21 rfl rfl)
theorem dX5_carries_188 : decode cX5_carries 188 = .ok (.aload_n 0, 1) := dk_42 (dk_at dksX5_carries_5 22 rfl rfl)
theorem dX5_carries_189 : decode cX5_carries 189 = .ok (.aload_n 0, 1) := dk_42 (dk_at dksX5_carries_5 23 rfl rfl)
theorem dX5_carries_190 : decode cX5_carries 190 = .ok (.getfield 39, 3) := dk_180 0 39 (dk_at dksX5_carries_6 0 rfl rfl)
theorem dX5_carries_193 : decode cX5_carries 193 = .ok (.iload_n 1, 1) := dk_27 (dk_at dksX5_carries_6 3 rfl rfl)
theorem dX5_carries_194 : decode cX5_carries 194 = .ok (.iconst 1, 1) := dk_4 (dk_at dksX5_carries_6 4 rfl rfl)
theorem dX5_carries_195 : decode cX5_carries 195 = .ok (.iadd, 1) := dk_96 (dk_at dksX5_carries_6 5 rfl rfl)
theorem dX5_carries_196 : decode cX5_carries 196 = .ok (.iaload, 1) := dk_46 (dk_at dksX5_carries_6 6 rfl rfl)
theorem dX5_carries_197 : decode cX5_carries 197 = .ok (.invokevirtual 268, 3) := dk_182 1 12 (dk_at dksX5_carries_6 7 rfl rfl)
theorem dX5_carries_200 : decode cX5_carries 200 = .ok (.ireturn, 1) := dk_172 (dk_at dksX5_carries_6 10 rfl rfl)
theorem dX5_carries_201 : decode cX5_carries 201 = .ok (.aload_n 0, 1) := dk_42 (dk_at dksX5_carries_6 11 rfl rfl)
theorem dX5_carries_202 : decode cX5_carries 202 = .ok (.aload_n 0, 1) := dk_42 (dk_at dksX5_carries_6 12 rfl rfl)
theorem dX5_carries_203 : decode cX5_carries 203 = .ok (.getfield 39, 3) := dk_180 0 39 (dk_at dksX5_carries_6 13 rfl rfl)
theorem dX5_carries_206 : decode cX5_carries 206 = .ok (.iload_n 1, 1) := dk_27 (dk_at dksX5_carries_6 16 rfl rfl)
theorem dX5_carries_207 : decode cX5_carries 207 = .ok (.iconst 1, 1) := dk_4 (dk_at dksX5_carries_6 17 rfl rfl)
theorem dX5_carries_208 : decode cX5_carries 208 = .ok (.iadd, 1) := dk_96 (dk_at dksX5_carries_6 18 rfl rfl)
theorem dX5_carries_209 : decode cX5_carries 209 = .ok (.iaload, 1) := dk_46 (dk_at dksX5_carries_6 19 rfl rfl)
theorem dX5_carries_210 : decode cX5_carries 210 = .ok (.invokevirtual 270, 3) := dk_182 1 14 (dk_at dksX5_carries_6 20 rfl rfl)
theorem dX5_carries_213 : decode cX5_carries 213 = .ok (.ireturn, 1) := dk_172 (dk_at dksX5_carries_6 23 rfl rfl)
theorem dX5_carries_214 : decode cX5_carries 214 = .ok (.aload_n 0, 1) := dk_42 (dk_at dksX5_carries_7 0 rfl rfl)
theorem dX5_carries_215 : decode cX5_carries 215 = .ok (.aload_n 0, 1) := dk_42 (dk_at dksX5_carries_7 1 rfl rfl)
theorem dX5_carries_216 : decode cX5_carries 216 = .ok (.getfield 39, 3) := dk_180 0 39 (dk_at dksX5_carries_7 2 rfl rfl)
theorem dX5_carries_219 : decode cX5_carries 219 = .ok (.iload_n 1, 1) := dk_27 (dk_at dksX5_carries_7 5 rfl rfl)
theorem dX5_carries_220 : decode cX5_carries 220 = .ok (.iconst 1, 1) := dk_4 (dk_at dksX5_carries_7 6 rfl rfl)
theorem dX5_carries_221 : decode cX5_carries 221 = .ok (.iadd, 1) := dk_96 (dk_at dksX5_carries_7 7 rfl rfl)
theorem dX5_carries_222 : decode cX5_carries 222 = .ok (.iaload, 1) := dk_46 (dk_at dksX5_carries_7 8 rfl rfl)
theorem dX5_carries_223 : decode cX5_carries 223 = .ok (.invokevirtual 272, 3) := dk_182 1 16 (dk_at dksX5_carries_7 9 rfl rfl)
theorem dX5_carries_226 : decode cX5_carries 226 = .ok (.ireturn, 1) := dk_172 (dk_at dksX5_carries_7 12 rfl rfl)
theorem dX5_carries_227 : decode cX5_carries 227 = .ok (.aload_n 0, 1) := dk_42 (dk_at dksX5_carries_7 13 rfl rfl)
theorem dX5_carries_228 : decode cX5_carries 228 = .ok (.aload_n 0, 1) := dk_42 (dk_at dksX5_carries_7 14 rfl rfl)
theorem dX5_carries_229 : decode cX5_carries 229 = .ok (.getfield 39, 3) := dk_180 0 39 (dk_at dksX5_carries_7 15 rfl rfl)
theorem dX5_carries_232 : decode cX5_carries 232 = .ok (.iload_n 1, 1) := dk_27 (dk_at dksX5_carries_7 18 rfl rfl)
theorem dX5_carries_233 : decode cX5_carries 233 = .ok (.iconst 1, 1) := dk_4 (dk_at dksX5_carries_7 19 rfl rfl)
theorem dX5_carries_234 : decode cX5_carries 234 = .ok (.iadd, 1) := dk_96 (dk_at dksX5_carries_7 20 rfl rfl)
theorem dX5_carries_235 : decode cX5_carries 235 = .ok (.iaload, 1) := dk_46 (dk_at dksX5_carries_7 21 rfl rfl)
theorem dX5_carries_236 : decode cX5_carries 236 = .ok (.invokevirtual 274, 3) := dk_182 1 18 (dk_at dksX5_carries_8 0 rfl rfl)
theorem dX5_carries_239 : decode cX5_carries 239 = .ok (.ireturn, 1) := dk_172 (dk_at dksX5_carries_8 3 rfl rfl)
abbrev cX5_errorPosition : ByteArray := prog_18_method_81_code
def yX5_errorPosition : MethodName := ⟨RX5, "errorPosition", "()I"⟩
def dkwX5_errorPosition_1 : List UInt8 := [180, 0, 28, 172]
abbrev dktX5_errorPosition_1 : List UInt8 := dkwX5_errorPosition_1 ++ []
def dkwX5_errorPosition_0 : List UInt8 := [42, 42, 180, 0, 28, 156, 0, 7, 4, 167, 0, 4, 3, 182, 0, 73, 153, 0, 7, 3, 167, 0, 7, 42]
abbrev dktX5_errorPosition_0 : List UInt8 := dkwX5_errorPosition_0 ++ dktX5_errorPosition_1
theorem dksX5_errorPosition_0 : cX5_errorPosition.data.toList.drop 0 = dktX5_errorPosition_0 := by decide +kernel
theorem dksX5_errorPosition_1 : cX5_errorPosition.data.toList.drop 24 = dktX5_errorPosition_1 := dk_seg dksX5_errorPosition_0 24 rfl rfl
theorem dX5_errorPosition_0 : decode cX5_errorPosition 0 = .ok (.aload_n 0, 1) := dk_42 (dk_at dksX5_errorPosition_0 0 rfl rfl)
theorem dX5_errorPosition_1 : decode cX5_errorPosition 1 = .ok (.aload_n 0, 1) := dk_42 (dk_at dksX5_errorPosition_0 1 rfl rfl)
theorem dX5_errorPosition_2 : decode cX5_errorPosition 2 = .ok (.getfield 28, 3) := dk_180 0 28 (dk_at dksX5_errorPosition_0 2 rfl rfl)
theorem dX5_errorPosition_5 : decode cX5_errorPosition 5 = .ok (.ifCond .ge 7, 3) := dk_156 0 7 (dk_at dksX5_errorPosition_0 5 rfl rfl)
theorem dX5_errorPosition_8 : decode cX5_errorPosition 8 = .ok (.iconst 1, 1) := dk_4 (dk_at dksX5_errorPosition_0 8 rfl rfl)
theorem dX5_errorPosition_9 : decode cX5_errorPosition 9 = .ok (.goto 4, 3) := dk_167 0 4 (dk_at dksX5_errorPosition_0 9 rfl rfl)
theorem dX5_errorPosition_12 : decode cX5_errorPosition 12 = .ok (.iconst 0, 1) := dk_3 (dk_at dksX5_errorPosition_0 12 rfl rfl)
theorem dX5_errorPosition_13 : decode cX5_errorPosition 13 = .ok (.invokevirtual 73, 3) := dk_182 0 73 (dk_at dksX5_errorPosition_0 13 rfl rfl)
theorem dX5_errorPosition_16 : decode cX5_errorPosition 16 = .ok (.ifCond .eq 7, 3) := dk_153 0 7 (dk_at dksX5_errorPosition_0 16 rfl rfl)
theorem dX5_errorPosition_19 : decode cX5_errorPosition 19 = .ok (.iconst 0, 1) := dk_3 (dk_at dksX5_errorPosition_0 19 rfl rfl)
theorem dX5_errorPosition_20 : decode cX5_errorPosition 20 = .ok (.goto 7, 3) := dk_167 0 7 (dk_at dksX5_errorPosition_0 20 rfl rfl)
theorem dX5_errorPosition_23 : decode cX5_errorPosition 23 = .ok (.aload_n 0, 1) := dk_42 (dk_at dksX5_errorPosition_0 23 rfl rfl)
theorem dX5_errorPosition_24 : decode cX5_errorPosition 24 = .ok (.getfield 28, 3) := dk_180 0 28 (dk_at dksX5_errorPosition_1 0 rfl rfl)
theorem dX5_errorPosition_27 : decode cX5_errorPosition 27 = .ok (.ireturn, 1) := dk_172 (dk_at dksX5_errorPosition_1 3 rfl rfl)
abbrev cX5_refusedItem : ByteArray := prog_18_method_82_code
def yX5_refusedItem : MethodName := ⟨RX5, "refusedItem", "()I"⟩
def dkwX5_refusedItem_1 : List UInt8 := [180, 0, 32, 172]
abbrev dktX5_refusedItem_1 : List UInt8 := dkwX5_refusedItem_1 ++ []
def dkwX5_refusedItem_0 : List UInt8 := [42, 42, 180, 0, 32, 156, 0, 7, 4, 167, 0, 4, 3, 182, 0, 73, 153, 0, 7, 3, 167, 0, 7, 42]
abbrev dktX5_refusedItem_0 : List UInt8 := dkwX5_refusedItem_0 ++ dktX5_refusedItem_1
theorem dksX5_refusedItem_0 : cX5_refusedItem.data.toList.drop 0 = dktX5_refusedItem_0 := by decide +kernel
theorem dksX5_refusedItem_1 : cX5_refusedItem.data.toList.drop 24 = dktX5_refusedItem_1 := dk_seg dksX5_refusedItem_0 24 rfl rfl
theorem dX5_refusedItem_0 : decode cX5_refusedItem 0 = .ok (.aload_n 0, 1) := dk_42 (dk_at dksX5_refusedItem_0 0 rfl rfl)
theorem dX5_refusedItem_1 : decode cX5_refusedItem 1 = .ok (.aload_n 0, 1) := dk_42 (dk_at dksX5_refusedItem_0 1 rfl rfl)
theorem dX5_refusedItem_2 : decode cX5_refusedItem 2 = .ok (.getfield 32, 3) := dk_180 0 32 (dk_at dksX5_refusedItem_0 2 rfl rfl)
theorem dX5_refusedItem_5 : decode cX5_refusedItem 5 = .ok (.ifCond .ge 7, 3) := dk_156 0 7 (dk_at dksX5_refusedItem_0 5 rfl rfl)
theorem dX5_refusedItem_8 : decode cX5_refusedItem 8 = .ok (.iconst 1, 1) := dk_4 (dk_at dksX5_refusedItem_0 8 rfl rfl)
theorem dX5_refusedItem_9 : decode cX5_refusedItem 9 = .ok (.goto 4, 3) := dk_167 0 4 (dk_at dksX5_refusedItem_0 9 rfl rfl)
theorem dX5_refusedItem_12 : decode cX5_refusedItem 12 = .ok (.iconst 0, 1) := dk_3 (dk_at dksX5_refusedItem_0 12 rfl rfl)
theorem dX5_refusedItem_13 : decode cX5_refusedItem 13 = .ok (.invokevirtual 73, 3) := dk_182 0 73 (dk_at dksX5_refusedItem_0 13 rfl rfl)
theorem dX5_refusedItem_16 : decode cX5_refusedItem 16 = .ok (.ifCond .eq 7, 3) := dk_153 0 7 (dk_at dksX5_refusedItem_0 16 rfl rfl)
theorem dX5_refusedItem_19 : decode cX5_refusedItem 19 = .ok (.iconst 0, 1) := dk_3 (dk_at dksX5_refusedItem_0 19 rfl rfl)
theorem dX5_refusedItem_20 : decode cX5_refusedItem 20 = .ok (.goto 7, 3) := dk_167 0 7 (dk_at dksX5_refusedItem_0 20 rfl rfl)
theorem dX5_refusedItem_23 : decode cX5_refusedItem 23 = .ok (.aload_n 0, 1) := dk_42 (dk_at dksX5_refusedItem_0 23 rfl rfl)
theorem dX5_refusedItem_24 : decode cX5_refusedItem 24 = .ok (.getfield 32, 3) := dk_180 0 32 (dk_at dksX5_refusedItem_1 0 rfl rfl)
theorem dX5_refusedItem_27 : decode cX5_refusedItem 27 = .ok (.ireturn, 1) := dk_172 (dk_at dksX5_refusedItem_1 3 rfl rfl)
abbrev cX5_undo : ByteArray := prog_18_method_83_code
def yX5_undo : MethodName := ⟨RX5, "undo", "()I"⟩
def dkwX5_undo_2 : List UInt8 := [3, 184, 0, 61, 42, 180, 0, 58, 172]
abbrev dktX5_undo_2 : List UInt8 := dkwX5_undo_2 ++ []
def dkwX5_undo_1 : List UInt8 := [180, 0, 58, 4, 100, 181, 0, 58, 42, 180, 0, 13, 17, 0, 221, 42, 180, 0, 58, 104, 42, 180, 0, 7]
abbrev dktX5_undo_1 : List UInt8 := dkwX5_undo_1 ++ dktX5_undo_2
def dkwX5_undo_0 : List UInt8 := [42, 42, 180, 0, 58, 154, 0, 7, 4, 167, 0, 4, 3, 182, 0, 73, 153, 0, 5, 3, 172, 42, 89]
abbrev dktX5_undo_0 : List UInt8 := dkwX5_undo_0 ++ dktX5_undo_1
theorem dksX5_undo_0 : cX5_undo.data.toList.drop 0 = dktX5_undo_0 := by decide +kernel
theorem dksX5_undo_1 : cX5_undo.data.toList.drop 23 = dktX5_undo_1 := dk_seg dksX5_undo_0 23 rfl rfl
theorem dksX5_undo_2 : cX5_undo.data.toList.drop 47 = dktX5_undo_2 := dk_seg dksX5_undo_1 24 rfl rfl
theorem dX5_undo_0 : decode cX5_undo 0 = .ok (.aload_n 0, 1) := dk_42 (dk_at dksX5_undo_0 0 rfl rfl)
theorem dX5_undo_1 : decode cX5_undo 1 = .ok (.aload_n 0, 1) := dk_42 (dk_at dksX5_undo_0 1 rfl rfl)
theorem dX5_undo_2 : decode cX5_undo 2 = .ok (.getfield 58, 3) := dk_180 0 58 (dk_at dksX5_undo_0 2 rfl rfl)
theorem dX5_undo_5 : decode cX5_undo 5 = .ok (.ifCond .ne 7, 3) := dk_154 0 7 (dk_at dksX5_undo_0 5 rfl rfl)
theorem dX5_undo_8 : decode cX5_undo 8 = .ok (.iconst 1, 1) := dk_4 (dk_at dksX5_undo_0 8 rfl rfl)
theorem dX5_undo_9 : decode cX5_undo 9 = .ok (.goto 4, 3) := dk_167 0 4 (dk_at dksX5_undo_0 9 rfl rfl)
theorem dX5_undo_12 : decode cX5_undo 12 = .ok (.iconst 0, 1) := dk_3 (dk_at dksX5_undo_0 12 rfl rfl)
theorem dX5_undo_13 : decode cX5_undo 13 = .ok (.invokevirtual 73, 3) := dk_182 0 73 (dk_at dksX5_undo_0 13 rfl rfl)
theorem dX5_undo_16 : decode cX5_undo 16 = .ok (.ifCond .eq 5, 3) := dk_153 0 5 (dk_at dksX5_undo_0 16 rfl rfl)
theorem dX5_undo_19 : decode cX5_undo 19 = .ok (.iconst 0, 1) := dk_3 (dk_at dksX5_undo_0 19 rfl rfl)
theorem dX5_undo_20 : decode cX5_undo 20 = .ok (.ireturn, 1) := dk_172 (dk_at dksX5_undo_0 20 rfl rfl)
theorem dX5_undo_21 : decode cX5_undo 21 = .ok (.aload_n 0, 1) := dk_42 (dk_at dksX5_undo_0 21 rfl rfl)
theorem dX5_undo_22 : decode cX5_undo 22 = .ok (.dup, 1) := dk_89 (dk_at dksX5_undo_0 22 rfl rfl)
theorem dX5_undo_23 : decode cX5_undo 23 = .ok (.getfield 58, 3) := dk_180 0 58 (dk_at dksX5_undo_1 0 rfl rfl)
theorem dX5_undo_26 : decode cX5_undo 26 = .ok (.iconst 1, 1) := dk_4 (dk_at dksX5_undo_1 3 rfl rfl)
theorem dX5_undo_27 : decode cX5_undo 27 = .ok (.isub, 1) := dk_100 (dk_at dksX5_undo_1 4 rfl rfl)
theorem dX5_undo_28 : decode cX5_undo 28 = .ok (.putfield 58, 3) := dk_181 0 58 (dk_at dksX5_undo_1 5 rfl rfl)
theorem dX5_undo_31 : decode cX5_undo 31 = .ok (.aload_n 0, 1) := dk_42 (dk_at dksX5_undo_1 8 rfl rfl)
theorem dX5_undo_32 : decode cX5_undo 32 = .ok (.getfield 13, 3) := dk_180 0 13 (dk_at dksX5_undo_1 9 rfl rfl)
theorem dX5_undo_35 : decode cX5_undo 35 = .ok (.sipush 221, 3) := dk_17 0 221 (dk_at dksX5_undo_1 12 rfl rfl)
theorem dX5_undo_38 : decode cX5_undo 38 = .ok (.aload_n 0, 1) := dk_42 (dk_at dksX5_undo_1 15 rfl rfl)
theorem dX5_undo_39 : decode cX5_undo 39 = .ok (.getfield 58, 3) := dk_180 0 58 (dk_at dksX5_undo_1 16 rfl rfl)
theorem dX5_undo_42 : decode cX5_undo 42 = .ok (.imul, 1) := dk_104 (dk_at dksX5_undo_1 19 rfl rfl)
theorem dX5_undo_43 : decode cX5_undo 43 = .ok (.aload_n 0, 1) := dk_42 (dk_at dksX5_undo_1 20 rfl rfl)
theorem dX5_undo_44 : decode cX5_undo 44 = .ok (.getfield 7, 3) := dk_180 0 7 (dk_at dksX5_undo_1 21 rfl rfl)
theorem dX5_undo_47 : decode cX5_undo 47 = .ok (.iconst 0, 1) := dk_3 (dk_at dksX5_undo_2 0 rfl rfl)
theorem dX5_undo_48 : decode cX5_undo 48 = .ok (.invokestatic 61, 3) := dk_184 0 61 (dk_at dksX5_undo_2 1 rfl rfl)
theorem dX5_undo_51 : decode cX5_undo 51 = .ok (.aload_n 0, 1) := dk_42 (dk_at dksX5_undo_2 4 rfl rfl)
theorem dX5_undo_52 : decode cX5_undo 52 = .ok (.getfield 58, 3) := dk_180 0 58 (dk_at dksX5_undo_2 5 rfl rfl)
theorem dX5_undo_55 : decode cX5_undo 55 = .ok (.ireturn, 1) := dk_172 (dk_at dksX5_undo_2 8 rfl rfl)
abbrev cX5_snapshot : ByteArray := prog_18_method_84_code
def yX5_snapshot : MethodName := ⟨RX5, "snapshot", "()I"⟩
def dkwX5_snapshot_1 : List UInt8 := [180, 0, 7, 3, 46, 172]
abbrev dktX5_snapshot_1 : List UInt8 := dkwX5_snapshot_1 ++ []
def dkwX5_snapshot_0 : List UInt8 := [42, 3, 181, 0, 45, 42, 4, 181, 1, 26, 42, 180, 0, 7, 3, 42, 180, 0, 16, 3, 184, 0, 61, 42]
abbrev dktX5_snapshot_0 : List UInt8 := dkwX5_snapshot_0 ++ dktX5_snapshot_1
theorem dksX5_snapshot_0 : cX5_snapshot.data.toList.drop 0 = dktX5_snapshot_0 := by decide +kernel
theorem dksX5_snapshot_1 : cX5_snapshot.data.toList.drop 24 = dktX5_snapshot_1 := dk_seg dksX5_snapshot_0 24 rfl rfl
theorem dX5_snapshot_0 : decode cX5_snapshot 0 = .ok (.aload_n 0, 1) := dk_42 (dk_at dksX5_snapshot_0 0 rfl rfl)
theorem dX5_snapshot_1 : decode cX5_snapshot 1 = .ok (.iconst 0, 1) := dk_3 (dk_at dksX5_snapshot_0 1 rfl rfl)
theorem dX5_snapshot_2 : decode cX5_snapshot 2 = .ok (.putfield 45, 3) := dk_181 0 45 (dk_at dksX5_snapshot_0 2 rfl rfl)
theorem dX5_snapshot_5 : decode cX5_snapshot 5 = .ok (.aload_n 0, 1) := dk_42 (dk_at dksX5_snapshot_0 5 rfl rfl)
theorem dX5_snapshot_6 : decode cX5_snapshot 6 = .ok (.iconst 1, 1) := dk_4 (dk_at dksX5_snapshot_0 6 rfl rfl)
theorem dX5_snapshot_7 : decode cX5_snapshot 7 = .ok (.putfield 282, 3) := dk_181 1 26 (dk_at dksX5_snapshot_0 7 rfl rfl)
theorem dX5_snapshot_10 : decode cX5_snapshot 10 = .ok (.aload_n 0, 1) := dk_42 (dk_at dksX5_snapshot_0 10 rfl rfl)
theorem dX5_snapshot_11 : decode cX5_snapshot 11 = .ok (.getfield 7, 3) := dk_180 0 7 (dk_at dksX5_snapshot_0 11 rfl rfl)
theorem dX5_snapshot_14 : decode cX5_snapshot 14 = .ok (.iconst 0, 1) := dk_3 (dk_at dksX5_snapshot_0 14 rfl rfl)
theorem dX5_snapshot_15 : decode cX5_snapshot 15 = .ok (.aload_n 0, 1) := dk_42 (dk_at dksX5_snapshot_0 15 rfl rfl)
theorem dX5_snapshot_16 : decode cX5_snapshot 16 = .ok (.getfield 16, 3) := dk_180 0 16 (dk_at dksX5_snapshot_0 16 rfl rfl)
theorem dX5_snapshot_19 : decode cX5_snapshot 19 = .ok (.iconst 0, 1) := dk_3 (dk_at dksX5_snapshot_0 19 rfl rfl)
theorem dX5_snapshot_20 : decode cX5_snapshot 20 = .ok (.invokestatic 61, 3) := dk_184 0 61 (dk_at dksX5_snapshot_0 20 rfl rfl)
theorem dX5_snapshot_23 : decode cX5_snapshot 23 = .ok (.aload_n 0, 1) := dk_42 (dk_at dksX5_snapshot_0 23 rfl rfl)
theorem dX5_snapshot_24 : decode cX5_snapshot 24 = .ok (.getfield 7, 3) := dk_180 0 7 (dk_at dksX5_snapshot_1 0 rfl rfl)
theorem dX5_snapshot_27 : decode cX5_snapshot 27 = .ok (.iconst 0, 1) := dk_3 (dk_at dksX5_snapshot_1 3 rfl rfl)
theorem dX5_snapshot_28 : decode cX5_snapshot 28 = .ok (.iaload, 1) := dk_46 (dk_at dksX5_snapshot_1 4 rfl rfl)
theorem dX5_snapshot_29 : decode cX5_snapshot 29 = .ok (.ireturn, 1) := dk_172 (dk_at dksX5_snapshot_1 5 rfl rfl)
abbrev cX5_restore : ByteArray := prog_18_method_85_code
def yX5_restore : MethodName := ⟨RX5, "restore", "()I"⟩
def dkwX5_restore_1 : List UInt8 := [180, 0, 16, 3, 42, 180, 0, 7, 3, 184, 0, 61, 42, 3, 181, 0, 58, 42, 180, 0, 7, 3, 46, 172]
abbrev dktX5_restore_1 : List UInt8 := dkwX5_restore_1 ++ []
def dkwX5_restore_0 : List UInt8 := [42, 42, 180, 1, 26, 153, 0, 7, 3, 167, 0, 4, 4, 182, 0, 73, 153, 0, 5, 3, 172, 42]
abbrev dktX5_restore_0 : List UInt8 := dkwX5_restore_0 ++ dktX5_restore_1
theorem dksX5_restore_0 : cX5_restore.data.toList.drop 0 = dktX5_restore_0 := by decide +kernel
theorem dksX5_restore_1 : cX5_restore.data.toList.drop 22 = dktX5_restore_1 := dk_seg dksX5_restore_0 22 rfl rfl
theorem dX5_restore_0 : decode cX5_restore 0 = .ok (.aload_n 0, 1) := dk_42 (dk_at dksX5_restore_0 0 rfl rfl)
theorem dX5_restore_1 : decode cX5_restore 1 = .ok (.aload_n 0, 1) := dk_42 (dk_at dksX5_restore_0 1 rfl rfl)
theorem dX5_restore_2 : decode cX5_restore 2 = .ok (.getfield 282, 3) := dk_180 1 26 (dk_at dksX5_restore_0 2 rfl rfl)
theorem dX5_restore_5 : decode cX5_restore 5 = .ok (.ifCond .eq 7, 3) := dk_153 0 7 (dk_at dksX5_restore_0 5 rfl rfl)
theorem dX5_restore_8 : decode cX5_restore 8 = .ok (.iconst 0, 1) := dk_3 (dk_at dksX5_restore_0 8 rfl rfl)
theorem dX5_restore_9 : decode cX5_restore 9 = .ok (.goto 4, 3) := dk_167 0 4 (dk_at dksX5_restore_0 9 rfl rfl)
theorem dX5_restore_12 : decode cX5_restore 12 = .ok (.iconst 1, 1) := dk_4 (dk_at dksX5_restore_0 12 rfl rfl)
theorem dX5_restore_13 : decode cX5_restore 13 = .ok (.invokevirtual 73, 3) := dk_182 0 73 (dk_at dksX5_restore_0 13 rfl rfl)
theorem dX5_restore_16 : decode cX5_restore 16 = .ok (.ifCond .eq 5, 3) := dk_153 0 5 (dk_at dksX5_restore_0 16 rfl rfl)
theorem dX5_restore_19 : decode cX5_restore 19 = .ok (.iconst 0, 1) := dk_3 (dk_at dksX5_restore_0 19 rfl rfl)
theorem dX5_restore_20 : decode cX5_restore 20 = .ok (.ireturn, 1) := dk_172 (dk_at dksX5_restore_0 20 rfl rfl)
theorem dX5_restore_21 : decode cX5_restore 21 = .ok (.aload_n 0, 1) := dk_42 (dk_at dksX5_restore_0 21 rfl rfl)
theorem dX5_restore_22 : decode cX5_restore 22 = .ok (.getfield 16, 3) := dk_180 0 16 (dk_at dksX5_restore_1 0 rfl rfl)
theorem dX5_restore_25 : decode cX5_restore 25 = .ok (.iconst 0, 1) := dk_3 (dk_at dksX5_restore_1 3 rfl rfl)
theorem dX5_restore_26 : decode cX5_restore 26 = .ok (.aload_n 0, 1) := dk_42 (dk_at dksX5_restore_1 4 rfl rfl)
theorem dX5_restore_27 : decode cX5_restore 27 = .ok (.getfield 7, 3) := dk_180 0 7 (dk_at dksX5_restore_1 5 rfl rfl)
theorem dX5_restore_30 : decode cX5_restore 30 = .ok (.iconst 0, 1) := dk_3 (dk_at dksX5_restore_1 8 rfl rfl)
theorem dX5_restore_31 : decode cX5_restore 31 = .ok (.invokestatic 61, 3) := dk_184 0 61 (dk_at dksX5_restore_1 9 rfl rfl)
theorem dX5_restore_34 : decode cX5_restore 34 = .ok (.aload_n 0, 1) := dk_42 (dk_at dksX5_restore_1 12 rfl rfl)
theorem dX5_restore_35 : decode cX5_restore 35 = .ok (.iconst 0, 1) := dk_3 (dk_at dksX5_restore_1 13 rfl rfl)
theorem dX5_restore_36 : decode cX5_restore 36 = .ok (.putfield 58, 3) := dk_181 0 58 (dk_at dksX5_restore_1 14 rfl rfl)
theorem dX5_restore_39 : decode cX5_restore 39 = .ok (.aload_n 0, 1) := dk_42 (dk_at dksX5_restore_1 17 rfl rfl)
theorem dX5_restore_40 : decode cX5_restore 40 = .ok (.getfield 7, 3) := dk_180 0 7 (dk_at dksX5_restore_1 18 rfl rfl)
theorem dX5_restore_43 : decode cX5_restore 43 = .ok (.iconst 0, 1) := dk_3 (dk_at dksX5_restore_1 21 rfl rfl)
theorem dX5_restore_44 : decode cX5_restore 44 = .ok (.iaload, 1) := dk_46 (dk_at dksX5_restore_1 22 rfl rfl)
theorem dX5_restore_45 : decode cX5_restore 45 = .ok (.ireturn, 1) := dk_172 (dk_at dksX5_restore_1 23 rfl rfl)
theorem q76 : (Jvm.Cond.initialized "MustardMillModel") ∈ lw_all := lw_g (lw_at lw_m1 13 rfl) rfl
theorem q851 : (Jvm.Cond.selects "MustardMillModel" ({ cls := "java/lang/Object", name := "getClass", desc := "()Ljava/lang/Class;" } : Jvm.MethodName) ({ cls := "java/lang/Object", name := "getClass", desc := "()Ljava/lang/Class;" } : Jvm.MethodName)) ∈ lw_all := lw_g (lw_at lw_m4 68 rfl) rfl
theorem q2073 : (Jvm.Cond.instantiable "MustardMillModel" (20 : Nat)) ∈ lw_all := lw_g (lw_at lw_m9 90 rfl) rfl
theorem q2075 : (Jvm.Cond.instanceMethod ({ cls := "MustardMillModel", name := "<init>", desc := "()V" } : Jvm.MethodName)) ∈ lw_all := lw_g (lw_at lw_m9 92 rfl) rfl
theorem q2076 : (Jvm.Cond.code ({ cls := "MustardMillModel", name := "<init>", desc := "()V" } : Jvm.MethodName) prog_18_method_1_code (1 : Nat) (Option.none : Option Jvm.ClassFile.FieldType)) ∈ lw_all := lw_g (lw_at lw_m9 93 rfl) rfl
theorem q2077 : (Jvm.Cond.methodLink "MustardMillModel" (1 : Nat) ({ cls := "java/lang/Object", name := "<init>", desc := "()V" } : Jvm.MethodName)) ∈ lw_all := lw_g (lw_at lw_m9 94 rfl) rfl
theorem q2078 : (Jvm.Cond.methodLink "MustardMillModel" (42 : Nat) ({ cls := "MustardMillModel", name := "begins", desc := "()V" } : Jvm.MethodName)) ∈ lw_all := lw_g (lw_at lw_m9 95 rfl) rfl
theorem q2079 : (Jvm.Cond.privateMethod ({ cls := "MustardMillModel", name := "begins", desc := "()V" } : Jvm.MethodName)) ∈ lw_tbl := lw_at lw_m9 96 rfl
theorem q2080 : (Jvm.Cond.instanceMethod ({ cls := "MustardMillModel", name := "begins", desc := "()V" } : Jvm.MethodName)) ∈ lw_all := lw_g (lw_at lw_m9 97 rfl) rfl
theorem q2081 : (Jvm.Cond.code ({ cls := "MustardMillModel", name := "begins", desc := "()V" } : Jvm.MethodName) prog_18_method_2_code (2 : Nat) (Option.none : Option Jvm.ClassFile.FieldType)) ∈ lw_all := lw_g (lw_at lw_m9 98 rfl) rfl
theorem q2082 : (Jvm.Cond.fieldLink "MustardMillModel" (7 : Nat) "MustardMillModel" "g" "[I") ∈ lw_all := lw_g (lw_at lw_m9 99 rfl) rfl
theorem q2083 : (Jvm.Cond.fieldLink "MustardMillModel" (13 : Nat) "MustardMillModel" "kept" "[I") ∈ lw_all := lw_g (lw_at lw_m9 100 rfl) rfl
theorem q2084 : (Jvm.Cond.fieldLink "MustardMillModel" (16 : Nat) "MustardMillModel" "saved" "[I") ∈ lw_all := lw_g (lw_at lw_m9 101 rfl) rfl
theorem q2085 : (Jvm.Cond.fieldLink "MustardMillModel" (19 : Nat) "MustardMillModel" "before" "[I") ∈ lw_all := lw_g (lw_at lw_m9 102 rfl) rfl
theorem q2086 : (Jvm.Cond.fieldLink "MustardMillModel" (22 : Nat) "MustardMillModel" "spare" "[I") ∈ lw_all := lw_g (lw_at lw_m9 103 rfl) rfl
theorem q2087 : (Jvm.Cond.fieldLink "MustardMillModel" (282 : Nat) "MustardMillModel" "isSaved" "Z") ∈ lw_all := lw_g (lw_at lw_m9 104 rfl) rfl
theorem q2088 : (Jvm.Cond.fieldLink "MustardMillModel" (58 : Nat) "MustardMillModel" "changes" "I") ∈ lw_all := lw_g (lw_at lw_m9 105 rfl) rfl
theorem q2089 : (Jvm.Cond.fieldLink "MustardMillModel" (54 : Nat) "MustardMillModel" "isWithin" "Z") ∈ lw_all := lw_g (lw_at lw_m9 106 rfl) rfl
theorem q2090 : (Jvm.Cond.fieldLink "MustardMillModel" (45 : Nat) "MustardMillModel" "code" "I") ∈ lw_all := lw_g (lw_at lw_m9 107 rfl) rfl
theorem q2091 : (Jvm.Cond.fieldLink "MustardMillModel" (48 : Nat) "MustardMillModel" "why" "I") ∈ lw_all := lw_g (lw_at lw_m9 108 rfl) rfl
theorem q2092 : (Jvm.Cond.fieldLink "MustardMillModel" (51 : Nat) "MustardMillModel" "detail" "I") ∈ lw_all := lw_g (lw_at lw_m9 109 rfl) rfl
theorem q2093 : (Jvm.Cond.fieldLink "MustardMillModel" (25 : Nat) "MustardMillModel" "input" "[I") ∈ lw_all := lw_g (lw_at lw_m9 110 rfl) rfl
theorem q2094 : (Jvm.Cond.fieldLink "MustardMillModel" (216 : Nat) "MustardMillModel" "length" "I") ∈ lw_all := lw_g (lw_at lw_m9 111 rfl) rfl
theorem q2095 : (Jvm.Cond.fieldLink "MustardMillModel" (28 : Nat) "MustardMillModel" "error" "I") ∈ lw_all := lw_g (lw_at lw_m9 112 rfl) rfl
theorem q2096 : (Jvm.Cond.fieldLink "MustardMillModel" (32 : Nat) "MustardMillModel" "item" "I") ∈ lw_all := lw_g (lw_at lw_m9 113 rfl) rfl
theorem q2097 : (Jvm.Cond.fieldLink "MustardMillModel" (35 : Nat) "MustardMillModel" "signs" "[C") ∈ lw_all := lw_g (lw_at lw_m9 114 rfl) rfl
theorem q2098 : (Jvm.Cond.fieldLink "MustardMillModel" (173 : Nat) "MustardMillModel" "signMany" "I") ∈ lw_all := lw_g (lw_at lw_m9 115 rfl) rfl
theorem q2099 : (Jvm.Cond.fieldLink "MustardMillModel" (218 : Nat) "MustardMillModel" "at" "I") ∈ lw_all := lw_g (lw_at lw_m9 116 rfl) rfl
theorem q2100 : (Jvm.Cond.fieldLink "MustardMillModel" (39 : Nat) "MustardMillModel" "told" "[I") ∈ lw_all := lw_g (lw_at lw_m9 117 rfl) rfl
theorem q2101 : (Jvm.Cond.fieldLink "MustardMillModel" (247 : Nat) "MustardMillModel" "toldMany" "I") ∈ lw_all := lw_g (lw_at lw_m9 118 rfl) rfl
theorem q2102 : (Jvm.Cond.laysFinal "MustardMillModel" "MustardMillModel" "g" "[I") ∈ lw_all := lw_g (lw_at lw_m9 119 rfl) rfl
theorem q2103 : (Jvm.Cond.soleField "MustardMillModel" "g") ∈ lw_all := lw_g (lw_at lw_m9 120 rfl) rfl
theorem q2104 : (Jvm.Cond.laysFinal "MustardMillModel" "MustardMillModel" "kept" "[I") ∈ lw_all := lw_g (lw_at lw_m9 121 rfl) rfl
theorem q2105 : (Jvm.Cond.soleField "MustardMillModel" "kept") ∈ lw_all := lw_g (lw_at lw_m9 122 rfl) rfl
theorem q2106 : (Jvm.Cond.laysFinal "MustardMillModel" "MustardMillModel" "saved" "[I") ∈ lw_all := lw_g (lw_at lw_m9 123 rfl) rfl
theorem q2107 : (Jvm.Cond.soleField "MustardMillModel" "saved") ∈ lw_all := lw_g (lw_at lw_m9 124 rfl) rfl
theorem q2108 : (Jvm.Cond.laysFinal "MustardMillModel" "MustardMillModel" "before" "[I") ∈ lw_all := lw_g (lw_at lw_m9 125 rfl) rfl
theorem q2109 : (Jvm.Cond.soleField "MustardMillModel" "before") ∈ lw_all := lw_g (lw_at lw_m9 126 rfl) rfl
theorem q2110 : (Jvm.Cond.laysFinal "MustardMillModel" "MustardMillModel" "spare" "[I") ∈ lw_all := lw_g (lw_at lw_m9 127 rfl) rfl
theorem q2111 : (Jvm.Cond.soleField "MustardMillModel" "spare") ∈ lw_all := lw_g (lw_at lw_m9 128 rfl) rfl
theorem q2112 : (Jvm.Cond.lays "MustardMillModel" "MustardMillModel" "isSaved" "Z") ∈ lw_all := lw_g (lw_at lw_m9 129 rfl) rfl
theorem q2113 : (Jvm.Cond.soleField "MustardMillModel" "isSaved") ∈ lw_all := lw_g (lw_at lw_m9 130 rfl) rfl
theorem q2114 : (Jvm.Cond.lays "MustardMillModel" "MustardMillModel" "changes" "I") ∈ lw_all := lw_g (lw_at lw_m9 131 rfl) rfl
theorem q2115 : (Jvm.Cond.soleField "MustardMillModel" "changes") ∈ lw_all := lw_g (lw_at lw_m9 132 rfl) rfl
theorem q2116 : (Jvm.Cond.lays "MustardMillModel" "MustardMillModel" "isWithin" "Z") ∈ lw_all := lw_g (lw_at lw_m9 133 rfl) rfl
theorem q2117 : (Jvm.Cond.soleField "MustardMillModel" "isWithin") ∈ lw_all := lw_g (lw_at lw_m9 134 rfl) rfl
theorem q2118 : (Jvm.Cond.lays "MustardMillModel" "MustardMillModel" "code" "I") ∈ lw_all := lw_g (lw_at lw_m9 135 rfl) rfl
theorem q2119 : (Jvm.Cond.soleField "MustardMillModel" "code") ∈ lw_all := lw_g (lw_at lw_m9 136 rfl) rfl
theorem q2120 : (Jvm.Cond.lays "MustardMillModel" "MustardMillModel" "why" "I") ∈ lw_all := lw_g (lw_at lw_m9 137 rfl) rfl
theorem q2121 : (Jvm.Cond.soleField "MustardMillModel" "why") ∈ lw_all := lw_g (lw_at lw_m9 138 rfl) rfl
theorem q2122 : (Jvm.Cond.lays "MustardMillModel" "MustardMillModel" "detail" "I") ∈ lw_all := lw_g (lw_at lw_m9 139 rfl) rfl
theorem q2123 : (Jvm.Cond.soleField "MustardMillModel" "detail") ∈ lw_all := lw_g (lw_at lw_m9 140 rfl) rfl
theorem q2124 : (Jvm.Cond.laysFinal "MustardMillModel" "MustardMillModel" "input" "[I") ∈ lw_all := lw_g (lw_at lw_m9 141 rfl) rfl
theorem q2125 : (Jvm.Cond.soleField "MustardMillModel" "input") ∈ lw_all := lw_g (lw_at lw_m9 142 rfl) rfl
theorem q2126 : (Jvm.Cond.lays "MustardMillModel" "MustardMillModel" "length" "I") ∈ lw_all := lw_g (lw_at lw_m9 143 rfl) rfl
theorem q2127 : (Jvm.Cond.soleField "MustardMillModel" "length") ∈ lw_all := lw_g (lw_at lw_m9 144 rfl) rfl
theorem q2128 : (Jvm.Cond.lays "MustardMillModel" "MustardMillModel" "error" "I") ∈ lw_all := lw_g (lw_at lw_m9 145 rfl) rfl
theorem q2129 : (Jvm.Cond.soleField "MustardMillModel" "error") ∈ lw_all := lw_g (lw_at lw_m9 146 rfl) rfl
theorem q2130 : (Jvm.Cond.lays "MustardMillModel" "MustardMillModel" "item" "I") ∈ lw_all := lw_g (lw_at lw_m9 147 rfl) rfl
theorem q2131 : (Jvm.Cond.soleField "MustardMillModel" "item") ∈ lw_all := lw_g (lw_at lw_m9 148 rfl) rfl
theorem q2132 : (Jvm.Cond.laysFinal "MustardMillModel" "MustardMillModel" "signs" "[C") ∈ lw_all := lw_g (lw_at lw_m9 149 rfl) rfl
theorem q2133 : (Jvm.Cond.soleField "MustardMillModel" "signs") ∈ lw_all := lw_g (lw_at lw_m9 150 rfl) rfl
theorem q2134 : (Jvm.Cond.lays "MustardMillModel" "MustardMillModel" "signMany" "I") ∈ lw_all := lw_g (lw_at lw_m9 151 rfl) rfl
theorem q2135 : (Jvm.Cond.soleField "MustardMillModel" "signMany") ∈ lw_all := lw_g (lw_at lw_m9 152 rfl) rfl
theorem q2136 : (Jvm.Cond.lays "MustardMillModel" "MustardMillModel" "at" "I") ∈ lw_all := lw_g (lw_at lw_m9 153 rfl) rfl
theorem q2137 : (Jvm.Cond.soleField "MustardMillModel" "at") ∈ lw_all := lw_g (lw_at lw_m9 154 rfl) rfl
theorem q2138 : (Jvm.Cond.laysFinal "MustardMillModel" "MustardMillModel" "told" "[I") ∈ lw_all := lw_g (lw_at lw_m9 155 rfl) rfl
theorem q2139 : (Jvm.Cond.soleField "MustardMillModel" "told") ∈ lw_all := lw_g (lw_at lw_m9 156 rfl) rfl
theorem q2140 : (Jvm.Cond.lays "MustardMillModel" "MustardMillModel" "toldMany" "I") ∈ lw_all := lw_g (lw_at lw_m9 157 rfl) rfl
theorem q2141 : (Jvm.Cond.soleField "MustardMillModel" "toldMany") ∈ lw_all := lw_g (lw_at lw_m9 158 rfl) rfl
theorem q2142 : (Jvm.Cond.superclass "MustardMillModel" "java/lang/Object") ∈ lw_all := lw_g (lw_at lw_m9 159 rfl) rfl
theorem q2145 : (Jvm.Cond.instanceMethod ({ cls := "MustardMillModel", name := "thrown", desc := "()I" } : Jvm.MethodName)) ∈ lw_all := lw_g (lw_at lw_m9 162 rfl) rfl
theorem q2146 : (Jvm.Cond.selects "MustardMillModel" ({ cls := "MustardMillModel", name := "thrown", desc := "()I" } : Jvm.MethodName) ({ cls := "MustardMillModel", name := "thrown", desc := "()I" } : Jvm.MethodName)) ∈ lw_all := lw_g (lw_at lw_m9 163 rfl) rfl
theorem q2147 : (Jvm.Cond.code ({ cls := "MustardMillModel", name := "thrown", desc := "()I" } : Jvm.MethodName) prog_18_method_3_code (1 : Nat) (Option.some Jvm.ClassFile.FieldType.int)) ∈ lw_all := lw_g (lw_at lw_m9 164 rfl) rfl
theorem q2149 : (Jvm.Cond.instanceMethod ({ cls := "MustardMillModel", name := "clear", desc := "()I" } : Jvm.MethodName)) ∈ lw_all := lw_g (lw_at lw_m9 166 rfl) rfl
theorem q2150 : (Jvm.Cond.selects "MustardMillModel" ({ cls := "MustardMillModel", name := "clear", desc := "()I" } : Jvm.MethodName) ({ cls := "MustardMillModel", name := "clear", desc := "()I" } : Jvm.MethodName)) ∈ lw_all := lw_g (lw_at lw_m9 167 rfl) rfl
theorem q2151 : (Jvm.Cond.code ({ cls := "MustardMillModel", name := "clear", desc := "()I" } : Jvm.MethodName) prog_18_method_22_code (2 : Nat) (Option.some Jvm.ClassFile.FieldType.int)) ∈ lw_all := lw_g (lw_at lw_m9 168 rfl) rfl
theorem q2153 : (Jvm.Cond.instanceMethod ({ cls := "MustardMillModel", name := "buy", desc := "(II)I" } : Jvm.MethodName)) ∈ lw_all := lw_g (lw_at lw_m9 170 rfl) rfl
theorem q2154 : (Jvm.Cond.selects "MustardMillModel" ({ cls := "MustardMillModel", name := "buy", desc := "(II)I" } : Jvm.MethodName) ({ cls := "MustardMillModel", name := "buy", desc := "(II)I" } : Jvm.MethodName)) ∈ lw_all := lw_g (lw_at lw_m9 171 rfl) rfl
theorem q2155 : (Jvm.Cond.code ({ cls := "MustardMillModel", name := "buy", desc := "(II)I" } : Jvm.MethodName) prog_18_method_23_code (7 : Nat) (Option.some Jvm.ClassFile.FieldType.int)) ∈ lw_all := lw_g (lw_at lw_m9 172 rfl) rfl
theorem q2156 : (Jvm.Cond.methodLink "MustardMillModel" (65 : Nat) ({ cls := "MustardMillModel", name := "in", desc := "(III)Z" } : Jvm.MethodName)) ∈ lw_all := lw_g (lw_at lw_m9 173 rfl) rfl
theorem q2157 : (Jvm.Cond.static ({ cls := "MustardMillModel", name := "in", desc := "(III)Z" } : Jvm.MethodName)) ∈ lw_all := lw_g (lw_at lw_m9 174 rfl) rfl
theorem q2158 : (Jvm.Cond.code ({ cls := "MustardMillModel", name := "in", desc := "(III)Z" } : Jvm.MethodName) prog_18_method_6_code (3 : Nat) (Option.some Jvm.ClassFile.FieldType.boolean)) ∈ lw_all := lw_g (lw_at lw_m9 175 rfl) rfl
theorem q2159 : (Jvm.Cond.methodLink "MustardMillModel" (73 : Nat) ({ cls := "MustardMillModel", name := "fails", desc := "(I)Z" } : Jvm.MethodName)) ∈ lw_all := lw_g (lw_at lw_m9 176 rfl) rfl
theorem q2160 : (Jvm.Cond.privateMethod ({ cls := "MustardMillModel", name := "fails", desc := "(I)Z" } : Jvm.MethodName)) ∈ lw_tbl := lw_at lw_m9 177 rfl
theorem q2161 : (Jvm.Cond.instanceMethod ({ cls := "MustardMillModel", name := "fails", desc := "(I)Z" } : Jvm.MethodName)) ∈ lw_all := lw_g (lw_at lw_m9 178 rfl) rfl
theorem q2162 : (Jvm.Cond.code ({ cls := "MustardMillModel", name := "fails", desc := "(I)Z" } : Jvm.MethodName) prog_18_method_4_code (2 : Nat) (Option.some Jvm.ClassFile.FieldType.boolean)) ∈ lw_all := lw_g (lw_at lw_m9 179 rfl) rfl
theorem q2163 : (Jvm.Cond.methodLink "MustardMillModel" (77 : Nat) ({ cls := "MustardMillModel", name := "refuses", desc := "(III)I" } : Jvm.MethodName)) ∈ lw_all := lw_g (lw_at lw_m9 180 rfl) rfl
theorem q2164 : (Jvm.Cond.privateMethod ({ cls := "MustardMillModel", name := "refuses", desc := "(III)I" } : Jvm.MethodName)) ∈ lw_tbl := lw_at lw_m9 181 rfl
theorem q2165 : (Jvm.Cond.instanceMethod ({ cls := "MustardMillModel", name := "refuses", desc := "(III)I" } : Jvm.MethodName)) ∈ lw_all := lw_g (lw_at lw_m9 182 rfl) rfl
theorem q2166 : (Jvm.Cond.code ({ cls := "MustardMillModel", name := "refuses", desc := "(III)I" } : Jvm.MethodName) prog_18_method_5_code (4 : Nat) (Option.some Jvm.ClassFile.FieldType.int)) ∈ lw_all := lw_g (lw_at lw_m9 183 rfl) rfl
theorem q2167 : (Jvm.Cond.methodLink "MustardMillModel" (81 : Nat) ({ cls := "MustardMillModel", name := "keeps", desc := "([I)V" } : Jvm.MethodName)) ∈ lw_all := lw_g (lw_at lw_m9 184 rfl) rfl
theorem q2168 : (Jvm.Cond.privateMethod ({ cls := "MustardMillModel", name := "keeps", desc := "([I)V" } : Jvm.MethodName)) ∈ lw_tbl := lw_at lw_m9 185 rfl
theorem q2169 : (Jvm.Cond.instanceMethod ({ cls := "MustardMillModel", name := "keeps", desc := "([I)V" } : Jvm.MethodName)) ∈ lw_all := lw_g (lw_at lw_m9 186 rfl) rfl
theorem q2170 : (Jvm.Cond.code ({ cls := "MustardMillModel", name := "keeps", desc := "([I)V" } : Jvm.MethodName) prog_18_method_10_code (3 : Nat) (Option.none : Option Jvm.ClassFile.FieldType)) ∈ lw_all := lw_g (lw_at lw_m9 187 rfl) rfl
theorem q2171 : (Jvm.Cond.methodLink "MustardMillModel" (61 : Nat) ({ cls := "MustardMillModel", name := "copies", desc := "([II[II)V" } : Jvm.MethodName)) ∈ lw_all := lw_g (lw_at lw_m9 188 rfl) rfl
theorem q2172 : (Jvm.Cond.static ({ cls := "MustardMillModel", name := "copies", desc := "([II[II)V" } : Jvm.MethodName)) ∈ lw_all := lw_g (lw_at lw_m9 189 rfl) rfl
theorem q2173 : (Jvm.Cond.code ({ cls := "MustardMillModel", name := "copies", desc := "([II[II)V" } : Jvm.MethodName) prog_18_method_9_code (5 : Nat) (Option.none : Option Jvm.ClassFile.FieldType)) ∈ lw_all := lw_g (lw_at lw_m9 190 rfl) rfl
theorem q2175 : (Jvm.Cond.instanceMethod ({ cls := "MustardMillModel", name := "quernOf", desc := "(II)I" } : Jvm.MethodName)) ∈ lw_all := lw_g (lw_at lw_m9 192 rfl) rfl
theorem q2176 : (Jvm.Cond.selects "MustardMillModel" ({ cls := "MustardMillModel", name := "quernOf", desc := "(II)I" } : Jvm.MethodName) ({ cls := "MustardMillModel", name := "quernOf", desc := "(II)I" } : Jvm.MethodName)) ∈ lw_all := lw_g (lw_at lw_m9 193 rfl) rfl
theorem q2177 : (Jvm.Cond.code ({ cls := "MustardMillModel", name := "quernOf", desc := "(II)I" } : Jvm.MethodName) prog_18_method_24_code (3 : Nat) (Option.some Jvm.ClassFile.FieldType.int)) ∈ lw_all := lw_g (lw_at lw_m9 194 rfl) rfl
theorem q2178 : (Jvm.Cond.methodLink "MustardMillModel" (85 : Nat) ({ cls := "MustardMillModel", name := "isQuern", desc := "(I)Z" } : Jvm.MethodName)) ∈ lw_all := lw_g (lw_at lw_m9 195 rfl) rfl
theorem q2179 : (Jvm.Cond.static ({ cls := "MustardMillModel", name := "isQuern", desc := "(I)Z" } : Jvm.MethodName)) ∈ lw_all := lw_g (lw_at lw_m9 196 rfl) rfl
theorem q2180 : (Jvm.Cond.code ({ cls := "MustardMillModel", name := "isQuern", desc := "(I)Z" } : Jvm.MethodName) prog_18_method_11_code (1 : Nat) (Option.some Jvm.ClassFile.FieldType.boolean)) ∈ lw_all := lw_g (lw_at lw_m9 197 rfl) rfl
theorem q2181 : (Jvm.Cond.methodLink "MustardMillModel" (88 : Nat) ({ cls := "MustardMillModel", name := "ofQuern", desc := "(II)I" } : Jvm.MethodName)) ∈ lw_all := lw_g (lw_at lw_m9 198 rfl) rfl
theorem q2182 : (Jvm.Cond.privateMethod ({ cls := "MustardMillModel", name := "ofQuern", desc := "(II)I" } : Jvm.MethodName)) ∈ lw_tbl := lw_at lw_m9 199 rfl
theorem q2183 : (Jvm.Cond.instanceMethod ({ cls := "MustardMillModel", name := "ofQuern", desc := "(II)I" } : Jvm.MethodName)) ∈ lw_all := lw_g (lw_at lw_m9 200 rfl) rfl
theorem q2184 : (Jvm.Cond.code ({ cls := "MustardMillModel", name := "ofQuern", desc := "(II)I" } : Jvm.MethodName) prog_18_method_15_code (3 : Nat) (Option.some Jvm.ClassFile.FieldType.int)) ∈ lw_all := lw_g (lw_at lw_m9 201 rfl) rfl
theorem q2186 : (Jvm.Cond.instanceMethod ({ cls := "MustardMillModel", name := "dress", desc := "(I)I" } : Jvm.MethodName)) ∈ lw_all := lw_g (lw_at lw_m9 203 rfl) rfl
theorem q2187 : (Jvm.Cond.selects "MustardMillModel" ({ cls := "MustardMillModel", name := "dress", desc := "(I)I" } : Jvm.MethodName) ({ cls := "MustardMillModel", name := "dress", desc := "(I)I" } : Jvm.MethodName)) ∈ lw_all := lw_g (lw_at lw_m9 204 rfl) rfl
theorem q2188 : (Jvm.Cond.code ({ cls := "MustardMillModel", name := "dress", desc := "(I)I" } : Jvm.MethodName) prog_18_method_25_code (3 : Nat) (Option.some Jvm.ClassFile.FieldType.int)) ∈ lw_all := lw_g (lw_at lw_m9 205 rfl) rfl
theorem q2190 : (Jvm.Cond.instanceMethod ({ cls := "MustardMillModel", name := "grind", desc := "(IIII)I" } : Jvm.MethodName)) ∈ lw_all := lw_g (lw_at lw_m9 207 rfl) rfl
theorem q2191 : (Jvm.Cond.selects "MustardMillModel" ({ cls := "MustardMillModel", name := "grind", desc := "(IIII)I" } : Jvm.MethodName) ({ cls := "MustardMillModel", name := "grind", desc := "(IIII)I" } : Jvm.MethodName)) ∈ lw_all := lw_g (lw_at lw_m9 208 rfl) rfl
theorem q2192 : (Jvm.Cond.code ({ cls := "MustardMillModel", name := "grind", desc := "(IIII)I" } : Jvm.MethodName) prog_18_method_29_code (9 : Nat) (Option.some Jvm.ClassFile.FieldType.int)) ∈ lw_all := lw_g (lw_at lw_m9 209 rfl) rfl
theorem q2193 : (Jvm.Cond.methodLink "MustardMillModel" (97 : Nat) ({ cls := "MustardMillModel", name := "isMix", desc := "(III)Z" } : Jvm.MethodName)) ∈ lw_all := lw_g (lw_at lw_m9 210 rfl) rfl
theorem q2194 : (Jvm.Cond.static ({ cls := "MustardMillModel", name := "isMix", desc := "(III)Z" } : Jvm.MethodName)) ∈ lw_all := lw_g (lw_at lw_m9 211 rfl) rfl
theorem q2195 : (Jvm.Cond.code ({ cls := "MustardMillModel", name := "isMix", desc := "(III)Z" } : Jvm.MethodName) prog_18_method_26_code (3 : Nat) (Option.some Jvm.ClassFile.FieldType.boolean)) ∈ lw_all := lw_g (lw_at lw_m9 212 rfl) rfl
theorem q2196 : (Jvm.Cond.methodLink "MustardMillModel" (91 : Nat) ({ cls := "MustardMillModel", name := "heatBy", desc := "(II)I" } : Jvm.MethodName)) ∈ lw_all := lw_g (lw_at lw_m9 213 rfl) rfl
theorem q2197 : (Jvm.Cond.privateMethod ({ cls := "MustardMillModel", name := "heatBy", desc := "(II)I" } : Jvm.MethodName)) ∈ lw_tbl := lw_at lw_m9 214 rfl
theorem q2198 : (Jvm.Cond.instanceMethod ({ cls := "MustardMillModel", name := "heatBy", desc := "(II)I" } : Jvm.MethodName)) ∈ lw_all := lw_g (lw_at lw_m9 215 rfl) rfl
theorem q2199 : (Jvm.Cond.code ({ cls := "MustardMillModel", name := "heatBy", desc := "(II)I" } : Jvm.MethodName) prog_18_method_27_code (3 : Nat) (Option.some Jvm.ClassFile.FieldType.int)) ∈ lw_all := lw_g (lw_at lw_m9 216 rfl) rfl
theorem q2200 : (Jvm.Cond.methodLink "MustardMillModel" (100 : Nat) ({ cls := "MustardMillModel", name := "laysBatch", desc := "(III)V" } : Jvm.MethodName)) ∈ lw_all := lw_g (lw_at lw_m9 217 rfl) rfl
theorem q2201 : (Jvm.Cond.privateMethod ({ cls := "MustardMillModel", name := "laysBatch", desc := "(III)V" } : Jvm.MethodName)) ∈ lw_tbl := lw_at lw_m9 218 rfl
theorem q2202 : (Jvm.Cond.instanceMethod ({ cls := "MustardMillModel", name := "laysBatch", desc := "(III)V" } : Jvm.MethodName)) ∈ lw_all := lw_g (lw_at lw_m9 219 rfl) rfl
theorem q2203 : (Jvm.Cond.code ({ cls := "MustardMillModel", name := "laysBatch", desc := "(III)V" } : Jvm.MethodName) prog_18_method_17_code (4 : Nat) (Option.none : Option Jvm.ClassFile.FieldType)) ∈ lw_all := lw_g (lw_at lw_m9 220 rfl) rfl
theorem q2204 : (Jvm.Cond.methodLink "MustardMillModel" (104 : Nat) ({ cls := "MustardMillModel", name := "biteBy", desc := "(IIII)I" } : Jvm.MethodName)) ∈ lw_all := lw_g (lw_at lw_m9 221 rfl) rfl
theorem q2205 : (Jvm.Cond.privateMethod ({ cls := "MustardMillModel", name := "biteBy", desc := "(IIII)I" } : Jvm.MethodName)) ∈ lw_tbl := lw_at lw_m9 222 rfl
theorem q2206 : (Jvm.Cond.instanceMethod ({ cls := "MustardMillModel", name := "biteBy", desc := "(IIII)I" } : Jvm.MethodName)) ∈ lw_all := lw_g (lw_at lw_m9 223 rfl) rfl
theorem q2207 : (Jvm.Cond.code ({ cls := "MustardMillModel", name := "biteBy", desc := "(IIII)I" } : Jvm.MethodName) prog_18_method_28_code (6 : Nat) (Option.some Jvm.ClassFile.FieldType.int)) ∈ lw_all := lw_g (lw_at lw_m9 224 rfl) rfl
theorem q2208 : (Jvm.Cond.methodLink "MustardMillModel" (94 : Nat) ({ cls := "MustardMillModel", name := "more", desc := "(II)I" } : Jvm.MethodName)) ∈ lw_all := lw_g (lw_at lw_m9 225 rfl) rfl
theorem q2209 : (Jvm.Cond.static ({ cls := "MustardMillModel", name := "more", desc := "(II)I" } : Jvm.MethodName)) ∈ lw_all := lw_g (lw_at lw_m9 226 rfl) rfl
theorem q2210 : (Jvm.Cond.code ({ cls := "MustardMillModel", name := "more", desc := "(II)I" } : Jvm.MethodName) prog_18_method_8_code (2 : Nat) (Option.some Jvm.ClassFile.FieldType.int)) ∈ lw_all := lw_g (lw_at lw_m9 227 rfl) rfl
theorem q2212 : (Jvm.Cond.instanceMethod ({ cls := "MustardMillModel", name := "biteOf", desc := "(IIII)I" } : Jvm.MethodName)) ∈ lw_all := lw_g (lw_at lw_m9 229 rfl) rfl
theorem q2213 : (Jvm.Cond.selects "MustardMillModel" ({ cls := "MustardMillModel", name := "biteOf", desc := "(IIII)I" } : Jvm.MethodName) ({ cls := "MustardMillModel", name := "biteOf", desc := "(IIII)I" } : Jvm.MethodName)) ∈ lw_all := lw_g (lw_at lw_m9 230 rfl) rfl
theorem q2214 : (Jvm.Cond.code ({ cls := "MustardMillModel", name := "biteOf", desc := "(IIII)I" } : Jvm.MethodName) prog_18_method_30_code (5 : Nat) (Option.some Jvm.ClassFile.FieldType.int)) ∈ lw_all := lw_g (lw_at lw_m9 231 rfl) rfl
theorem q2216 : (Jvm.Cond.instanceMethod ({ cls := "MustardMillModel", name := "mix", desc := "(II)I" } : Jvm.MethodName)) ∈ lw_all := lw_g (lw_at lw_m9 233 rfl) rfl
theorem q2217 : (Jvm.Cond.selects "MustardMillModel" ({ cls := "MustardMillModel", name := "mix", desc := "(II)I" } : Jvm.MethodName) ({ cls := "MustardMillModel", name := "mix", desc := "(II)I" } : Jvm.MethodName)) ∈ lw_all := lw_g (lw_at lw_m9 234 rfl) rfl
theorem q2218 : (Jvm.Cond.code ({ cls := "MustardMillModel", name := "mix", desc := "(II)I" } : Jvm.MethodName) prog_18_method_32_code (3 : Nat) (Option.some Jvm.ClassFile.FieldType.int)) ∈ lw_all := lw_g (lw_at lw_m9 235 rfl) rfl
theorem q2219 : (Jvm.Cond.methodLink "MustardMillModel" (111 : Nat) ({ cls := "MustardMillModel", name := "isBatch", desc := "(I)Z" } : Jvm.MethodName)) ∈ lw_all := lw_g (lw_at lw_m9 236 rfl) rfl
theorem q2220 : (Jvm.Cond.privateMethod ({ cls := "MustardMillModel", name := "isBatch", desc := "(I)Z" } : Jvm.MethodName)) ∈ lw_tbl := lw_at lw_m9 237 rfl
theorem q2221 : (Jvm.Cond.instanceMethod ({ cls := "MustardMillModel", name := "isBatch", desc := "(I)Z" } : Jvm.MethodName)) ∈ lw_all := lw_g (lw_at lw_m9 238 rfl) rfl
theorem q2222 : (Jvm.Cond.code ({ cls := "MustardMillModel", name := "isBatch", desc := "(I)Z" } : Jvm.MethodName) prog_18_method_12_code (2 : Nat) (Option.some Jvm.ClassFile.FieldType.boolean)) ∈ lw_all := lw_g (lw_at lw_m9 239 rfl) rfl
theorem q2223 : (Jvm.Cond.methodLink "MustardMillModel" (108 : Nat) ({ cls := "MustardMillModel", name := "ofBatch", desc := "(II)I" } : Jvm.MethodName)) ∈ lw_all := lw_g (lw_at lw_m10 0 rfl) rfl
theorem q2224 : (Jvm.Cond.privateMethod ({ cls := "MustardMillModel", name := "ofBatch", desc := "(II)I" } : Jvm.MethodName)) ∈ lw_tbl := lw_at lw_m10 1 rfl
theorem q2225 : (Jvm.Cond.instanceMethod ({ cls := "MustardMillModel", name := "ofBatch", desc := "(II)I" } : Jvm.MethodName)) ∈ lw_all := lw_g (lw_at lw_m10 2 rfl) rfl
theorem q2226 : (Jvm.Cond.code ({ cls := "MustardMillModel", name := "ofBatch", desc := "(II)I" } : Jvm.MethodName) prog_18_method_16_code (3 : Nat) (Option.some Jvm.ClassFile.FieldType.int)) ∈ lw_all := lw_g (lw_at lw_m10 3 rfl) rfl
theorem q2227 : (Jvm.Cond.methodLink "MustardMillModel" (114 : Nat) ({ cls := "MustardMillModel", name := "ripeIn", desc := "(I)I" } : Jvm.MethodName)) ∈ lw_all := lw_g (lw_at lw_m10 4 rfl) rfl
theorem q2228 : (Jvm.Cond.privateMethod ({ cls := "MustardMillModel", name := "ripeIn", desc := "(I)I" } : Jvm.MethodName)) ∈ lw_tbl := lw_at lw_m10 5 rfl
theorem q2229 : (Jvm.Cond.instanceMethod ({ cls := "MustardMillModel", name := "ripeIn", desc := "(I)I" } : Jvm.MethodName)) ∈ lw_all := lw_g (lw_at lw_m10 6 rfl) rfl
theorem q2230 : (Jvm.Cond.code ({ cls := "MustardMillModel", name := "ripeIn", desc := "(I)I" } : Jvm.MethodName) prog_18_method_31_code (2 : Nat) (Option.some Jvm.ClassFile.FieldType.int)) ∈ lw_all := lw_g (lw_at lw_m10 7 rfl) rfl
theorem q2232 : (Jvm.Cond.instanceMethod ({ cls := "MustardMillModel", name := "batchOf", desc := "(II)I" } : Jvm.MethodName)) ∈ lw_all := lw_g (lw_at lw_m10 9 rfl) rfl
theorem q2233 : (Jvm.Cond.selects "MustardMillModel" ({ cls := "MustardMillModel", name := "batchOf", desc := "(II)I" } : Jvm.MethodName) ({ cls := "MustardMillModel", name := "batchOf", desc := "(II)I" } : Jvm.MethodName)) ∈ lw_all := lw_g (lw_at lw_m10 10 rfl) rfl
theorem q2234 : (Jvm.Cond.code ({ cls := "MustardMillModel", name := "batchOf", desc := "(II)I" } : Jvm.MethodName) prog_18_method_33_code (3 : Nat) (Option.some Jvm.ClassFile.FieldType.int)) ∈ lw_all := lw_g (lw_at lw_m10 11 rfl) rfl
theorem q2236 : (Jvm.Cond.instanceMethod ({ cls := "MustardMillModel", name := "jar", desc := "(II)I" } : Jvm.MethodName)) ∈ lw_all := lw_g (lw_at lw_m10 13 rfl) rfl
theorem q2237 : (Jvm.Cond.selects "MustardMillModel" ({ cls := "MustardMillModel", name := "jar", desc := "(II)I" } : Jvm.MethodName) ({ cls := "MustardMillModel", name := "jar", desc := "(II)I" } : Jvm.MethodName)) ∈ lw_all := lw_g (lw_at lw_m10 14 rfl) rfl
theorem q2238 : (Jvm.Cond.code ({ cls := "MustardMillModel", name := "jar", desc := "(II)I" } : Jvm.MethodName) prog_18_method_34_code (5 : Nat) (Option.some Jvm.ClassFile.FieldType.int)) ∈ lw_all := lw_g (lw_at lw_m10 15 rfl) rfl
theorem q2239 : (Jvm.Cond.methodLink "MustardMillModel" (118 : Nat) ({ cls := "MustardMillModel", name := "laysJar", desc := "(III)V" } : Jvm.MethodName)) ∈ lw_all := lw_g (lw_at lw_m10 16 rfl) rfl
theorem q2240 : (Jvm.Cond.privateMethod ({ cls := "MustardMillModel", name := "laysJar", desc := "(III)V" } : Jvm.MethodName)) ∈ lw_tbl := lw_at lw_m10 17 rfl
theorem q2241 : (Jvm.Cond.instanceMethod ({ cls := "MustardMillModel", name := "laysJar", desc := "(III)V" } : Jvm.MethodName)) ∈ lw_all := lw_g (lw_at lw_m10 18 rfl) rfl
theorem q2242 : (Jvm.Cond.code ({ cls := "MustardMillModel", name := "laysJar", desc := "(III)V" } : Jvm.MethodName) prog_18_method_19_code (4 : Nat) (Option.none : Option Jvm.ClassFile.FieldType)) ∈ lw_all := lw_g (lw_at lw_m10 19 rfl) rfl
theorem q2244 : (Jvm.Cond.instanceMethod ({ cls := "MustardMillModel", name := "open", desc := "(I)I" } : Jvm.MethodName)) ∈ lw_all := lw_g (lw_at lw_m10 21 rfl) rfl
theorem q2245 : (Jvm.Cond.selects "MustardMillModel" ({ cls := "MustardMillModel", name := "open", desc := "(I)I" } : Jvm.MethodName) ({ cls := "MustardMillModel", name := "open", desc := "(I)I" } : Jvm.MethodName)) ∈ lw_all := lw_g (lw_at lw_m10 22 rfl) rfl
theorem q2246 : (Jvm.Cond.code ({ cls := "MustardMillModel", name := "open", desc := "(I)I" } : Jvm.MethodName) prog_18_method_40_code (2 : Nat) (Option.some Jvm.ClassFile.FieldType.int)) ∈ lw_all := lw_g (lw_at lw_m10 23 rfl) rfl
theorem q2247 : (Jvm.Cond.methodLink "MustardMillModel" (133 : Nat) ({ cls := "MustardMillModel", name := "isJar", desc := "(I)Z" } : Jvm.MethodName)) ∈ lw_all := lw_g (lw_at lw_m10 24 rfl) rfl
theorem q2248 : (Jvm.Cond.privateMethod ({ cls := "MustardMillModel", name := "isJar", desc := "(I)Z" } : Jvm.MethodName)) ∈ lw_tbl := lw_at lw_m10 25 rfl
theorem q2249 : (Jvm.Cond.instanceMethod ({ cls := "MustardMillModel", name := "isJar", desc := "(I)Z" } : Jvm.MethodName)) ∈ lw_all := lw_g (lw_at lw_m10 26 rfl) rfl
theorem q2250 : (Jvm.Cond.code ({ cls := "MustardMillModel", name := "isJar", desc := "(I)Z" } : Jvm.MethodName) prog_18_method_13_code (2 : Nat) (Option.some Jvm.ClassFile.FieldType.boolean)) ∈ lw_all := lw_g (lw_at lw_m10 27 rfl) rfl
theorem q2251 : (Jvm.Cond.methodLink "MustardMillModel" (121 : Nat) ({ cls := "MustardMillModel", name := "ofJar", desc := "(II)I" } : Jvm.MethodName)) ∈ lw_all := lw_g (lw_at lw_m10 28 rfl) rfl
theorem q2252 : (Jvm.Cond.privateMethod ({ cls := "MustardMillModel", name := "ofJar", desc := "(II)I" } : Jvm.MethodName)) ∈ lw_tbl := lw_at lw_m10 29 rfl
theorem q2253 : (Jvm.Cond.instanceMethod ({ cls := "MustardMillModel", name := "ofJar", desc := "(II)I" } : Jvm.MethodName)) ∈ lw_all := lw_g (lw_at lw_m10 30 rfl) rfl
theorem q2254 : (Jvm.Cond.code ({ cls := "MustardMillModel", name := "ofJar", desc := "(II)I" } : Jvm.MethodName) prog_18_method_18_code (3 : Nat) (Option.some Jvm.ClassFile.FieldType.int)) ∈ lw_all := lw_g (lw_at lw_m10 31 rfl) rfl
theorem q2255 : (Jvm.Cond.methodLink "MustardMillModel" (136 : Nat) ({ cls := "MustardMillModel", name := "becomes", desc := "(II)V" } : Jvm.MethodName)) ∈ lw_all := lw_g (lw_at lw_m10 32 rfl) rfl
theorem q2256 : (Jvm.Cond.privateMethod ({ cls := "MustardMillModel", name := "becomes", desc := "(II)V" } : Jvm.MethodName)) ∈ lw_tbl := lw_at lw_m10 33 rfl
theorem q2257 : (Jvm.Cond.instanceMethod ({ cls := "MustardMillModel", name := "becomes", desc := "(II)V" } : Jvm.MethodName)) ∈ lw_all := lw_g (lw_at lw_m10 34 rfl) rfl
theorem q2258 : (Jvm.Cond.code ({ cls := "MustardMillModel", name := "becomes", desc := "(II)V" } : Jvm.MethodName) prog_18_method_39_code (3 : Nat) (Option.none : Option Jvm.ClassFile.FieldType)) ∈ lw_all := lw_g (lw_at lw_m10 35 rfl) rfl
theorem q2259 : (Jvm.Cond.methodLink "MustardMillModel" (130 : Nat) ({ cls := "MustardMillModel", name := "tearOf", desc := "(I)I" } : Jvm.MethodName)) ∈ lw_all := lw_g (lw_at lw_m10 36 rfl) rfl
theorem q2260 : (Jvm.Cond.privateMethod ({ cls := "MustardMillModel", name := "tearOf", desc := "(I)I" } : Jvm.MethodName)) ∈ lw_tbl := lw_at lw_m10 37 rfl
theorem q2261 : (Jvm.Cond.instanceMethod ({ cls := "MustardMillModel", name := "tearOf", desc := "(I)I" } : Jvm.MethodName)) ∈ lw_all := lw_g (lw_at lw_m10 38 rfl) rfl
theorem q2262 : (Jvm.Cond.code ({ cls := "MustardMillModel", name := "tearOf", desc := "(I)I" } : Jvm.MethodName) prog_18_method_36_code (2 : Nat) (Option.some Jvm.ClassFile.FieldType.int)) ∈ lw_all := lw_g (lw_at lw_m10 39 rfl) rfl
theorem q2263 : (Jvm.Cond.methodLink "MustardMillModel" (124 : Nat) ({ cls := "MustardMillModel", name := "tearAt", desc := "(II)I" } : Jvm.MethodName)) ∈ lw_all := lw_g (lw_at lw_m10 40 rfl) rfl
theorem q2264 : (Jvm.Cond.privateMethod ({ cls := "MustardMillModel", name := "tearAt", desc := "(II)I" } : Jvm.MethodName)) ∈ lw_tbl := lw_at lw_m10 41 rfl
theorem q2265 : (Jvm.Cond.instanceMethod ({ cls := "MustardMillModel", name := "tearAt", desc := "(II)I" } : Jvm.MethodName)) ∈ lw_all := lw_g (lw_at lw_m10 42 rfl) rfl
theorem q2266 : (Jvm.Cond.code ({ cls := "MustardMillModel", name := "tearAt", desc := "(II)I" } : Jvm.MethodName) prog_18_method_35_code (4 : Nat) (Option.some Jvm.ClassFile.FieldType.int)) ∈ lw_all := lw_g (lw_at lw_m10 43 rfl) rfl
theorem q2268 : (Jvm.Cond.instanceMethod ({ cls := "MustardMillModel", name := "sell", desc := "(I)I" } : Jvm.MethodName)) ∈ lw_all := lw_g (lw_at lw_m10 45 rfl) rfl
theorem q2269 : (Jvm.Cond.selects "MustardMillModel" ({ cls := "MustardMillModel", name := "sell", desc := "(I)I" } : Jvm.MethodName) ({ cls := "MustardMillModel", name := "sell", desc := "(I)I" } : Jvm.MethodName)) ∈ lw_all := lw_g (lw_at lw_m10 46 rfl) rfl
theorem q2270 : (Jvm.Cond.code ({ cls := "MustardMillModel", name := "sell", desc := "(I)I" } : Jvm.MethodName) prog_18_method_41_code (2 : Nat) (Option.some Jvm.ClassFile.FieldType.int)) ∈ lw_all := lw_g (lw_at lw_m10 47 rfl) rfl
theorem q2271 : (Jvm.Cond.methodLink "MustardMillModel" (127 : Nat) ({ cls := "MustardMillModel", name := "missing", desc := "(I)I" } : Jvm.MethodName)) ∈ lw_all := lw_g (lw_at lw_m10 48 rfl) rfl
theorem q2272 : (Jvm.Cond.privateMethod ({ cls := "MustardMillModel", name := "missing", desc := "(I)I" } : Jvm.MethodName)) ∈ lw_tbl := lw_at lw_m10 49 rfl
theorem q2273 : (Jvm.Cond.instanceMethod ({ cls := "MustardMillModel", name := "missing", desc := "(I)I" } : Jvm.MethodName)) ∈ lw_all := lw_g (lw_at lw_m10 50 rfl) rfl
theorem q2274 : (Jvm.Cond.code ({ cls := "MustardMillModel", name := "missing", desc := "(I)I" } : Jvm.MethodName) prog_18_method_37_code (2 : Nat) (Option.some Jvm.ClassFile.FieldType.int)) ∈ lw_all := lw_g (lw_at lw_m10 51 rfl) rfl
theorem q2275 : (Jvm.Cond.methodLink "MustardMillModel" (140 : Nat) ({ cls := "MustardMillModel", name := "earns", desc := "(I)V" } : Jvm.MethodName)) ∈ lw_all := lw_g (lw_at lw_m10 52 rfl) rfl
theorem q2276 : (Jvm.Cond.privateMethod ({ cls := "MustardMillModel", name := "earns", desc := "(I)V" } : Jvm.MethodName)) ∈ lw_tbl := lw_at lw_m10 53 rfl
theorem q2277 : (Jvm.Cond.instanceMethod ({ cls := "MustardMillModel", name := "earns", desc := "(I)V" } : Jvm.MethodName)) ∈ lw_all := lw_g (lw_at lw_m10 54 rfl) rfl
theorem q2278 : (Jvm.Cond.code ({ cls := "MustardMillModel", name := "earns", desc := "(I)V" } : Jvm.MethodName) prog_18_method_21_code (2 : Nat) (Option.none : Option Jvm.ClassFile.FieldType)) ∈ lw_all := lw_g (lw_at lw_m10 55 rfl) rfl
theorem q2279 : (Jvm.Cond.methodLink "MustardMillModel" (69 : Nat) ({ cls := "MustardMillModel", name := "less", desc := "(II)I" } : Jvm.MethodName)) ∈ lw_all := lw_g (lw_at lw_m10 56 rfl) rfl
theorem q2280 : (Jvm.Cond.static ({ cls := "MustardMillModel", name := "less", desc := "(II)I" } : Jvm.MethodName)) ∈ lw_all := lw_g (lw_at lw_m10 57 rfl) rfl
theorem q2281 : (Jvm.Cond.code ({ cls := "MustardMillModel", name := "less", desc := "(II)I" } : Jvm.MethodName) prog_18_method_7_code (2 : Nat) (Option.some Jvm.ClassFile.FieldType.int)) ∈ lw_all := lw_g (lw_at lw_m10 58 rfl) rfl
theorem q2283 : (Jvm.Cond.instanceMethod ({ cls := "MustardMillModel", name := "jarOf", desc := "(II)I" } : Jvm.MethodName)) ∈ lw_all := lw_g (lw_at lw_m10 60 rfl) rfl
theorem q2284 : (Jvm.Cond.selects "MustardMillModel" ({ cls := "MustardMillModel", name := "jarOf", desc := "(II)I" } : Jvm.MethodName) ({ cls := "MustardMillModel", name := "jarOf", desc := "(II)I" } : Jvm.MethodName)) ∈ lw_all := lw_g (lw_at lw_m10 61 rfl) rfl
theorem q2285 : (Jvm.Cond.code ({ cls := "MustardMillModel", name := "jarOf", desc := "(II)I" } : Jvm.MethodName) prog_18_method_42_code (3 : Nat) (Option.some Jvm.ClassFile.FieldType.int)) ∈ lw_all := lw_g (lw_at lw_m10 62 rfl) rfl
theorem q2287 : (Jvm.Cond.instanceMethod ({ cls := "MustardMillModel", name := "tearBehind", desc := "(IIZ)I" } : Jvm.MethodName)) ∈ lw_all := lw_g (lw_at lw_m10 64 rfl) rfl
theorem q2288 : (Jvm.Cond.selects "MustardMillModel" ({ cls := "MustardMillModel", name := "tearBehind", desc := "(IIZ)I" } : Jvm.MethodName) ({ cls := "MustardMillModel", name := "tearBehind", desc := "(IIZ)I" } : Jvm.MethodName)) ∈ lw_all := lw_g (lw_at lw_m10 65 rfl) rfl
theorem q2289 : (Jvm.Cond.code ({ cls := "MustardMillModel", name := "tearBehind", desc := "(IIZ)I" } : Jvm.MethodName) prog_18_method_44_code (4 : Nat) (Option.some Jvm.ClassFile.FieldType.int)) ∈ lw_all := lw_g (lw_at lw_m10 66 rfl) rfl
theorem q2290 : (Jvm.Cond.methodLink "MustardMillModel" (144 : Nat) ({ cls := "MustardMillModel", name := "dayByDay", desc := "(II)I" } : Jvm.MethodName)) ∈ lw_all := lw_g (lw_at lw_m10 67 rfl) rfl
theorem q2291 : (Jvm.Cond.privateMethod ({ cls := "MustardMillModel", name := "dayByDay", desc := "(II)I" } : Jvm.MethodName)) ∈ lw_tbl := lw_at lw_m10 68 rfl
theorem q2292 : (Jvm.Cond.instanceMethod ({ cls := "MustardMillModel", name := "dayByDay", desc := "(II)I" } : Jvm.MethodName)) ∈ lw_all := lw_g (lw_at lw_m10 69 rfl) rfl
theorem q2293 : (Jvm.Cond.code ({ cls := "MustardMillModel", name := "dayByDay", desc := "(II)I" } : Jvm.MethodName) prog_18_method_43_code (8 : Nat) (Option.some Jvm.ClassFile.FieldType.int)) ∈ lw_all := lw_g (lw_at lw_m10 70 rfl) rfl
theorem q2295 : (Jvm.Cond.instanceMethod ({ cls := "MustardMillModel", name := "strongest", desc := "(I)I" } : Jvm.MethodName)) ∈ lw_all := lw_g (lw_at lw_m10 72 rfl) rfl
theorem q2296 : (Jvm.Cond.selects "MustardMillModel" ({ cls := "MustardMillModel", name := "strongest", desc := "(I)I" } : Jvm.MethodName) ({ cls := "MustardMillModel", name := "strongest", desc := "(I)I" } : Jvm.MethodName)) ∈ lw_all := lw_g (lw_at lw_m10 73 rfl) rfl
theorem q2297 : (Jvm.Cond.code ({ cls := "MustardMillModel", name := "strongest", desc := "(I)I" } : Jvm.MethodName) prog_18_method_46_code (5 : Nat) (Option.some Jvm.ClassFile.FieldType.int)) ∈ lw_all := lw_g (lw_at lw_m10 74 rfl) rfl
theorem q2298 : (Jvm.Cond.methodLink "MustardMillModel" (147 : Nat) ({ cls := "MustardMillModel", name := "isStronger", desc := "(II)Z" } : Jvm.MethodName)) ∈ lw_all := lw_g (lw_at lw_m10 75 rfl) rfl
theorem q2299 : (Jvm.Cond.privateMethod ({ cls := "MustardMillModel", name := "isStronger", desc := "(II)Z" } : Jvm.MethodName)) ∈ lw_tbl := lw_at lw_m10 76 rfl
theorem q2300 : (Jvm.Cond.instanceMethod ({ cls := "MustardMillModel", name := "isStronger", desc := "(II)Z" } : Jvm.MethodName)) ∈ lw_all := lw_g (lw_at lw_m10 77 rfl) rfl
theorem q2301 : (Jvm.Cond.code ({ cls := "MustardMillModel", name := "isStronger", desc := "(II)Z" } : Jvm.MethodName) prog_18_method_45_code (3 : Nat) (Option.some Jvm.ClassFile.FieldType.boolean)) ∈ lw_all := lw_g (lw_at lw_m10 78 rfl) rfl
theorem q2303 : (Jvm.Cond.instanceMethod ({ cls := "MustardMillModel", name := "order", desc := "(II)I" } : Jvm.MethodName)) ∈ lw_all := lw_g (lw_at lw_m10 80 rfl) rfl
theorem q2304 : (Jvm.Cond.selects "MustardMillModel" ({ cls := "MustardMillModel", name := "order", desc := "(II)I" } : Jvm.MethodName) ({ cls := "MustardMillModel", name := "order", desc := "(II)I" } : Jvm.MethodName)) ∈ lw_all := lw_g (lw_at lw_m10 81 rfl) rfl
theorem q2305 : (Jvm.Cond.code ({ cls := "MustardMillModel", name := "order", desc := "(II)I" } : Jvm.MethodName) prog_18_method_47_code (4 : Nat) (Option.some Jvm.ClassFile.FieldType.int)) ∈ lw_all := lw_g (lw_at lw_m10 82 rfl) rfl
theorem q2307 : (Jvm.Cond.instanceMethod ({ cls := "MustardMillModel", name := "serve", desc := "(I)I" } : Jvm.MethodName)) ∈ lw_all := lw_g (lw_at lw_m10 84 rfl) rfl
theorem q2308 : (Jvm.Cond.selects "MustardMillModel" ({ cls := "MustardMillModel", name := "serve", desc := "(I)I" } : Jvm.MethodName) ({ cls := "MustardMillModel", name := "serve", desc := "(I)I" } : Jvm.MethodName)) ∈ lw_all := lw_g (lw_at lw_m10 85 rfl) rfl
theorem q2309 : (Jvm.Cond.code ({ cls := "MustardMillModel", name := "serve", desc := "(I)I" } : Jvm.MethodName) prog_18_method_50_code (3 : Nat) (Option.some Jvm.ClassFile.FieldType.int)) ∈ lw_all := lw_g (lw_at lw_m10 86 rfl) rfl
theorem q2310 : (Jvm.Cond.methodLink "MustardMillModel" (157 : Nat) ({ cls := "MustardMillModel", name := "isOrder", desc := "(I)Z" } : Jvm.MethodName)) ∈ lw_all := lw_g (lw_at lw_m10 87 rfl) rfl
theorem q2311 : (Jvm.Cond.privateMethod ({ cls := "MustardMillModel", name := "isOrder", desc := "(I)Z" } : Jvm.MethodName)) ∈ lw_tbl := lw_at lw_m10 88 rfl
theorem q2312 : (Jvm.Cond.instanceMethod ({ cls := "MustardMillModel", name := "isOrder", desc := "(I)Z" } : Jvm.MethodName)) ∈ lw_all := lw_g (lw_at lw_m10 89 rfl) rfl
theorem q2313 : (Jvm.Cond.code ({ cls := "MustardMillModel", name := "isOrder", desc := "(I)Z" } : Jvm.MethodName) prog_18_method_14_code (2 : Nat) (Option.some Jvm.ClassFile.FieldType.boolean)) ∈ lw_all := lw_g (lw_at lw_m10 90 rfl) rfl
theorem q2314 : (Jvm.Cond.methodLink "MustardMillModel" (154 : Nat) ({ cls := "MustardMillModel", name := "ofOrder", desc := "(II)I" } : Jvm.MethodName)) ∈ lw_all := lw_g (lw_at lw_m10 91 rfl) rfl
theorem q2315 : (Jvm.Cond.privateMethod ({ cls := "MustardMillModel", name := "ofOrder", desc := "(II)I" } : Jvm.MethodName)) ∈ lw_tbl := lw_at lw_m10 92 rfl
theorem q2316 : (Jvm.Cond.instanceMethod ({ cls := "MustardMillModel", name := "ofOrder", desc := "(II)I" } : Jvm.MethodName)) ∈ lw_all := lw_g (lw_at lw_m10 93 rfl) rfl
theorem q2317 : (Jvm.Cond.code ({ cls := "MustardMillModel", name := "ofOrder", desc := "(II)I" } : Jvm.MethodName) prog_18_method_20_code (3 : Nat) (Option.some Jvm.ClassFile.FieldType.int)) ∈ lw_all := lw_g (lw_at lw_m10 94 rfl) rfl
theorem q2318 : (Jvm.Cond.methodLink "MustardMillModel" (160 : Nat) ({ cls := "MustardMillModel", name := "findJar", desc := "(I)I" } : Jvm.MethodName)) ∈ lw_all := lw_g (lw_at lw_m10 95 rfl) rfl
theorem q2319 : (Jvm.Cond.privateMethod ({ cls := "MustardMillModel", name := "findJar", desc := "(I)I" } : Jvm.MethodName)) ∈ lw_tbl := lw_at lw_m10 96 rfl
theorem q2320 : (Jvm.Cond.instanceMethod ({ cls := "MustardMillModel", name := "findJar", desc := "(I)I" } : Jvm.MethodName)) ∈ lw_all := lw_g (lw_at lw_m10 97 rfl) rfl
theorem q2321 : (Jvm.Cond.code ({ cls := "MustardMillModel", name := "findJar", desc := "(I)I" } : Jvm.MethodName) prog_18_method_48_code (4 : Nat) (Option.some Jvm.ClassFile.FieldType.int)) ∈ lw_all := lw_g (lw_at lw_m10 98 rfl) rfl
theorem q2322 : (Jvm.Cond.methodLink "MustardMillModel" (151 : Nat) ({ cls := "MustardMillModel", name := "isRipe", desc := "(I)Z" } : Jvm.MethodName)) ∈ lw_all := lw_g (lw_at lw_m10 99 rfl) rfl
theorem q2323 : (Jvm.Cond.privateMethod ({ cls := "MustardMillModel", name := "isRipe", desc := "(I)Z" } : Jvm.MethodName)) ∈ lw_tbl := lw_at lw_m10 100 rfl
theorem q2324 : (Jvm.Cond.instanceMethod ({ cls := "MustardMillModel", name := "isRipe", desc := "(I)Z" } : Jvm.MethodName)) ∈ lw_all := lw_g (lw_at lw_m10 101 rfl) rfl
theorem q2325 : (Jvm.Cond.code ({ cls := "MustardMillModel", name := "isRipe", desc := "(I)Z" } : Jvm.MethodName) prog_18_method_38_code (2 : Nat) (Option.some Jvm.ClassFile.FieldType.boolean)) ∈ lw_all := lw_g (lw_at lw_m10 102 rfl) rfl
theorem q2326 : (Jvm.Cond.methodLink "MustardMillModel" (163 : Nat) ({ cls := "MustardMillModel", name := "jars", desc := "(I)I" } : Jvm.MethodName)) ∈ lw_all := lw_g (lw_at lw_m10 103 rfl) rfl
theorem q2327 : (Jvm.Cond.privateMethod ({ cls := "MustardMillModel", name := "jars", desc := "(I)I" } : Jvm.MethodName)) ∈ lw_tbl := lw_at lw_m10 104 rfl
theorem q2328 : (Jvm.Cond.instanceMethod ({ cls := "MustardMillModel", name := "jars", desc := "(I)I" } : Jvm.MethodName)) ∈ lw_all := lw_g (lw_at lw_m10 105 rfl) rfl
theorem q2329 : (Jvm.Cond.code ({ cls := "MustardMillModel", name := "jars", desc := "(I)I" } : Jvm.MethodName) prog_18_method_49_code (4 : Nat) (Option.some Jvm.ClassFile.FieldType.int)) ∈ lw_all := lw_g (lw_at lw_m10 106 rfl) rfl
theorem q2331 : (Jvm.Cond.instanceMethod ({ cls := "MustardMillModel", name := "orderOf", desc := "(II)I" } : Jvm.MethodName)) ∈ lw_all := lw_g (lw_at lw_m10 108 rfl) rfl
theorem q2332 : (Jvm.Cond.selects "MustardMillModel" ({ cls := "MustardMillModel", name := "orderOf", desc := "(II)I" } : Jvm.MethodName) ({ cls := "MustardMillModel", name := "orderOf", desc := "(II)I" } : Jvm.MethodName)) ∈ lw_all := lw_g (lw_at lw_m10 109 rfl) rfl
theorem q2333 : (Jvm.Cond.code ({ cls := "MustardMillModel", name := "orderOf", desc := "(II)I" } : Jvm.MethodName) prog_18_method_51_code (3 : Nat) (Option.some Jvm.ClassFile.FieldType.int)) ∈ lw_all := lw_g (lw_at lw_m10 110 rfl) rfl
theorem q2335 : (Jvm.Cond.instanceMethod ({ cls := "MustardMillModel", name := "servedIn", desc := "(I)I" } : Jvm.MethodName)) ∈ lw_all := lw_g (lw_at lw_m10 112 rfl) rfl
theorem q2336 : (Jvm.Cond.selects "MustardMillModel" ({ cls := "MustardMillModel", name := "servedIn", desc := "(I)I" } : Jvm.MethodName) ({ cls := "MustardMillModel", name := "servedIn", desc := "(I)I" } : Jvm.MethodName)) ∈ lw_all := lw_g (lw_at lw_m10 113 rfl) rfl
theorem q2337 : (Jvm.Cond.code ({ cls := "MustardMillModel", name := "servedIn", desc := "(I)I" } : Jvm.MethodName) prog_18_method_53_code (3 : Nat) (Option.some Jvm.ClassFile.FieldType.int)) ∈ lw_all := lw_g (lw_at lw_m10 114 rfl) rfl
theorem q2338 : (Jvm.Cond.methodLink "MustardMillModel" (166 : Nat) ({ cls := "MustardMillModel", name := "goesBy", desc := "()I" } : Jvm.MethodName)) ∈ lw_all := lw_g (lw_at lw_m10 115 rfl) rfl
theorem q2339 : (Jvm.Cond.privateMethod ({ cls := "MustardMillModel", name := "goesBy", desc := "()I" } : Jvm.MethodName)) ∈ lw_tbl := lw_at lw_m10 116 rfl
theorem q2340 : (Jvm.Cond.instanceMethod ({ cls := "MustardMillModel", name := "goesBy", desc := "()I" } : Jvm.MethodName)) ∈ lw_all := lw_g (lw_at lw_m10 117 rfl) rfl
theorem q2341 : (Jvm.Cond.code ({ cls := "MustardMillModel", name := "goesBy", desc := "()I" } : Jvm.MethodName) prog_18_method_52_code (4 : Nat) (Option.some Jvm.ClassFile.FieldType.int)) ∈ lw_all := lw_g (lw_at lw_m10 118 rfl) rfl
theorem q2343 : (Jvm.Cond.instanceMethod ({ cls := "MustardMillModel", name := "rest", desc := "(I)I" } : Jvm.MethodName)) ∈ lw_all := lw_g (lw_at lw_m10 120 rfl) rfl
theorem q2344 : (Jvm.Cond.selects "MustardMillModel" ({ cls := "MustardMillModel", name := "rest", desc := "(I)I" } : Jvm.MethodName) ({ cls := "MustardMillModel", name := "rest", desc := "(I)I" } : Jvm.MethodName)) ∈ lw_all := lw_g (lw_at lw_m10 121 rfl) rfl
theorem q2345 : (Jvm.Cond.code ({ cls := "MustardMillModel", name := "rest", desc := "(I)I" } : Jvm.MethodName) prog_18_method_54_code (4 : Nat) (Option.some Jvm.ClassFile.FieldType.int)) ∈ lw_all := lw_g (lw_at lw_m10 122 rfl) rfl
theorem q2347 : (Jvm.Cond.instanceMethod ({ cls := "MustardMillModel", name := "tray", desc := "(I)I" } : Jvm.MethodName)) ∈ lw_all := lw_g (lw_at lw_m10 124 rfl) rfl
theorem q2348 : (Jvm.Cond.selects "MustardMillModel" ({ cls := "MustardMillModel", name := "tray", desc := "(I)I" } : Jvm.MethodName) ({ cls := "MustardMillModel", name := "tray", desc := "(I)I" } : Jvm.MethodName)) ∈ lw_all := lw_g (lw_at lw_m10 125 rfl) rfl
theorem q2349 : (Jvm.Cond.code ({ cls := "MustardMillModel", name := "tray", desc := "(I)I" } : Jvm.MethodName) prog_18_method_56_code (4 : Nat) (Option.some Jvm.ClassFile.FieldType.int)) ∈ lw_all := lw_g (lw_at lw_m10 126 rfl) rfl
theorem q2350 : (Jvm.Cond.methodLink "MustardMillModel" (170 : Nat) ({ cls := "MustardMillModel", name := "laid", desc := "()I" } : Jvm.MethodName)) ∈ lw_all := lw_g (lw_at lw_m10 127 rfl) rfl
theorem q2351 : (Jvm.Cond.privateMethod ({ cls := "MustardMillModel", name := "laid", desc := "()I" } : Jvm.MethodName)) ∈ lw_tbl := lw_at lw_m10 128 rfl
theorem q2352 : (Jvm.Cond.instanceMethod ({ cls := "MustardMillModel", name := "laid", desc := "()I" } : Jvm.MethodName)) ∈ lw_all := lw_g (lw_at lw_m10 129 rfl) rfl
theorem q2353 : (Jvm.Cond.code ({ cls := "MustardMillModel", name := "laid", desc := "()I" } : Jvm.MethodName) prog_18_method_55_code (3 : Nat) (Option.some Jvm.ClassFile.FieldType.int)) ∈ lw_all := lw_g (lw_at lw_m10 130 rfl) rfl
theorem q2355 : (Jvm.Cond.instanceMethod ({ cls := "MustardMillModel", name := "lay", desc := "(III)I" } : Jvm.MethodName)) ∈ lw_all := lw_g (lw_at lw_m10 132 rfl) rfl
theorem q2356 : (Jvm.Cond.selects "MustardMillModel" ({ cls := "MustardMillModel", name := "lay", desc := "(III)I" } : Jvm.MethodName) ({ cls := "MustardMillModel", name := "lay", desc := "(III)I" } : Jvm.MethodName)) ∈ lw_all := lw_g (lw_at lw_m10 133 rfl) rfl
theorem q2357 : (Jvm.Cond.code ({ cls := "MustardMillModel", name := "lay", desc := "(III)I" } : Jvm.MethodName) prog_18_method_57_code (6 : Nat) (Option.some Jvm.ClassFile.FieldType.int)) ∈ lw_all := lw_g (lw_at lw_m10 134 rfl) rfl
theorem q2359 : (Jvm.Cond.instanceMethod ({ cls := "MustardMillModel", name := "onTray", desc := "(I)I" } : Jvm.MethodName)) ∈ lw_all := lw_g (lw_at lw_m10 136 rfl) rfl
theorem q2360 : (Jvm.Cond.selects "MustardMillModel" ({ cls := "MustardMillModel", name := "onTray", desc := "(I)I" } : Jvm.MethodName) ({ cls := "MustardMillModel", name := "onTray", desc := "(I)I" } : Jvm.MethodName)) ∈ lw_all := lw_g (lw_at lw_m10 137 rfl) rfl
theorem q2361 : (Jvm.Cond.code ({ cls := "MustardMillModel", name := "onTray", desc := "(I)I" } : Jvm.MethodName) prog_18_method_58_code (2 : Nat) (Option.some Jvm.ClassFile.FieldType.int)) ∈ lw_all := lw_g (lw_at lw_m10 138 rfl) rfl
theorem q2363 : (Jvm.Cond.instanceMethod ({ cls := "MustardMillModel", name := "line", desc := "(I)I" } : Jvm.MethodName)) ∈ lw_all := lw_g (lw_at lw_m10 140 rfl) rfl
theorem q2364 : (Jvm.Cond.selects "MustardMillModel" ({ cls := "MustardMillModel", name := "line", desc := "(I)I" } : Jvm.MethodName) ({ cls := "MustardMillModel", name := "line", desc := "(I)I" } : Jvm.MethodName)) ∈ lw_all := lw_g (lw_at lw_m10 141 rfl) rfl
theorem q2365 : (Jvm.Cond.code ({ cls := "MustardMillModel", name := "line", desc := "(I)I" } : Jvm.MethodName) prog_18_method_62_code (2 : Nat) (Option.some Jvm.ClassFile.FieldType.int)) ∈ lw_all := lw_g (lw_at lw_m10 142 rfl) rfl
theorem q2366 : (Jvm.Cond.methodLink "MustardMillModel" (176 : Nat) ({ cls := "MustardMillModel", name := "writes", desc := "(I)V" } : Jvm.MethodName)) ∈ lw_all := lw_g (lw_at lw_m10 143 rfl) rfl
theorem q2367 : (Jvm.Cond.privateMethod ({ cls := "MustardMillModel", name := "writes", desc := "(I)V" } : Jvm.MethodName)) ∈ lw_tbl := lw_at lw_m10 144 rfl
theorem q2368 : (Jvm.Cond.instanceMethod ({ cls := "MustardMillModel", name := "writes", desc := "(I)V" } : Jvm.MethodName)) ∈ lw_all := lw_g (lw_at lw_m10 145 rfl) rfl
theorem q2369 : (Jvm.Cond.code ({ cls := "MustardMillModel", name := "writes", desc := "(I)V" } : Jvm.MethodName) prog_18_method_59_code (2 : Nat) (Option.none : Option Jvm.ClassFile.FieldType)) ∈ lw_all := lw_g (lw_at lw_m10 146 rfl) rfl
theorem q2370 : (Jvm.Cond.methodLink "MustardMillModel" (188 : Nat) ({ cls := "MustardMillModel", name := "writesNumber", desc := "(I)V" } : Jvm.MethodName)) ∈ lw_all := lw_g (lw_at lw_m10 147 rfl) rfl
theorem q2371 : (Jvm.Cond.privateMethod ({ cls := "MustardMillModel", name := "writesNumber", desc := "(I)V" } : Jvm.MethodName)) ∈ lw_tbl := lw_at lw_m10 148 rfl
theorem q2372 : (Jvm.Cond.instanceMethod ({ cls := "MustardMillModel", name := "writesNumber", desc := "(I)V" } : Jvm.MethodName)) ∈ lw_all := lw_g (lw_at lw_m10 149 rfl) rfl
theorem q2373 : (Jvm.Cond.code ({ cls := "MustardMillModel", name := "writesNumber", desc := "(I)V" } : Jvm.MethodName) prog_18_method_60_code (3 : Nat) (Option.none : Option Jvm.ClassFile.FieldType)) ∈ lw_all := lw_g (lw_at lw_m10 150 rfl) rfl
theorem q2374 : (Jvm.Cond.stringRef "MustardMillModel" (191 : Nat) " of ") ∈ lw_tbl := lw_at lw_m10 151 rfl
theorem q2375 : (Jvm.Cond.methodLink "MustardMillModel" (193 : Nat) ({ cls := "MustardMillModel", name := "writesText", desc := "(Ljava/lang/String;)V" } : Jvm.MethodName)) ∈ lw_all := lw_g (lw_at lw_m10 152 rfl) rfl
theorem q2376 : (Jvm.Cond.privateMethod ({ cls := "MustardMillModel", name := "writesText", desc := "(Ljava/lang/String;)V" } : Jvm.MethodName)) ∈ lw_tbl := lw_at lw_m10 153 rfl
theorem q2377 : (Jvm.Cond.instanceMethod ({ cls := "MustardMillModel", name := "writesText", desc := "(Ljava/lang/String;)V" } : Jvm.MethodName)) ∈ lw_all := lw_g (lw_at lw_m10 154 rfl) rfl
theorem q2378 : (Jvm.Cond.code ({ cls := "MustardMillModel", name := "writesText", desc := "(Ljava/lang/String;)V" } : Jvm.MethodName) prog_18_method_61_code (3 : Nat) (Option.none : Option Jvm.ClassFile.FieldType)) ∈ lw_all := lw_g (lw_at lw_m10 155 rfl) rfl
theorem q2379 : (Jvm.Cond.methodLink "MustardMillModel" (179 : Nat) ({ cls := "java/lang/String", name := "length", desc := "()I" } : Jvm.MethodName)) ∈ lw_all := lw_g (lw_at lw_m10 156 rfl) rfl
theorem q2380 : (Jvm.Cond.methodLink "MustardMillModel" (184 : Nat) ({ cls := "java/lang/String", name := "charAt", desc := "(I)C" } : Jvm.MethodName)) ∈ lw_all := lw_g (lw_at lw_m10 157 rfl) rfl
theorem q2381 : (Jvm.Cond.stringRef "MustardMillModel" (197 : Nat) ", ") ∈ lw_tbl := lw_at lw_m10 158 rfl
theorem q2382 : (Jvm.Cond.stringRef "MustardMillModel" (199 : Nat) "d, ") ∈ lw_tbl := lw_at lw_m10 159 rfl
theorem q2383 : (Jvm.Cond.stringRef "MustardMillModel" (201 : Nat) "open") ∈ lw_tbl := lw_at lw_m10 160 rfl
theorem q2384 : (Jvm.Cond.stringRef "MustardMillModel" (203 : Nat) "sold") ∈ lw_tbl := lw_at lw_m10 161 rfl
theorem q2385 : (Jvm.Cond.stringRef "MustardMillModel" (205 : Nat) "ripe") ∈ lw_tbl := lw_at lw_m10 162 rfl
theorem q2386 : (Jvm.Cond.stringRef "MustardMillModel" (207 : Nat) "resting") ∈ lw_tbl := lw_at lw_m10 163 rfl
theorem q2388 : (Jvm.Cond.instanceMethod ({ cls := "MustardMillModel", name := "stockLine", desc := "()I" } : Jvm.MethodName)) ∈ lw_all := lw_g (lw_at lw_m10 165 rfl) rfl
theorem q2389 : (Jvm.Cond.selects "MustardMillModel" ({ cls := "MustardMillModel", name := "stockLine", desc := "()I" } : Jvm.MethodName) ({ cls := "MustardMillModel", name := "stockLine", desc := "()I" } : Jvm.MethodName)) ∈ lw_all := lw_g (lw_at lw_m10 166 rfl) rfl
theorem q2390 : (Jvm.Cond.code ({ cls := "MustardMillModel", name := "stockLine", desc := "()I" } : Jvm.MethodName) prog_18_method_63_code (2 : Nat) (Option.some Jvm.ClassFile.FieldType.int)) ∈ lw_all := lw_g (lw_at lw_m10 167 rfl) rfl
theorem q2391 : (Jvm.Cond.stringRef "MustardMillModel" (209 : Nat) "ybkvcp") ∈ lw_tbl := lw_at lw_m10 168 rfl
theorem q2393 : (Jvm.Cond.instanceMethod ({ cls := "MustardMillModel", name := "character", desc := "(I)C" } : Jvm.MethodName)) ∈ lw_all := lw_g (lw_at lw_m10 170 rfl) rfl
theorem q2394 : (Jvm.Cond.selects "MustardMillModel" ({ cls := "MustardMillModel", name := "character", desc := "(I)C" } : Jvm.MethodName) ({ cls := "MustardMillModel", name := "character", desc := "(I)C" } : Jvm.MethodName)) ∈ lw_all := lw_g (lw_at lw_m10 171 rfl) rfl
theorem q2395 : (Jvm.Cond.code ({ cls := "MustardMillModel", name := "character", desc := "(I)C" } : Jvm.MethodName) prog_18_method_64_code (2 : Nat) (Option.some Jvm.ClassFile.FieldType.char)) ∈ lw_all := lw_g (lw_at lw_m10 172 rfl) rfl
theorem q2397 : (Jvm.Cond.instanceMethod ({ cls := "MustardMillModel", name := "refusal", desc := "(Z)I" } : Jvm.MethodName)) ∈ lw_all := lw_g (lw_at lw_m10 174 rfl) rfl
theorem q2398 : (Jvm.Cond.selects "MustardMillModel" ({ cls := "MustardMillModel", name := "refusal", desc := "(Z)I" } : Jvm.MethodName) ({ cls := "MustardMillModel", name := "refusal", desc := "(Z)I" } : Jvm.MethodName)) ∈ lw_all := lw_g (lw_at lw_m10 175 rfl) rfl
theorem q2399 : (Jvm.Cond.code ({ cls := "MustardMillModel", name := "refusal", desc := "(Z)I" } : Jvm.MethodName) prog_18_method_65_code (2 : Nat) (Option.some Jvm.ClassFile.FieldType.int)) ∈ lw_all := lw_g (lw_at lw_m10 176 rfl) rfl
theorem q2401 : (Jvm.Cond.instanceMethod ({ cls := "MustardMillModel", name := "account", desc := "(I)I" } : Jvm.MethodName)) ∈ lw_all := lw_g (lw_at lw_m10 178 rfl) rfl
theorem q2402 : (Jvm.Cond.selects "MustardMillModel" ({ cls := "MustardMillModel", name := "account", desc := "(I)I" } : Jvm.MethodName) ({ cls := "MustardMillModel", name := "account", desc := "(I)I" } : Jvm.MethodName)) ∈ lw_all := lw_g (lw_at lw_m10 179 rfl) rfl
theorem q2403 : (Jvm.Cond.code ({ cls := "MustardMillModel", name := "account", desc := "(I)I" } : Jvm.MethodName) prog_18_method_68_code (2 : Nat) (Option.some Jvm.ClassFile.FieldType.int)) ∈ lw_all := lw_g (lw_at lw_m10 180 rfl) rfl
theorem q2404 : (Jvm.Cond.methodLink "MustardMillModel" (211 : Nat) ({ cls := "MustardMillModel", name := "ripe", desc := "()I" } : Jvm.MethodName)) ∈ lw_all := lw_g (lw_at lw_m10 181 rfl) rfl
theorem q2405 : (Jvm.Cond.privateMethod ({ cls := "MustardMillModel", name := "ripe", desc := "()I" } : Jvm.MethodName)) ∈ lw_tbl := lw_at lw_m10 182 rfl
theorem q2406 : (Jvm.Cond.instanceMethod ({ cls := "MustardMillModel", name := "ripe", desc := "()I" } : Jvm.MethodName)) ∈ lw_all := lw_g (lw_at lw_m10 183 rfl) rfl
theorem q2407 : (Jvm.Cond.code ({ cls := "MustardMillModel", name := "ripe", desc := "()I" } : Jvm.MethodName) prog_18_method_66_code (3 : Nat) (Option.some Jvm.ClassFile.FieldType.int)) ∈ lw_all := lw_g (lw_at lw_m10 184 rfl) rfl
theorem q2408 : (Jvm.Cond.methodLink "MustardMillModel" (213 : Nat) ({ cls := "MustardMillModel", name := "openOrders", desc := "()I" } : Jvm.MethodName)) ∈ lw_all := lw_g (lw_at lw_m10 185 rfl) rfl
theorem q2409 : (Jvm.Cond.privateMethod ({ cls := "MustardMillModel", name := "openOrders", desc := "()I" } : Jvm.MethodName)) ∈ lw_tbl := lw_at lw_m10 186 rfl
theorem q2410 : (Jvm.Cond.instanceMethod ({ cls := "MustardMillModel", name := "openOrders", desc := "()I" } : Jvm.MethodName)) ∈ lw_all := lw_g (lw_at lw_m10 187 rfl) rfl
theorem q2411 : (Jvm.Cond.code ({ cls := "MustardMillModel", name := "openOrders", desc := "()I" } : Jvm.MethodName) prog_18_method_67_code (3 : Nat) (Option.some Jvm.ClassFile.FieldType.int)) ∈ lw_all := lw_g (lw_at lw_m10 188 rfl) rfl
theorem q2413 : (Jvm.Cond.instanceMethod ({ cls := "MustardMillModel", name := "meanTear", desc := "()D" } : Jvm.MethodName)) ∈ lw_all := lw_g (lw_at lw_m10 190 rfl) rfl
theorem q2414 : (Jvm.Cond.selects "MustardMillModel" ({ cls := "MustardMillModel", name := "meanTear", desc := "()D" } : Jvm.MethodName) ({ cls := "MustardMillModel", name := "meanTear", desc := "()D" } : Jvm.MethodName)) ∈ lw_all := lw_g (lw_at lw_m10 191 rfl) rfl
theorem q2415 : (Jvm.Cond.code ({ cls := "MustardMillModel", name := "meanTear", desc := "()D" } : Jvm.MethodName) prog_18_method_69_code (3 : Nat) (Option.some Jvm.ClassFile.FieldType.double)) ∈ lw_all := lw_g (lw_at lw_m10 192 rfl) rfl
theorem q2417 : (Jvm.Cond.instanceMethod ({ cls := "MustardMillModel", name := "soldShare", desc := "()F" } : Jvm.MethodName)) ∈ lw_all := lw_g (lw_at lw_m10 194 rfl) rfl
theorem q2418 : (Jvm.Cond.selects "MustardMillModel" ({ cls := "MustardMillModel", name := "soldShare", desc := "()F" } : Jvm.MethodName) ({ cls := "MustardMillModel", name := "soldShare", desc := "()F" } : Jvm.MethodName)) ∈ lw_all := lw_g (lw_at lw_m10 195 rfl) rfl
theorem q2419 : (Jvm.Cond.code ({ cls := "MustardMillModel", name := "soldShare", desc := "()F" } : Jvm.MethodName) prog_18_method_70_code (1 : Nat) (Option.some Jvm.ClassFile.FieldType.float)) ∈ lw_all := lw_g (lw_at lw_m10 196 rfl) rfl
theorem q2421 : (Jvm.Cond.instanceMethod ({ cls := "MustardMillModel", name := "append", desc := "(I)I" } : Jvm.MethodName)) ∈ lw_all := lw_g (lw_at lw_m10 198 rfl) rfl
theorem q2422 : (Jvm.Cond.selects "MustardMillModel" ({ cls := "MustardMillModel", name := "append", desc := "(I)I" } : Jvm.MethodName) ({ cls := "MustardMillModel", name := "append", desc := "(I)I" } : Jvm.MethodName)) ∈ lw_all := lw_g (lw_at lw_m10 199 rfl) rfl
theorem q2423 : (Jvm.Cond.code ({ cls := "MustardMillModel", name := "append", desc := "(I)I" } : Jvm.MethodName) prog_18_method_71_code (5 : Nat) (Option.some Jvm.ClassFile.FieldType.int)) ∈ lw_all := lw_g (lw_at lw_m10 200 rfl) rfl
theorem q2425 : (Jvm.Cond.instanceMethod ({ cls := "MustardMillModel", name := "read", desc := "()I" } : Jvm.MethodName)) ∈ lw_all := lw_g (lw_at lw_m10 202 rfl) rfl
theorem q2426 : (Jvm.Cond.selects "MustardMillModel" ({ cls := "MustardMillModel", name := "read", desc := "()I" } : Jvm.MethodName) ({ cls := "MustardMillModel", name := "read", desc := "()I" } : Jvm.MethodName)) ∈ lw_all := lw_g (lw_at lw_m10 203 rfl) rfl
theorem q2427 : (Jvm.Cond.code ({ cls := "MustardMillModel", name := "read", desc := "()I" } : Jvm.MethodName) prog_18_method_80_code (4 : Nat) (Option.some Jvm.ClassFile.FieldType.int)) ∈ lw_all := lw_g (lw_at lw_m10 204 rfl) rfl
theorem q2428 : (Jvm.Cond.methodLink "MustardMillModel" (276 : Nat) ({ cls := "MustardMillModel", name := "isText", desc := "()Z" } : Jvm.MethodName)) ∈ lw_all := lw_g (lw_at lw_m10 205 rfl) rfl
theorem q2429 : (Jvm.Cond.privateMethod ({ cls := "MustardMillModel", name := "isText", desc := "()Z" } : Jvm.MethodName)) ∈ lw_tbl := lw_at lw_m10 206 rfl
theorem q2430 : (Jvm.Cond.instanceMethod ({ cls := "MustardMillModel", name := "isText", desc := "()Z" } : Jvm.MethodName)) ∈ lw_all := lw_g (lw_at lw_m10 207 rfl) rfl
theorem q2431 : (Jvm.Cond.code ({ cls := "MustardMillModel", name := "isText", desc := "()Z" } : Jvm.MethodName) prog_18_method_78_code (1 : Nat) (Option.some Jvm.ClassFile.FieldType.boolean)) ∈ lw_all := lw_g (lw_at lw_m10 208 rfl) rfl
theorem q2432 : (Jvm.Cond.methodLink "MustardMillModel" (256 : Nat) ({ cls := "MustardMillModel", name := "orderHere", desc := "()Z" } : Jvm.MethodName)) ∈ lw_all := lw_g (lw_at lw_m10 209 rfl) rfl
theorem q2433 : (Jvm.Cond.privateMethod ({ cls := "MustardMillModel", name := "orderHere", desc := "()Z" } : Jvm.MethodName)) ∈ lw_tbl := lw_at lw_m10 210 rfl
theorem q2434 : (Jvm.Cond.instanceMethod ({ cls := "MustardMillModel", name := "orderHere", desc := "()Z" } : Jvm.MethodName)) ∈ lw_all := lw_g (lw_at lw_m10 211 rfl) rfl
theorem q2435 : (Jvm.Cond.code ({ cls := "MustardMillModel", name := "orderHere", desc := "()Z" } : Jvm.MethodName) prog_18_method_77_code (2 : Nat) (Option.some Jvm.ClassFile.FieldType.boolean)) ∈ lw_all := lw_g (lw_at lw_m10 212 rfl) rfl
theorem q2436 : (Jvm.Cond.methodLink "MustardMillModel" (250 : Nat) ({ cls := "MustardMillModel", name := "wordHere", desc := "()I" } : Jvm.MethodName)) ∈ lw_all := lw_g (lw_at lw_m10 213 rfl) rfl
theorem q2437 : (Jvm.Cond.privateMethod ({ cls := "MustardMillModel", name := "wordHere", desc := "()I" } : Jvm.MethodName)) ∈ lw_tbl := lw_at lw_m10 214 rfl
theorem q2438 : (Jvm.Cond.instanceMethod ({ cls := "MustardMillModel", name := "wordHere", desc := "()I" } : Jvm.MethodName)) ∈ lw_all := lw_g (lw_at lw_m10 215 rfl) rfl
theorem q2439 : (Jvm.Cond.code ({ cls := "MustardMillModel", name := "wordHere", desc := "()I" } : Jvm.MethodName) prog_18_method_76_code (1 : Nat) (Option.some Jvm.ClassFile.FieldType.int)) ∈ lw_all := lw_g (lw_at lw_m10 216 rfl) rfl
theorem q2440 : (Jvm.Cond.methodLink "MustardMillModel" (221 : Nat) ({ cls := "MustardMillModel", name := "here", desc := "()I" } : Jvm.MethodName)) ∈ lw_all := lw_g (lw_at lw_m10 217 rfl) rfl
theorem q2441 : (Jvm.Cond.privateMethod ({ cls := "MustardMillModel", name := "here", desc := "()I" } : Jvm.MethodName)) ∈ lw_tbl := lw_at lw_m10 218 rfl
theorem q2442 : (Jvm.Cond.instanceMethod ({ cls := "MustardMillModel", name := "here", desc := "()I" } : Jvm.MethodName)) ∈ lw_all := lw_g (lw_at lw_m10 219 rfl) rfl
theorem q2443 : (Jvm.Cond.code ({ cls := "MustardMillModel", name := "here", desc := "()I" } : Jvm.MethodName) prog_18_method_72_code (1 : Nat) (Option.some Jvm.ClassFile.FieldType.int)) ∈ lw_all := lw_g (lw_at lw_m10 220 rfl) rfl
theorem q2444 : (Jvm.Cond.stringRef "MustardMillModel" (227 : Nat) "grind") ∈ lw_tbl := lw_at lw_m10 221 rfl
theorem q2445 : (Jvm.Cond.methodLink "MustardMillModel" (229 : Nat) ({ cls := "MustardMillModel", name := "word", desc := "(Ljava/lang/String;I)Z" } : Jvm.MethodName)) ∈ lw_all := lw_g (lw_at lw_m10 222 rfl) rfl
theorem q2446 : (Jvm.Cond.privateMethod ({ cls := "MustardMillModel", name := "word", desc := "(Ljava/lang/String;I)Z" } : Jvm.MethodName)) ∈ lw_tbl := lw_at lw_m10 223 rfl
theorem q2447 : (Jvm.Cond.instanceMethod ({ cls := "MustardMillModel", name := "word", desc := "(Ljava/lang/String;I)Z" } : Jvm.MethodName)) ∈ lw_all := lw_g (lw_at lw_m10 224 rfl) rfl
theorem q2448 : (Jvm.Cond.code ({ cls := "MustardMillModel", name := "word", desc := "(Ljava/lang/String;I)Z" } : Jvm.MethodName) prog_18_method_74_code (4 : Nat) (Option.some Jvm.ClassFile.FieldType.boolean)) ∈ lw_all := lw_g (lw_at lw_m10 225 rfl) rfl
theorem q2449 : (Jvm.Cond.methodLink "MustardMillModel" (224 : Nat) ({ cls := "MustardMillModel", name := "skips", desc := "(I)Z" } : Jvm.MethodName)) ∈ lw_all := lw_g (lw_at lw_m10 226 rfl) rfl
theorem q2450 : (Jvm.Cond.privateMethod ({ cls := "MustardMillModel", name := "skips", desc := "(I)Z" } : Jvm.MethodName)) ∈ lw_tbl := lw_at lw_m10 227 rfl
theorem q2451 : (Jvm.Cond.instanceMethod ({ cls := "MustardMillModel", name := "skips", desc := "(I)Z" } : Jvm.MethodName)) ∈ lw_all := lw_g (lw_at lw_m10 228 rfl) rfl
theorem q2452 : (Jvm.Cond.code ({ cls := "MustardMillModel", name := "skips", desc := "(I)Z" } : Jvm.MethodName) prog_18_method_73_code (2 : Nat) (Option.some Jvm.ClassFile.FieldType.boolean)) ∈ lw_all := lw_g (lw_at lw_m10 229 rfl) rfl
theorem q2453 : (Jvm.Cond.stringRef "MustardMillModel" (233 : Nat) "dress") ∈ lw_tbl := lw_at lw_m10 230 rfl
theorem q2454 : (Jvm.Cond.stringRef "MustardMillModel" (235 : Nat) "mix") ∈ lw_tbl := lw_at lw_m10 231 rfl
theorem q2455 : (Jvm.Cond.stringRef "MustardMillModel" (237 : Nat) "jar") ∈ lw_tbl := lw_at lw_m10 232 rfl
theorem q2456 : (Jvm.Cond.stringRef "MustardMillModel" (239 : Nat) "rest") ∈ lw_tbl := lw_at lw_m10 233 rfl
theorem q2457 : (Jvm.Cond.stringRef "MustardMillModel" (241 : Nat) "se") ∈ lw_tbl := lw_at lw_m10 234 rfl
theorem q2458 : (Jvm.Cond.stringRef "MustardMillModel" (243 : Nat) "sell") ∈ lw_tbl := lw_at lw_m10 235 rfl
theorem q2459 : (Jvm.Cond.stringRef "MustardMillModel" (245 : Nat) "serve") ∈ lw_tbl := lw_at lw_m10 236 rfl
theorem q2460 : (Jvm.Cond.methodLink "MustardMillModel" (253 : Nat) ({ cls := "MustardMillModel", name := "numbers", desc := "(II)Z" } : Jvm.MethodName)) ∈ lw_all := lw_g (lw_at lw_m10 237 rfl) rfl
theorem q2461 : (Jvm.Cond.privateMethod ({ cls := "MustardMillModel", name := "numbers", desc := "(II)Z" } : Jvm.MethodName)) ∈ lw_tbl := lw_at lw_m10 238 rfl
theorem q2462 : (Jvm.Cond.instanceMethod ({ cls := "MustardMillModel", name := "numbers", desc := "(II)Z" } : Jvm.MethodName)) ∈ lw_all := lw_g (lw_at lw_m10 239 rfl) rfl
theorem q2463 : (Jvm.Cond.code ({ cls := "MustardMillModel", name := "numbers", desc := "(II)Z" } : Jvm.MethodName) prog_18_method_75_code (4 : Nat) (Option.some Jvm.ClassFile.FieldType.boolean)) ∈ lw_all := lw_g (lw_at lw_m11 0 rfl) rfl
theorem q2464 : (Jvm.Cond.methodLink "MustardMillModel" (279 : Nat) ({ cls := "MustardMillModel", name := "carries", desc := "(I)I" } : Jvm.MethodName)) ∈ lw_all := lw_g (lw_at lw_m11 1 rfl) rfl
theorem q2465 : (Jvm.Cond.privateMethod ({ cls := "MustardMillModel", name := "carries", desc := "(I)I" } : Jvm.MethodName)) ∈ lw_tbl := lw_at lw_m11 2 rfl
theorem q2466 : (Jvm.Cond.instanceMethod ({ cls := "MustardMillModel", name := "carries", desc := "(I)I" } : Jvm.MethodName)) ∈ lw_all := lw_g (lw_at lw_m11 3 rfl) rfl
theorem q2467 : (Jvm.Cond.code ({ cls := "MustardMillModel", name := "carries", desc := "(I)I" } : Jvm.MethodName) prog_18_method_79_code (2 : Nat) (Option.some Jvm.ClassFile.FieldType.int)) ∈ lw_all := lw_g (lw_at lw_m11 4 rfl) rfl
theorem q2468 : (Jvm.Cond.methodLink "MustardMillModel" (260 : Nat) ({ cls := "MustardMillModel", name := "grind", desc := "(IIII)I" } : Jvm.MethodName)) ∈ lw_all := lw_g (lw_at lw_m11 5 rfl) rfl
theorem q2469 : (Jvm.Cond.methodLink "MustardMillModel" (262 : Nat) ({ cls := "MustardMillModel", name := "dress", desc := "(I)I" } : Jvm.MethodName)) ∈ lw_all := lw_g (lw_at lw_m11 6 rfl) rfl
theorem q2470 : (Jvm.Cond.methodLink "MustardMillModel" (264 : Nat) ({ cls := "MustardMillModel", name := "mix", desc := "(II)I" } : Jvm.MethodName)) ∈ lw_all := lw_g (lw_at lw_m11 7 rfl) rfl
theorem q2471 : (Jvm.Cond.methodLink "MustardMillModel" (266 : Nat) ({ cls := "MustardMillModel", name := "jar", desc := "(II)I" } : Jvm.MethodName)) ∈ lw_all := lw_g (lw_at lw_m11 8 rfl) rfl
theorem q2472 : (Jvm.Cond.methodLink "MustardMillModel" (268 : Nat) ({ cls := "MustardMillModel", name := "open", desc := "(I)I" } : Jvm.MethodName)) ∈ lw_all := lw_g (lw_at lw_m11 9 rfl) rfl
theorem q2473 : (Jvm.Cond.methodLink "MustardMillModel" (270 : Nat) ({ cls := "MustardMillModel", name := "sell", desc := "(I)I" } : Jvm.MethodName)) ∈ lw_all := lw_g (lw_at lw_m11 10 rfl) rfl
theorem q2474 : (Jvm.Cond.methodLink "MustardMillModel" (272 : Nat) ({ cls := "MustardMillModel", name := "serve", desc := "(I)I" } : Jvm.MethodName)) ∈ lw_all := lw_g (lw_at lw_m11 11 rfl) rfl
theorem q2475 : (Jvm.Cond.methodLink "MustardMillModel" (274 : Nat) ({ cls := "MustardMillModel", name := "rest", desc := "(I)I" } : Jvm.MethodName)) ∈ lw_all := lw_g (lw_at lw_m11 12 rfl) rfl
theorem q2477 : (Jvm.Cond.instanceMethod ({ cls := "MustardMillModel", name := "errorPosition", desc := "()I" } : Jvm.MethodName)) ∈ lw_all := lw_g (lw_at lw_m11 14 rfl) rfl
theorem q2478 : (Jvm.Cond.selects "MustardMillModel" ({ cls := "MustardMillModel", name := "errorPosition", desc := "()I" } : Jvm.MethodName) ({ cls := "MustardMillModel", name := "errorPosition", desc := "()I" } : Jvm.MethodName)) ∈ lw_all := lw_g (lw_at lw_m11 15 rfl) rfl
theorem q2479 : (Jvm.Cond.code ({ cls := "MustardMillModel", name := "errorPosition", desc := "()I" } : Jvm.MethodName) prog_18_method_81_code (1 : Nat) (Option.some Jvm.ClassFile.FieldType.int)) ∈ lw_all := lw_g (lw_at lw_m11 16 rfl) rfl
theorem q2481 : (Jvm.Cond.instanceMethod ({ cls := "MustardMillModel", name := "refusedItem", desc := "()I" } : Jvm.MethodName)) ∈ lw_all := lw_g (lw_at lw_m11 18 rfl) rfl
theorem q2482 : (Jvm.Cond.selects "MustardMillModel" ({ cls := "MustardMillModel", name := "refusedItem", desc := "()I" } : Jvm.MethodName) ({ cls := "MustardMillModel", name := "refusedItem", desc := "()I" } : Jvm.MethodName)) ∈ lw_all := lw_g (lw_at lw_m11 19 rfl) rfl
theorem q2483 : (Jvm.Cond.code ({ cls := "MustardMillModel", name := "refusedItem", desc := "()I" } : Jvm.MethodName) prog_18_method_82_code (1 : Nat) (Option.some Jvm.ClassFile.FieldType.int)) ∈ lw_all := lw_g (lw_at lw_m11 20 rfl) rfl
theorem q2485 : (Jvm.Cond.instanceMethod ({ cls := "MustardMillModel", name := "undo", desc := "()I" } : Jvm.MethodName)) ∈ lw_all := lw_g (lw_at lw_m11 22 rfl) rfl
theorem q2486 : (Jvm.Cond.selects "MustardMillModel" ({ cls := "MustardMillModel", name := "undo", desc := "()I" } : Jvm.MethodName) ({ cls := "MustardMillModel", name := "undo", desc := "()I" } : Jvm.MethodName)) ∈ lw_all := lw_g (lw_at lw_m11 23 rfl) rfl
theorem q2487 : (Jvm.Cond.code ({ cls := "MustardMillModel", name := "undo", desc := "()I" } : Jvm.MethodName) prog_18_method_83_code (1 : Nat) (Option.some Jvm.ClassFile.FieldType.int)) ∈ lw_all := lw_g (lw_at lw_m11 24 rfl) rfl
theorem q2489 : (Jvm.Cond.instanceMethod ({ cls := "MustardMillModel", name := "snapshot", desc := "()I" } : Jvm.MethodName)) ∈ lw_all := lw_g (lw_at lw_m11 26 rfl) rfl
theorem q2490 : (Jvm.Cond.selects "MustardMillModel" ({ cls := "MustardMillModel", name := "snapshot", desc := "()I" } : Jvm.MethodName) ({ cls := "MustardMillModel", name := "snapshot", desc := "()I" } : Jvm.MethodName)) ∈ lw_all := lw_g (lw_at lw_m11 27 rfl) rfl
theorem q2491 : (Jvm.Cond.code ({ cls := "MustardMillModel", name := "snapshot", desc := "()I" } : Jvm.MethodName) prog_18_method_84_code (1 : Nat) (Option.some Jvm.ClassFile.FieldType.int)) ∈ lw_all := lw_g (lw_at lw_m11 28 rfl) rfl
theorem q2493 : (Jvm.Cond.instanceMethod ({ cls := "MustardMillModel", name := "restore", desc := "()I" } : Jvm.MethodName)) ∈ lw_all := lw_g (lw_at lw_m11 30 rfl) rfl
theorem q2494 : (Jvm.Cond.selects "MustardMillModel" ({ cls := "MustardMillModel", name := "restore", desc := "()I" } : Jvm.MethodName) ({ cls := "MustardMillModel", name := "restore", desc := "()I" } : Jvm.MethodName)) ∈ lw_all := lw_g (lw_at lw_m11 31 rfl) rfl
theorem q2495 : (Jvm.Cond.code ({ cls := "MustardMillModel", name := "restore", desc := "()I" } : Jvm.MethodName) prog_18_method_85_code (1 : Nat) (Option.some Jvm.ClassFile.FieldType.int)) ∈ lw_all := lw_g (lw_at lw_m11 32 rfl) rfl
theorem q2542 : (Jvm.Cond.castable "MustardMillModel" "java/lang/Object") ∈ lw_tbl := lw_at lw_m11 79 rfl
theorem in_X5 : ∀ w ∈ wsX50, w ∈ lw_all := lw_in wsX50 [2102, 2104, 2106, 2108, 2110, 2112, 2114, 2116, 2118, 2120, 2122, 2124, 2126, 2128, 2130, 2132, 2134, 2136, 2138, 2140] (by decide +kernel) (by decide +kernel)
