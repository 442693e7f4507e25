/-! RumourBedsModel -/
set_option maxRecDepth 100000
def RX3 : String := "RumourBedsModel"
def TX3 : u_T := fun k => match k with
  | 0 => ("RumourBedsModel", "s", "[I", true)
  | 1 => ("RumourBedsModel", "keptS", "[I", true)
  | 2 => ("RumourBedsModel", "other", "[I", true)
  | 3 => ("RumourBedsModel", "aside", "[I", true)
  | 4 => ("RumourBedsModel", "statuses", "[I", true)
  | 5 => ("RumourBedsModel", "isKept", "Z", false)
  | 6 => ("RumourBedsModel", "tape", "[I", true)
  | 7 => ("RumourBedsModel", "taped", "I", false)
  | 8 => ("RumourBedsModel", "from", "I", false)
  | 9 => ("RumourBedsModel", "to", "I", false)
  | 10 => ("RumourBedsModel", "value", "I", false)
  | 11 => ("RumourBedsModel", "isWrong", "Z", false)
  | 12 => ("RumourBedsModel", "bitsOf", "[I", true)
  | 13 => ("RumourBedsModel", "sizeOf", "[I", true)
  | 14 => ("RumourBedsModel", "numbers", "[J", true)
  | _ => ("RumourBedsModel", "moved", "[J", true)
def tyX3 : Nat → FieldType := fun k => match k with
  | 0 => .array .int
  | 1 => .array .int
  | 2 => .array .int
  | 3 => .array .int
  | 4 => .array .int
  | 5 => .boolean
  | 6 => .array .int
  | 7 => .int
  | 8 => .int
  | 9 => .int
  | 10 => .int
  | 11 => .boolean
  | 12 => .array .int
  | 13 => .array .int
  | 14 => .array .long
  | _ => .array .long
abbrev wsX30 : List Cond := u_ws RX3 TX3 16
set_option maxRecDepth 100000 in
theorem nmX3 : ∀ a, a < 16 → ∀ b, b < 16 → a ≠ b → (TX3 a).2.1 ≠ (TX3 b).2.1 := by decide +kernel
set_option maxRecDepth 100000 in
theorem tyX3_ok : ∀ k, k < 16 → parseFieldDescriptor (TX3 k).2.2.1 = some (tyX3 k) := by decide +kernel
abbrev cX3_init : ByteArray := prog_17_method_1_code
def yX3_init : MethodName := ⟨RX3, "<init>", "()V"⟩
def dkwX3_init_5 : List UInt8 := [180, 0, 7, 27, 5, 184, 0, 41, 6, 79, 132, 1, 1, 167, 255, 213, 177]
abbrev dktX3_init_5 : List UInt8 := dkwX3_init_5 ++ []
def dkwX3_init_4 : List UInt8 := [180, 0, 7, 27, 3, 184, 0, 41, 4, 79, 42, 180, 0, 7, 27, 4, 184, 0, 41, 16, 50, 79, 42]
abbrev dktX3_init_4 : List UInt8 := dkwX3_init_4 ++ dktX3_init_5
def dkwX3_init_3 : List UInt8 := [188, 11, 181, 0, 34, 42, 16, 40, 188, 11, 181, 0, 38, 3, 60, 27, 16, 8, 162, 0, 43, 42]
abbrev dktX3_init_3 : List UInt8 := dkwX3_init_3 ++ dktX3_init_4
def dkwX3_init_2 : List UInt8 := [188, 10, 181, 0, 25, 42, 7, 188, 10, 181, 0, 28, 42, 7, 188, 10, 181, 0, 31, 42, 17, 0, 160]
abbrev dktX3_init_2 : List UInt8 := dkwX3_init_2 ++ dktX3_init_3
def dkwX3_init_1 : List UInt8 := [188, 10, 181, 0, 16, 42, 16, 77, 188, 10, 181, 0, 19, 42, 16, 7, 188, 10, 181, 0, 22, 42, 16, 120]
abbrev dktX3_init_1 : List UInt8 := dkwX3_init_1 ++ dktX3_init_2
def dkwX3_init_0 : List UInt8 := [42, 183, 0, 1, 42, 16, 77, 188, 10, 181, 0, 7, 42, 16, 77, 188, 10, 181, 0, 13, 42, 16, 77]
abbrev dktX3_init_0 : List UInt8 := dkwX3_init_0 ++ dktX3_init_1
theorem dksX3_init_0 : cX3_init.data.toList.drop 0 = dktX3_init_0 := by decide +kernel
theorem dksX3_init_1 : cX3_init.data.toList.drop 23 = dktX3_init_1 := dk_seg dksX3_init_0 23 rfl rfl
theorem dksX3_init_2 : cX3_init.data.toList.drop 47 = dktX3_init_2 := dk_seg dksX3_init_1 24 rfl rfl
theorem dksX3_init_3 : cX3_init.data.toList.drop 70 = dktX3_init_3 := dk_seg dksX3_init_2 23 rfl rfl
theorem dksX3_init_4 : cX3_init.data.toList.drop 92 = dktX3_init_4 := dk_seg dksX3_init_3 22 rfl rfl
theorem dksX3_init_5 : cX3_init.data.toList.drop 115 = dktX3_init_5 := dk_seg dksX3_init_4 23 rfl rfl
theorem dX3_init_0 : decode cX3_init 0 = .ok (.aload_n 0, 1) := dk_42 (dk_at dksX3_init_0 0 rfl rfl)
theorem dX3_init_1 : decode cX3_init 1 = .ok (.invokespecial 1, 3) := dk_183 0 1 (dk_at dksX3_init_0 1 rfl rfl)
theorem dX3_init_4 : decode cX3_init 4 = .ok (.aload_n 0, 1) := dk_42 (dk_at dksX3_init_0 4 rfl rfl)
theorem dX3_init_5 : decode cX3_init 5 = .ok (.bipush 77, 2) := dk_16 77 (dk_at dksX3_init_0 5 rfl rfl)
theorem dX3_init_7 : decode cX3_init 7 = .ok (.newarray .int, 2) := dk_188_10 (dk_at dksX3_init_0 7 rfl rfl)
theorem dX3_init_9 : decode cX3_init 9 = .ok (.putfield 7, 3) := dk_181 0 7 (dk_at dksX3_init_0 9 rfl rfl)
theorem dX3_init_12 : decode cX3_init 12 = .ok (.aload_n 0, 1) := dk_42 (dk_at dksX3_init_0 12 rfl rfl)
theorem dX3_init_13 : decode cX3_init 13 = .ok (.bipush 77, 2) := dk_16 77 (dk_at dksX3_init_0 13 rfl rfl)
theorem dX3_init_15 : decode cX3_init 15 = .ok (.newarray .int, 2) := dk_188_10 (dk_at dksX3_init_0 15 rfl rfl)
theorem dX3_init_17 : decode cX3_init 17 = .ok (.putfield 13, 3) := dk_181 0 13 (dk_at dksX3_init_0 17 rfl rfl)
theorem dX3_init_20 : decode cX3_init 20 = .ok (.aload_n 0, 1) := dk_42 (dk_at dksX3_init_0 20 rfl rfl)
theorem dX3_init_21 : decode cX3_init 21 = .ok (.bipush 77, 2) := dk_16 77 (dk_at dksX3_init_0 21 rfl rfl)
theorem dX3_init_23 : decode cX3_init 23 = .ok (.newarray .int, 2) := dk_188_10 (dk_at dksX3_init_1 0 rfl rfl)
theorem dX3_init_25 : decode cX3_init 25 = .ok (.putfield 16, 3) := dk_181 0 16 (dk_at dksX3_init_1 2 rfl rfl)
theorem dX3_init_28 : decode cX3_init 28 = .ok (.aload_n 0, 1) := dk_42 (dk_at dksX3_init_1 5 rfl rfl)
theorem dX3_init_29 : decode cX3_init 29 = .ok (.bipush 77, 2) := dk_16 77 (dk_at dksX3_init_1 6 rfl rfl)
theorem dX3_init_31 : decode cX3_init 31 = .ok (.newarray .int, 2) := dk_188_10 (dk_at dksX3_init_1 8 rfl rfl)
theorem dX3_init_33 : decode cX3_init 33 = .ok (.putfield 19, 3) := dk_181 0 19 (dk_at dksX3_init_1 10 rfl rfl)
theorem dX3_init_36 : decode cX3_init 36 = .ok (.aload_n 0, 1) := dk_42 (dk_at dksX3_init_1 13 rfl rfl)
theorem dX3_init_37 : decode cX3_init 37 = .ok (.bipush 7, 2) := dk_16 7 (dk_at dksX3_init_1 14 rfl rfl)
theorem dX3_init_39 : decode cX3_init 39 = .ok (.newarray .int, 2) := dk_188_10 (dk_at dksX3_init_1 16 rfl rfl)
theorem dX3_init_41 : decode cX3_init 41 = .ok (.putfield 22, 3) := dk_181 0 22 (dk_at dksX3_init_1 18 rfl rfl)
theorem dX3_init_44 : decode cX3_init 44 = .ok (.aload_n 0, 1) := dk_42 (dk_at dksX3_init_1 21 rfl rfl)
theorem dX3_init_45 : decode cX3_init 45 = .ok (.bipush 120, 2) := dk_16 120 (dk_at dksX3_init_1 22 rfl rfl)
theorem dX3_init_47 : decode cX3_init 47 = .ok (.newarray .int, 2) := dk_188_10 (dk_at dksX3_init_2 0 rfl rfl)
theorem dX3_init_49 : decode cX3_init 49 = .ok (.putfield 25, 3) := dk_181 0 25 (dk_at dksX3_init_2 2 rfl rfl)
theorem dX3_init_52 : decode cX3_init 52 = .ok (.aload_n 0, 1) := dk_42 (dk_at dksX3_init_2 5 rfl rfl)
theorem dX3_init_53 : decode cX3_init 53 = .ok (.iconst 4, 1) := dk_7 (dk_at dksX3_init_2 6 rfl rfl)
theorem dX3_init_54 : decode cX3_init 54 = .ok (.newarray .int, 2) := dk_188_10 (dk_at dksX3_init_2 7 rfl rfl)
theorem dX3_init_56 : decode cX3_init 56 = .ok (.putfield 28, 3) := dk_181 0 28 (dk_at dksX3_init_2 9 rfl rfl)
theorem dX3_init_59 : decode cX3_init 59 = .ok (.aload_n 0, 1) := dk_42 (dk_at dksX3_init_2 12 rfl rfl)
theorem dX3_init_60 : decode cX3_init 60 = .ok (.iconst 4, 1) := dk_7 (dk_at dksX3_init_2 13 rfl rfl)
theorem dX3_init_61 : decode cX3_init 61 = .ok (.newarray .int, 2) := dk_188_10 (dk_at dksX3_init_2 14 rfl rfl)
theorem dX3_init_63 : decode cX3_init 63 = .ok (.putfield 31, 3) := dk_181 0 31 (dk_at dksX3_init_2 16 rfl rfl)
theorem dX3_init_66 : decode cX3_init 66 = .ok (.aload_n 0, 1) := dk_42 (dk_at dksX3_init_2 19 rfl rfl)
theorem dX3_init_67 : decode cX3_init 67 = .ok (.sipush 160, 3) := dk_17 0 160 (dk_at dksX3_init_2 20 rfl rfl)
theorem dX3_init_70 : decode cX3_init 70 = .ok (.newarray .long, 2) := dk_188_11 (dk_at dksX3_init_3 0 rfl rfl)
theorem dX3_init_72 : decode cX3_init 72 = .ok (.putfield 34, 3) := dk_181 0 34 (dk_at dksX3_init_3 2 rfl rfl)
theorem dX3_init_75 : decode cX3_init 75 = .ok (.aload_n 0, 1) := dk_42 (dk_at dksX3_init_3 5 rfl rfl)
theorem dX3_init_76 : decode cX3_init 76 = .ok (.bipush 40, 2) := dk_16 40 (dk_at dksX3_init_3 6 rfl rfl)
theorem dX3_init_78 : decode cX3_init 78 = .ok (.newarray .long, 2) := dk_188_11 (dk_at dksX3_init_3 8 rfl rfl)
theorem dX3_init_80 : decode cX3_init 80 = .ok (.putfield 38, 3) := dk_181 0 38 (dk_at dksX3_init_3 10 rfl rfl)
theorem dX3_init_83 : decode cX3_init 83 = .ok (.iconst 0, 1) := dk_3 (dk_at dksX3_init_3 13 rfl rfl)
theorem dX3_init_84 : decode cX3_init 84 = .ok (.istore_n 1, 1) := dk_60 (dk_at dksX3_init_3 14 rfl rfl)
theorem dX3_init_85 : decode cX3_init 85 = .ok (.iload_n 1, 1) := dk_27 (dk_at dksX3_init_3 15 rfl rfl)
theorem dX3_init_86 : decode cX3_init 86 = .ok (.bipush 8, 2) := dk_16 8 (dk_at dksX3_init_3 16 rfl rfl)
theorem dX3_init_88 : decode cX3_init 88 = .ok (.if_icmp .ge 43, 3) := dk_162 0 43 (dk_at dksX3_init_3 18 rfl rfl)
theorem dX3_init_91 : decode cX3_init 91 = .ok (.aload_n 0, 1) := dk_42 (dk_at dksX3_init_3 21 rfl rfl)
theorem dX3_init_92 : decode cX3_init 92 = .ok (.getfield 7, 3) := dk_180 0 7 (dk_at dksX3_init_4 0 rfl rfl)
theorem dX3_init_95 : decode cX3_init 95 = .ok (.iload_n 1, 1) := dk_27 (dk_at dksX3_init_4 3 rfl rfl)
theorem dX3_init_96 : decode cX3_init 96 = .ok (.iconst 0, 1) := dk_3 (dk_at dksX3_init_4 4 rfl rfl)
theorem dX3_init_97 : decode cX3_init 97 = .ok (.invokestatic 41, 3) := dk_184 0 41 (dk_at dksX3_init_4 5 rfl rfl)
theorem dX3_init_100 : decode cX3_init 100 = .ok (.iconst 1, 1) := dk_4 (dk_at dksX3_init_4 8 rfl rfl)
theorem dX3_init_101 : decode cX3_init 101 = .ok (.iastore, 1) := dk_79 (dk_at dksX3_init_4 9 rfl rfl)
theorem dX3_init_102 : decode cX3_init 102 = .ok (.aload_n 0, 1) := dk_42 (dk_at dksX3_init_4 10 rfl rfl)
theorem dX3_init_103 : decode cX3_init 103 = .ok (.getfield 7, 3) := dk_180 0 7 (dk_at dksX3_init_4 11 rfl rfl)
theorem dX3_init_106 : decode cX3_init 106 = .ok (.iload_n 1, 1) := dk_27 (dk_at dksX3_init_4 14 rfl rfl)
theorem dX3_init_107 : decode cX3_init 107 = .ok (.iconst 1, 1) := dk_4 (dk_at dksX3_init_4 15 rfl rfl)
theorem dX3_init_108 : decode cX3_init 108 = .ok (.invokestatic 41, 3) := dk_184 0 41 (dk_at dksX3_init_4 16 rfl rfl)
theorem dX3_init_111 : decode cX3_init 111 = .ok (.bipush 50, 2) := dk_16 50 (dk_at dksX3_init_4 19 rfl rfl)
theorem dX3_init_113 : decode cX3_init 113 = .ok (.iastore, 1) := dk_79 (dk_at dksX3_init_4 21 rfl rfl)
theorem dX3_init_114 : decode cX3_init 114 = .ok (.aload_n 0, 1) := dk_42 (dk_at dksX3_init_4 22 rfl rfl)
theorem dX3_init_115 : decode cX3_init 115 = .ok (.getfield 7, 3) := dk_180 0 7 (dk_at dksX3_init_5 0 rfl rfl)
theorem dX3_init_118 : decode cX3_init 118 = .ok (.iload_n 1, 1) := dk_27 (dk_at dksX3_init_5 3 rfl rfl)
theorem dX3_init_119 : decode cX3_init 119 = .ok (.iconst 2, 1) := dk_5 (dk_at dksX3_init_5 4 rfl rfl)
theorem dX3_init_120 : decode cX3_init 120 = .ok (.invokestatic 41, 3) := dk_184 0 41 (dk_at dksX3_init_5 5 rfl rfl)
theorem dX3_init_123 : decode cX3_init 123 = .ok (.iconst 3, 1) := dk_6 (dk_at dksX3_init_5 8 rfl rfl)
theorem dX3_init_124 : decode cX3_init 124 = .ok (.iastore, 1) := dk_79 (dk_at dksX3_init_5 9 rfl rfl)
theorem dX3_init_125 : decode cX3_init 125 = .ok (.iinc 1 1, 3) := dk_132 1 1 (dk_at dksX3_init_5 10 rfl rfl)
theorem dX3_init_128 : decode cX3_init 128 = .ok (.goto (-43), 3) := dk_167 255 213 (dk_at dksX3_init_5 13 rfl rfl)
theorem dX3_init_131 : decode cX3_init 131 = .ok (.return_, 1) := dk_177 (dk_at dksX3_init_5 16 rfl rfl)
abbrev cX3_partOf : ByteArray := prog_17_method_13_code
def yX3_partOf : MethodName := ⟨RX3, "partOf", "(II)I"⟩
def dkwX3_partOf_0 : List UInt8 := [6, 6, 26, 104, 96, 27, 96, 172]
abbrev dktX3_partOf_0 : List UInt8 := dkwX3_partOf_0 ++ []
theorem dksX3_partOf_0 : cX3_partOf.data.toList.drop 0 = dktX3_partOf_0 := by decide +kernel
theorem dX3_partOf_0 : decode cX3_partOf 0 = .ok (.iconst 3, 1) := dk_6 (dk_at dksX3_partOf_0 0 rfl rfl)
theorem dX3_partOf_1 : decode cX3_partOf 1 = .ok (.iconst 3, 1) := dk_6 (dk_at dksX3_partOf_0 1 rfl rfl)
theorem dX3_partOf_2 : decode cX3_partOf 2 = .ok (.iload_n 0, 1) := dk_26 (dk_at dksX3_partOf_0 2 rfl rfl)
theorem dX3_partOf_3 : decode cX3_partOf 3 = .ok (.imul, 1) := dk_104 (dk_at dksX3_partOf_0 3 rfl rfl)
theorem dX3_partOf_4 : decode cX3_partOf 4 = .ok (.iadd, 1) := dk_96 (dk_at dksX3_partOf_0 4 rfl rfl)
theorem dX3_partOf_5 : decode cX3_partOf 5 = .ok (.iload_n 1, 1) := dk_27 (dk_at dksX3_partOf_0 5 rfl rfl)
theorem dX3_partOf_6 : decode cX3_partOf 6 = .ok (.iadd, 1) := dk_96 (dk_at dksX3_partOf_0 6 rfl rfl)
theorem dX3_partOf_7 : decode cX3_partOf 7 = .ok (.ireturn, 1) := dk_172 (dk_at dksX3_partOf_0 7 rfl rfl)
abbrev cX3_house : ByteArray := prog_17_method_17_code
def yX3_house : MethodName := ⟨RX3, "house", "(III)I"⟩
def dkwX3_house_3 : List UInt8 := [29, 182, 0, 71, 167, 0, 9, 42, 18, 45, 182, 0, 74, 172]
abbrev dktX3_house_3 : List UInt8 := dkwX3_house_3 ++ []
def dkwX3_house_2 : List UInt8 := [167, 0, 4, 3, 54, 4, 27, 184, 0, 67, 153, 0, 21, 21, 4, 153, 0, 16, 42, 27, 28, 184, 0, 41]
abbrev dktX3_house_2 : List UInt8 := dkwX3_house_2 ++ dktX3_house_3
def dkwX3_house_1 : List UInt8 := [167, 0, 17, 28, 4, 160, 0, 9, 20, 0, 63, 167, 0, 6, 20, 0, 65, 184, 0, 48, 153, 0, 7, 4]
abbrev dktX3_house_1 : List UInt8 := dkwX3_house_1 ++ dktX3_house_2
def dkwX3_house_0 : List UInt8 := [28, 133, 9, 20, 0, 59, 184, 0, 48, 153, 0, 40, 29, 133, 9, 28, 154, 0, 9, 20, 0, 61]
abbrev dktX3_house_0 : List UInt8 := dkwX3_house_0 ++ dktX3_house_1
theorem dksX3_house_0 : cX3_house.data.toList.drop 0 = dktX3_house_0 := by decide +kernel
theorem dksX3_house_1 : cX3_house.data.toList.drop 22 = dktX3_house_1 := dk_seg dksX3_house_0 22 rfl rfl
theorem dksX3_house_2 : cX3_house.data.toList.drop 46 = dktX3_house_2 := dk_seg dksX3_house_1 24 rfl rfl
theorem dksX3_house_3 : cX3_house.data.toList.drop 70 = dktX3_house_3 := dk_seg dksX3_house_2 24 rfl rfl
theorem dX3_house_0 : decode cX3_house 0 = .ok (.iload_n 2, 1) := dk_28 (dk_at dksX3_house_0 0 rfl rfl)
theorem dX3_house_1 : decode cX3_house 1 = .ok (.i2l, 1) := dk_133 (dk_at dksX3_house_0 1 rfl rfl)
theorem dX3_house_2 : decode cX3_house 2 = .ok (.lconst 0, 1) := dk_9 (dk_at dksX3_house_0 2 rfl rfl)
theorem dX3_house_3 : decode cX3_house 3 = .ok (.ldc2_w 59, 3) := dk_20 0 59 (dk_at dksX3_house_0 3 rfl rfl)
theorem dX3_house_6 : decode cX3_house 6 = .ok (.invokestatic 48, 3) := dk_184 0 48 (dk_at dksX3_house_0 6 rfl rfl)
theorem dX3_house_9 : decode cX3_house 9 = .ok (.ifCond .eq 40, 3) := dk_153 0 40 (dk_at dksX3_house_0 9 rfl rfl)
theorem dX3_house_12 : decode cX3_house 12 = .ok (.iload_n 3, 1) := dk_29 (dk_at dksX3_house_0 12 rfl rfl)
theorem dX3_house_13 : decode cX3_house 13 = .ok (.i2l, 1) := dk_133 (dk_at dksX3_house_0 13 rfl rfl)
theorem dX3_house_14 : decode cX3_house 14 = .ok (.lconst 0, 1) := dk_9 (dk_at dksX3_house_0 14 rfl rfl)
theorem dX3_house_15 : decode cX3_house 15 = .ok (.iload_n 2, 1) := dk_28 (dk_at dksX3_house_0 15 rfl rfl)
theorem dX3_house_16 : decode cX3_house 16 = .ok (.ifCond .ne 9, 3) := dk_154 0 9 (dk_at dksX3_house_0 16 rfl rfl)
theorem dX3_house_19 : decode cX3_house 19 = .ok (.ldc2_w 61, 3) := dk_20 0 61 (dk_at dksX3_house_0 19 rfl rfl)
theorem dX3_house_22 : decode cX3_house 22 = .ok (.goto 17, 3) := dk_167 0 17 (dk_at dksX3_house_1 0 rfl rfl)
theorem dX3_house_25 : decode cX3_house 25 = .ok (.iload_n 2, 1) := dk_28 (dk_at dksX3_house_1 3 rfl rfl)
theorem dX3_house_26 : decode cX3_house 26 = .ok (.iconst 1, 1) := dk_4 (dk_at dksX3_house_1 4 rfl rfl)
theorem dX3_house_27 : decode cX3_house 27 = .ok (.if_icmp .ne 9, 3) := dk_160 0 9 (dk_at dksX3_house_1 5 rfl rfl)
theorem dX3_house_30 : decode cX3_house 30 = .ok (.ldc2_w 63, 3) := dk_20 0 63 (dk_at dksX3_house_1 8 rfl rfl)
theorem dX3_house_33 : decode cX3_house 33 = .ok (.goto 6, 3) := dk_167 0 6 (dk_at dksX3_house_1 11 rfl rfl)
theorem dX3_house_36 : decode cX3_house 36 = .ok (.ldc2_w 65, 3) := dk_20 0 65 (dk_at dksX3_house_1 14 rfl rfl)
theorem dX3_house_39 : decode cX3_house 39 = .ok (.invokestatic 48, 3) := dk_184 0 48 (dk_at dksX3_house_1 17 rfl rfl)
theorem dX3_house_42 : decode cX3_house 42 = .ok (.ifCond .eq 7, 3) := dk_153 0 7 (dk_at dksX3_house_1 20 rfl rfl)
theorem dX3_house_45 : decode cX3_house 45 = .ok (.iconst 1, 1) := dk_4 (dk_at dksX3_house_1 23 rfl rfl)
theorem dX3_house_46 : decode cX3_house 46 = .ok (.goto 4, 3) := dk_167 0 4 (dk_at dksX3_house_2 0 rfl rfl)
theorem dX3_house_49 : decode cX3_house 49 = .ok (.iconst 0, 1) := dk_3 (dk_at dksX3_house_2 3 rfl rfl)
theorem dX3_house_50 : decode cX3_house 50 = .ok (.istore 4, 2) := dk_54 4 (dk_at dksX3_house_2 4 rfl rfl)
theorem dX3_house_52 : decode cX3_house 52 = .ok (.iload_n 1, 1) := dk_27 (dk_at dksX3_house_2 6 rfl rfl)
theorem dX3_house_53 : decode cX3_house 53 = .ok (.invokestatic 67, 3) := dk_184 0 67 (dk_at dksX3_house_2 7 rfl rfl)
theorem dX3_house_56 : decode cX3_house 56 = .ok (.ifCond .eq 21, 3) := dk_153 0 21 (dk_at dksX3_house_2 10 rfl rfl)
theorem dX3_house_59 : decode cX3_house 59 = .ok (.iload 4, 2) := dk_21 4 (dk_at dksX3_house_2 13 rfl rfl)
theorem dX3_house_61 : decode cX3_house 61 = .ok (.ifCond .eq 16, 3) := dk_153 0 16 (dk_at dksX3_house_2 15 rfl rfl)
theorem dX3_house_64 : decode cX3_house 64 = .ok (.aload_n 0, 1) := dk_42 (dk_at dksX3_house_2 18 rfl rfl)
theorem dX3_house_65 : decode cX3_house 65 = .ok (.iload_n 1, 1) := dk_27 (dk_at dksX3_house_2 19 rfl rfl)
theorem dX3_house_66 : decode cX3_house 66 = .ok (.iload_n 2, 1) := dk_28 (dk_at dksX3_house_2 20 rfl rfl)
theorem dX3_house_67 : decode cX3_house 67 = .ok (.invokestatic 41, 3) := dk_184 0 41 (dk_at dksX3_house_2 21 rfl rfl)
theorem dX3_house_70 : decode cX3_house 70 = .ok (.iload_n 3, 1) := dk_29 (dk_at dksX3_house_3 0 rfl rfl)
theorem dX3_house_71 : decode cX3_house 71 = .ok (.invokevirtual 71, 3) := dk_182 0 71 (dk_at dksX3_house_3 1 rfl rfl)
theorem dX3_house_74 : decode cX3_house 74 = .ok (.goto 9, 3) := dk_167 0 9 (dk_at dksX3_house_3 4 rfl rfl)
theorem dX3_house_77 : decode cX3_house 77 = .ok (.aload_n 0, 1) := dk_42 (dk_at dksX3_house_3 7 rfl rfl)
theorem dX3_house_78 : decode cX3_house 78 = .ok (.ldc 45, 2) := dk_18 45 (dk_at dksX3_house_3 8 rfl rfl)
theorem dX3_house_80 : decode cX3_house 80 = .ok (.invokevirtual 74, 3) := dk_182 0 74 (dk_at dksX3_house_3 10 rfl rfl)
theorem dX3_house_83 : decode cX3_house 83 = .ok (.ireturn, 1) := dk_172 (dk_at dksX3_house_3 13 rfl rfl)
abbrev cX3_in : ByteArray := prog_17_method_2_code
def yX3_in : MethodName := ⟨RX3, "in", "(JJJ)Z"⟩
def dkwX3_in_0 : List UInt8 := [30, 32, 148, 155, 0, 14, 30, 22, 4, 148, 157, 0, 7, 4, 167, 0, 4, 3, 172]
abbrev dktX3_in_0 : List UInt8 := dkwX3_in_0 ++ []
theorem dksX3_in_0 : cX3_in.data.toList.drop 0 = dktX3_in_0 := by decide +kernel
theorem dX3_in_0 : decode cX3_in 0 = .ok (.lload_n 0, 1) := dk_30 (dk_at dksX3_in_0 0 rfl rfl)
theorem dX3_in_1 : decode cX3_in 1 = .ok (.lload_n 2, 1) := dk_32 (dk_at dksX3_in_0 1 rfl rfl)
theorem dX3_in_2 : decode cX3_in 2 = .ok (.lcmp, 1) := dk_148 (dk_at dksX3_in_0 2 rfl rfl)
theorem dX3_in_3 : decode cX3_in 3 = .ok (.ifCond .lt 14, 3) := dk_155 0 14 (dk_at dksX3_in_0 3 rfl rfl)
theorem dX3_in_6 : decode cX3_in 6 = .ok (.lload_n 0, 1) := dk_30 (dk_at dksX3_in_0 6 rfl rfl)
theorem dX3_in_7 : decode cX3_in 7 = .ok (.lload 4, 2) := dk_22 4 (dk_at dksX3_in_0 7 rfl rfl)
theorem dX3_in_9 : decode cX3_in 9 = .ok (.lcmp, 1) := dk_148 (dk_at dksX3_in_0 9 rfl rfl)
theorem dX3_in_10 : decode cX3_in 10 = .ok (.ifCond .gt 7, 3) := dk_157 0 7 (dk_at dksX3_in_0 10 rfl rfl)
theorem dX3_in_13 : decode cX3_in 13 = .ok (.iconst 1, 1) := dk_4 (dk_at dksX3_in_0 13 rfl rfl)
theorem dX3_in_14 : decode cX3_in 14 = .ok (.goto 4, 3) := dk_167 0 4 (dk_at dksX3_in_0 14 rfl rfl)
theorem dX3_in_17 : decode cX3_in 17 = .ok (.iconst 0, 1) := dk_3 (dk_at dksX3_in_0 17 rfl rfl)
theorem dX3_in_18 : decode cX3_in 18 = .ok (.ireturn, 1) := dk_172 (dk_at dksX3_in_0 18 rfl rfl)
abbrev cX3_isHouse : ByteArray := prog_17_method_9_code
def yX3_isHouse : MethodName := ⟨RX3, "isHouse", "(I)Z"⟩
def dkwX3_isHouse_0 : List UInt8 := [26, 133, 9, 20, 0, 46, 184, 0, 48, 172]
abbrev dktX3_isHouse_0 : List UInt8 := dkwX3_isHouse_0 ++ []
theorem dksX3_isHouse_0 : cX3_isHouse.data.toList.drop 0 = dktX3_isHouse_0 := by decide +kernel
theorem dX3_isHouse_0 : decode cX3_isHouse 0 = .ok (.iload_n 0, 1) := dk_26 (dk_at dksX3_isHouse_0 0 rfl rfl)
theorem dX3_isHouse_1 : decode cX3_isHouse 1 = .ok (.i2l, 1) := dk_133 (dk_at dksX3_isHouse_0 1 rfl rfl)
theorem dX3_isHouse_2 : decode cX3_isHouse 2 = .ok (.lconst 0, 1) := dk_9 (dk_at dksX3_isHouse_0 2 rfl rfl)
theorem dX3_isHouse_3 : decode cX3_isHouse 3 = .ok (.ldc2_w 46, 3) := dk_20 0 46 (dk_at dksX3_isHouse_0 3 rfl rfl)
theorem dX3_isHouse_6 : decode cX3_isHouse 6 = .ok (.invokestatic 48, 3) := dk_184 0 48 (dk_at dksX3_isHouse_0 6 rfl rfl)
theorem dX3_isHouse_9 : decode cX3_isHouse 9 = .ok (.ireturn, 1) := dk_172 (dk_at dksX3_isHouse_0 9 rfl rfl)
abbrev cX3_becomes : ByteArray := prog_17_method_8_code
def yX3_becomes : MethodName := ⟨RX3, "becomes", "(II)I"⟩
def dkwX3_becomes_0 : List UInt8 := [42, 180, 0, 7, 27, 46, 62, 42, 180, 0, 7, 27, 28, 79, 29, 172]
abbrev dktX3_becomes_0 : List UInt8 := dkwX3_becomes_0 ++ []
theorem dksX3_becomes_0 : cX3_becomes.data.toList.drop 0 = dktX3_becomes_0 := by decide +kernel
theorem dX3_becomes_0 : decode cX3_becomes 0 = .ok (.aload_n 0, 1) := dk_42 (dk_at dksX3_becomes_0 0 rfl rfl)
theorem dX3_becomes_1 : decode cX3_becomes 1 = .ok (.getfield 7, 3) := dk_180 0 7 (dk_at dksX3_becomes_0 1 rfl rfl)
theorem dX3_becomes_4 : decode cX3_becomes 4 = .ok (.iload_n 1, 1) := dk_27 (dk_at dksX3_becomes_0 4 rfl rfl)
theorem dX3_becomes_5 : decode cX3_becomes 5 = .ok (.iaload, 1) := dk_46 (dk_at dksX3_becomes_0 5 rfl rfl)
theorem dX3_becomes_6 : decode cX3_becomes 6 = .ok (.istore_n 3, 1) := dk_62 (dk_at dksX3_becomes_0 6 rfl rfl)
theorem dX3_becomes_7 : decode cX3_becomes 7 = .ok (.aload_n 0, 1) := dk_42 (dk_at dksX3_becomes_0 7 rfl rfl)
theorem dX3_becomes_8 : decode cX3_becomes 8 = .ok (.getfield 7, 3) := dk_180 0 7 (dk_at dksX3_becomes_0 8 rfl rfl)
theorem dX3_becomes_11 : decode cX3_becomes 11 = .ok (.iload_n 1, 1) := dk_27 (dk_at dksX3_becomes_0 11 rfl rfl)
theorem dX3_becomes_12 : decode cX3_becomes 12 = .ok (.iload_n 2, 1) := dk_28 (dk_at dksX3_becomes_0 12 rfl rfl)
theorem dX3_becomes_13 : decode cX3_becomes 13 = .ok (.iastore, 1) := dk_79 (dk_at dksX3_becomes_0 13 rfl rfl)
theorem dX3_becomes_14 : decode cX3_becomes 14 = .ok (.iload_n 3, 1) := dk_29 (dk_at dksX3_becomes_0 14 rfl rfl)
theorem dX3_becomes_15 : decode cX3_becomes 15 = .ok (.ireturn, 1) := dk_172 (dk_at dksX3_becomes_0 15 rfl rfl)
abbrev cX3_finds : ByteArray := prog_17_method_3_code
def yX3_finds : MethodName := ⟨RX3, "finds", "(I)I"⟩
def dkwX3_finds_0 : List UInt8 := [42, 180, 0, 22, 18, 45, 27, 100, 92, 46, 4, 96, 79, 27, 172]
abbrev dktX3_finds_0 : List UInt8 := dkwX3_finds_0 ++ []
theorem dksX3_finds_0 : cX3_finds.data.toList.drop 0 = dktX3_finds_0 := by decide +kernel
theorem dX3_finds_0 : decode cX3_finds 0 = .ok (.aload_n 0, 1) := dk_42 (dk_at dksX3_finds_0 0 rfl rfl)
theorem dX3_finds_1 : decode cX3_finds 1 = .ok (.getfield 22, 3) := dk_180 0 22 (dk_at dksX3_finds_0 1 rfl rfl)
theorem dX3_finds_4 : decode cX3_finds 4 = .ok (.ldc 45, 2) := dk_18 45 (dk_at dksX3_finds_0 4 rfl rfl)
theorem dX3_finds_6 : decode cX3_finds 6 = .ok (.iload_n 1, 1) := dk_27 (dk_at dksX3_finds_0 6 rfl rfl)
theorem dX3_finds_7 : decode cX3_finds 7 = .ok (.isub, 1) := dk_100 (dk_at dksX3_finds_0 7 rfl rfl)
theorem dX3_finds_8 : decode cX3_finds 8 = .ok (.dup2, 1) := dk_92 (dk_at dksX3_finds_0 8 rfl rfl)
theorem dX3_finds_9 : decode cX3_finds 9 = .ok (.iaload, 1) := dk_46 (dk_at dksX3_finds_0 9 rfl rfl)
theorem dX3_finds_10 : decode cX3_finds 10 = .ok (.iconst 1, 1) := dk_4 (dk_at dksX3_finds_0 10 rfl rfl)
theorem dX3_finds_11 : decode cX3_finds 11 = .ok (.iadd, 1) := dk_96 (dk_at dksX3_finds_0 11 rfl rfl)
theorem dX3_finds_12 : decode cX3_finds 12 = .ok (.iastore, 1) := dk_79 (dk_at dksX3_finds_0 12 rfl rfl)
theorem dX3_finds_13 : decode cX3_finds 13 = .ok (.iload_n 1, 1) := dk_27 (dk_at dksX3_finds_0 13 rfl rfl)
theorem dX3_finds_14 : decode cX3_finds 14 = .ok (.ireturn, 1) := dk_172 (dk_at dksX3_finds_0 14 rfl rfl)
abbrev cX3_houseOf : ByteArray := prog_17_method_22_code
def yX3_houseOf : MethodName := ⟨RX3, "houseOf", "(II)I"⟩
def dkwX3_houseOf_3 : List UInt8 := [182, 0, 93, 172]
abbrev dktX3_houseOf_3 : List UInt8 := dkwX3_houseOf_3 ++ []
def dkwX3_houseOf_2 : List UInt8 := [27, 182, 0, 87, 167, 0, 21, 28, 7, 160, 0, 11, 42, 27, 182, 0, 90, 167, 0, 8, 42, 27]
abbrev dktX3_houseOf_2 : List UInt8 := dkwX3_houseOf_2 ++ dktX3_houseOf_3
def dkwX3_houseOf_1 : List UInt8 := [182, 0, 74, 172, 28, 5, 163, 0, 12, 42, 27, 28, 182, 0, 84, 167, 0, 34, 28, 6, 160, 0, 11, 42]
abbrev dktX3_houseOf_1 : List UInt8 := dkwX3_houseOf_1 ++ dktX3_houseOf_2
def dkwX3_houseOf_0 : List UInt8 := [27, 184, 0, 67, 153, 0, 15, 28, 133, 9, 20, 0, 52, 184, 0, 48, 154, 0, 10, 42, 18, 45]
abbrev dktX3_houseOf_0 : List UInt8 := dkwX3_houseOf_0 ++ dktX3_houseOf_1
theorem dksX3_houseOf_0 : cX3_houseOf.data.toList.drop 0 = dktX3_houseOf_0 := by decide +kernel
theorem dksX3_houseOf_1 : cX3_houseOf.data.toList.drop 22 = dktX3_houseOf_1 := dk_seg dksX3_houseOf_0 22 rfl rfl
theorem dksX3_houseOf_2 : cX3_houseOf.data.toList.drop 46 = dktX3_houseOf_2 := dk_seg dksX3_houseOf_1 24 rfl rfl
theorem dksX3_houseOf_3 : cX3_houseOf.data.toList.drop 68 = dktX3_houseOf_3 := dk_seg dksX3_houseOf_2 22 rfl rfl
theorem dX3_houseOf_0 : decode cX3_houseOf 0 = .ok (.iload_n 1, 1) := dk_27 (dk_at dksX3_houseOf_0 0 rfl rfl)
theorem dX3_houseOf_1 : decode cX3_houseOf 1 = .ok (.invokestatic 67, 3) := dk_184 0 67 (dk_at dksX3_houseOf_0 1 rfl rfl)
theorem dX3_houseOf_4 : decode cX3_houseOf 4 = .ok (.ifCond .eq 15, 3) := dk_153 0 15 (dk_at dksX3_houseOf_0 4 rfl rfl)
theorem dX3_houseOf_7 : decode cX3_houseOf 7 = .ok (.iload_n 2, 1) := dk_28 (dk_at dksX3_houseOf_0 7 rfl rfl)
theorem dX3_houseOf_8 : decode cX3_houseOf 8 = .ok (.i2l, 1) := dk_133 (dk_at dksX3_houseOf_0 8 rfl rfl)
theorem dX3_houseOf_9 : decode cX3_houseOf 9 = .ok (.lconst 0, 1) := dk_9 (dk_at dksX3_houseOf_0 9 rfl rfl)
theorem dX3_houseOf_10 : decode cX3_houseOf 10 = .ok (.ldc2_w 52, 3) := dk_20 0 52 (dk_at dksX3_houseOf_0 10 rfl rfl)
theorem dX3_houseOf_13 : decode cX3_houseOf 13 = .ok (.invokestatic 48, 3) := dk_184 0 48 (dk_at dksX3_houseOf_0 13 rfl rfl)
theorem dX3_houseOf_16 : decode cX3_houseOf 16 = .ok (.ifCond .ne 10, 3) := dk_154 0 10 (dk_at dksX3_houseOf_0 16 rfl rfl)
theorem dX3_houseOf_19 : decode cX3_houseOf 19 = .ok (.aload_n 0, 1) := dk_42 (dk_at dksX3_houseOf_0 19 rfl rfl)
theorem dX3_houseOf_20 : decode cX3_houseOf 20 = .ok (.ldc 45, 2) := dk_18 45 (dk_at dksX3_houseOf_0 20 rfl rfl)
theorem dX3_houseOf_22 : decode cX3_houseOf 22 = .ok (.invokevirtual 74, 3) := dk_182 0 74 (dk_at dksX3_houseOf_1 0 rfl rfl)
theorem dX3_houseOf_25 : decode cX3_houseOf 25 = .ok (.ireturn, 1) := dk_172 (dk_at dksX3_houseOf_1 3 rfl rfl)
theorem dX3_houseOf_26 : decode cX3_houseOf 26 = .ok (.iload_n 2, 1) := dk_28 (dk_at dksX3_houseOf_1 4 rfl rfl)
theorem dX3_houseOf_27 : decode cX3_houseOf 27 = .ok (.iconst 2, 1) := dk_5 (dk_at dksX3_houseOf_1 5 rfl rfl)
theorem dX3_houseOf_28 : decode cX3_houseOf 28 = .ok (.if_icmp .gt 12, 3) := dk_163 0 12 (dk_at dksX3_houseOf_1 6 rfl rfl)
theorem dX3_houseOf_31 : decode cX3_houseOf 31 = .ok (.aload_n 0, 1) := dk_42 (dk_at dksX3_houseOf_1 9 rfl rfl)
theorem dX3_houseOf_32 : decode cX3_houseOf 32 = .ok (.iload_n 1, 1) := dk_27 (dk_at dksX3_houseOf_1 10 rfl rfl)
theorem dX3_houseOf_33 : decode cX3_houseOf 33 = .ok (.iload_n 2, 1) := dk_28 (dk_at dksX3_houseOf_1 11 rfl rfl)
theorem dX3_houseOf_34 : decode cX3_houseOf 34 = .ok (.invokevirtual 84, 3) := dk_182 0 84 (dk_at dksX3_houseOf_1 12 rfl rfl)
theorem dX3_houseOf_37 : decode cX3_houseOf 37 = .ok (.goto 34, 3) := dk_167 0 34 (dk_at dksX3_houseOf_1 15 rfl rfl)
theorem dX3_houseOf_40 : decode cX3_houseOf 40 = .ok (.iload_n 2, 1) := dk_28 (dk_at dksX3_houseOf_1 18 rfl rfl)
theorem dX3_houseOf_41 : decode cX3_houseOf 41 = .ok (.iconst 3, 1) := dk_6 (dk_at dksX3_houseOf_1 19 rfl rfl)
theorem dX3_houseOf_42 : decode cX3_houseOf 42 = .ok (.if_icmp .ne 11, 3) := dk_160 0 11 (dk_at dksX3_houseOf_1 20 rfl rfl)
theorem dX3_houseOf_45 : decode cX3_houseOf 45 = .ok (.aload_n 0, 1) := dk_42 (dk_at dksX3_houseOf_1 23 rfl rfl)
theorem dX3_houseOf_46 : decode cX3_houseOf 46 = .ok (.iload_n 1, 1) := dk_27 (dk_at dksX3_houseOf_2 0 rfl rfl)
theorem dX3_houseOf_47 : decode cX3_houseOf 47 = .ok (.invokevirtual 87, 3) := dk_182 0 87 (dk_at dksX3_houseOf_2 1 rfl rfl)
theorem dX3_houseOf_50 : decode cX3_houseOf 50 = .ok (.goto 21, 3) := dk_167 0 21 (dk_at dksX3_houseOf_2 4 rfl rfl)
theorem dX3_houseOf_53 : decode cX3_houseOf 53 = .ok (.iload_n 2, 1) := dk_28 (dk_at dksX3_houseOf_2 7 rfl rfl)
theorem dX3_houseOf_54 : decode cX3_houseOf 54 = .ok (.iconst 4, 1) := dk_7 (dk_at dksX3_houseOf_2 8 rfl rfl)
theorem dX3_houseOf_55 : decode cX3_houseOf 55 = .ok (.if_icmp .ne 11, 3) := dk_160 0 11 (dk_at dksX3_houseOf_2 9 rfl rfl)
theorem dX3_houseOf_58 : decode cX3_houseOf 58 = .ok (.aload_n 0, 1) := dk_42 (dk_at dksX3_houseOf_2 12 rfl rfl)
theorem dX3_houseOf_59 : decode cX3_houseOf 59 = .ok (.iload_n 1, 1) := dk_27 (dk_at dksX3_houseOf_2 13 rfl rfl)
theorem dX3_houseOf_60 : decode cX3_houseOf 60 = .ok (.invokevirtual 90, 3) := dk_182 0 90 (dk_at dksX3_houseOf_2 14 rfl rfl)
theorem dX3_houseOf_63 : decode cX3_houseOf 63 = .ok (.goto 8, 3) := dk_167 0 8 (dk_at dksX3_houseOf_2 17 rfl rfl)
theorem dX3_houseOf_66 : decode cX3_houseOf 66 = .ok (.aload_n 0, 1) := dk_42 (dk_at dksX3_houseOf_2 20 rfl rfl)
theorem dX3_houseOf_67 : decode cX3_houseOf 67 = .ok (.iload_n 1, 1) := dk_27 (dk_at dksX3_houseOf_2 21 rfl rfl)
theorem dX3_houseOf_68 : decode cX3_houseOf 68 = .ok (.invokevirtual 93, 3) := dk_182 0 93 (dk_at dksX3_houseOf_3 0 rfl rfl)
theorem dX3_houseOf_71 : decode cX3_houseOf 71 = .ok (.ireturn, 1) := dk_172 (dk_at dksX3_houseOf_3 3 rfl rfl)
abbrev cX3_has : ByteArray := prog_17_method_16_code
def yX3_has : MethodName := ⟨RX3, "has", "(II)I"⟩
def dkwX3_has_0 : List UInt8 := [42, 180, 0, 7, 27, 28, 184, 0, 41, 46, 172]
abbrev dktX3_has_0 : List UInt8 := dkwX3_has_0 ++ []
theorem dksX3_has_0 : cX3_has.data.toList.drop 0 = dktX3_has_0 := by decide +kernel
theorem dX3_has_0 : decode cX3_has 0 = .ok (.aload_n 0, 1) := dk_42 (dk_at dksX3_has_0 0 rfl rfl)
theorem dX3_has_1 : decode cX3_has 1 = .ok (.getfield 7, 3) := dk_180 0 7 (dk_at dksX3_has_0 1 rfl rfl)
theorem dX3_has_4 : decode cX3_has 4 = .ok (.iload_n 1, 1) := dk_27 (dk_at dksX3_has_0 4 rfl rfl)
theorem dX3_has_5 : decode cX3_has 5 = .ok (.iload_n 2, 1) := dk_28 (dk_at dksX3_has_0 5 rfl rfl)
theorem dX3_has_6 : decode cX3_has 6 = .ok (.invokestatic 41, 3) := dk_184 0 41 (dk_at dksX3_has_0 6 rfl rfl)
theorem dX3_has_9 : decode cX3_has 9 = .ok (.iaload, 1) := dk_46 (dk_at dksX3_has_0 9 rfl rfl)
theorem dX3_has_10 : decode cX3_has 10 = .ok (.ireturn, 1) := dk_172 (dk_at dksX3_has_0 10 rfl rfl)
abbrev cX3_thoseAt : ByteArray := prog_17_method_18_code
def yX3_thoseAt : MethodName := ⟨RX3, "thoseAt", "(I)I"⟩
def dkwX3_thoseAt_1 : List UInt8 := [160, 0, 9, 4, 29, 120, 167, 0, 4, 3, 128, 61, 132, 3, 1, 167, 255, 223, 28, 172]
abbrev dktX3_thoseAt_1 : List UInt8 := dkwX3_thoseAt_1 ++ []
def dkwX3_thoseAt_0 : List UInt8 := [3, 61, 3, 62, 29, 42, 180, 0, 7, 3, 46, 162, 0, 29, 28, 42, 29, 7, 182, 0, 78, 27]
abbrev dktX3_thoseAt_0 : List UInt8 := dkwX3_thoseAt_0 ++ dktX3_thoseAt_1
theorem dksX3_thoseAt_0 : cX3_thoseAt.data.toList.drop 0 = dktX3_thoseAt_0 := by decide +kernel
theorem dksX3_thoseAt_1 : cX3_thoseAt.data.toList.drop 22 = dktX3_thoseAt_1 := dk_seg dksX3_thoseAt_0 22 rfl rfl
theorem dX3_thoseAt_0 : decode cX3_thoseAt 0 = .ok (.iconst 0, 1) := dk_3 (dk_at dksX3_thoseAt_0 0 rfl rfl)
theorem dX3_thoseAt_1 : decode cX3_thoseAt 1 = .ok (.istore_n 2, 1) := dk_61 (dk_at dksX3_thoseAt_0 1 rfl rfl)
theorem dX3_thoseAt_2 : decode cX3_thoseAt 2 = .ok (.iconst 0, 1) := dk_3 (dk_at dksX3_thoseAt_0 2 rfl rfl)
theorem dX3_thoseAt_3 : decode cX3_thoseAt 3 = .ok (.istore_n 3, 1) := dk_62 (dk_at dksX3_thoseAt_0 3 rfl rfl)
theorem dX3_thoseAt_4 : decode cX3_thoseAt 4 = .ok (.iload_n 3, 1) := dk_29 (dk_at dksX3_thoseAt_0 4 rfl rfl)
theorem dX3_thoseAt_5 : decode cX3_thoseAt 5 = .ok (.aload_n 0, 1) := dk_42 (dk_at dksX3_thoseAt_0 5 rfl rfl)
theorem dX3_thoseAt_6 : decode cX3_thoseAt 6 = .ok (.getfield 7, 3) := dk_180 0 7 (dk_at dksX3_thoseAt_0 6 rfl rfl)
theorem dX3_thoseAt_9 : decode cX3_thoseAt 9 = .ok (.iconst 0, 1) := dk_3 (dk_at dksX3_thoseAt_0 9 rfl rfl)
theorem dX3_thoseAt_10 : decode cX3_thoseAt 10 = .ok (.iaload, 1) := dk_46 (dk_at dksX3_thoseAt_0 10 rfl rfl)
theorem dX3_thoseAt_11 : decode cX3_thoseAt 11 = .ok (.if_icmp .ge 29, 3) := dk_162 0 29 (dk_at dksX3_thoseAt_0 11 rfl rfl)
theorem dX3_thoseAt_14 : decode cX3_thoseAt 14 = .ok (.iload_n 2, 1) := dk_28 (dk_at dksX3_thoseAt_0 14 rfl rfl)
theorem dX3_thoseAt_15 : decode cX3_thoseAt 15 = .ok (.aload_n 0, 1) := dk_42 (dk_at dksX3_thoseAt_0 15 rfl rfl)
theorem dX3_thoseAt_16 : decode cX3_thoseAt 16 = .ok (.iload_n 3, 1) := dk_29 (dk_at dksX3_thoseAt_0 16 rfl rfl)
theorem dX3_thoseAt_17 : decode cX3_thoseAt 17 = .ok (.iconst 4, 1) := dk_7 (dk_at dksX3_thoseAt_0 17 rfl rfl)
theorem dX3_thoseAt_18 : decode cX3_thoseAt 18 = .ok (.invokevirtual 78, 3) := dk_182 0 78 (dk_at dksX3_thoseAt_0 18 rfl rfl)
theorem dX3_thoseAt_21 : decode cX3_thoseAt 21 = .ok (.iload_n 1, 1) := dk_27 (dk_at dksX3_thoseAt_0 21 rfl rfl)
theorem dX3_thoseAt_22 : decode cX3_thoseAt 22 = .ok (.if_icmp .ne 9, 3) := dk_160 0 9 (dk_at dksX3_thoseAt_1 0 rfl rfl)
theorem dX3_thoseAt_25 : decode cX3_thoseAt 25 = .ok (.iconst 1, 1) := dk_4 (dk_at dksX3_thoseAt_1 3 rfl rfl)
theorem dX3_thoseAt_26 : decode cX3_thoseAt 26 = .ok (.iload_n 3, 1) := dk_29 (dk_at dksX3_thoseAt_1 4 rfl rfl)
theorem dX3_thoseAt_27 : decode cX3_thoseAt 27 = .ok (.ishl, 1) := dk_120 (dk_at dksX3_thoseAt_1 5 rfl rfl)
theorem dX3_thoseAt_28 : decode cX3_thoseAt 28 = .ok (.goto 4, 3) := dk_167 0 4 (dk_at dksX3_thoseAt_1 6 rfl rfl)
theorem dX3_thoseAt_31 : decode cX3_thoseAt 31 = .ok (.iconst 0, 1) := dk_3 (dk_at dksX3_thoseAt_1 9 rfl rfl)
theorem dX3_thoseAt_32 : decode cX3_thoseAt 32 = .ok (.ior, 1) := dk_128 (dk_at dksX3_thoseAt_1 10 rfl rfl)
theorem dX3_thoseAt_33 : decode cX3_thoseAt 33 = .ok (.istore_n 2, 1) := dk_61 (dk_at dksX3_thoseAt_1 11 rfl rfl)
theorem dX3_thoseAt_34 : decode cX3_thoseAt 34 = .ok (.iinc 3 1, 3) := dk_132 3 1 (dk_at dksX3_thoseAt_1 12 rfl rfl)
theorem dX3_thoseAt_37 : decode cX3_thoseAt 37 = .ok (.goto (-33), 3) := dk_167 255 223 (dk_at dksX3_thoseAt_1 15 rfl rfl)
theorem dX3_thoseAt_40 : decode cX3_thoseAt 40 = .ok (.iload_n 2, 1) := dk_28 (dk_at dksX3_thoseAt_1 18 rfl rfl)
theorem dX3_thoseAt_41 : decode cX3_thoseAt 41 = .ok (.ireturn, 1) := dk_172 (dk_at dksX3_thoseAt_1 19 rfl rfl)
abbrev cX3_its : ByteArray := prog_17_method_15_code
def yX3_its : MethodName := ⟨RX3, "its", "(II)I"⟩
def dkwX3_its_0 : List UInt8 := [42, 180, 0, 7, 27, 28, 184, 0, 56, 46, 172]
abbrev dktX3_its_0 : List UInt8 := dkwX3_its_0 ++ []
theorem dksX3_its_0 : cX3_its.data.toList.drop 0 = dktX3_its_0 := by decide +kernel
theorem dX3_its_0 : decode cX3_its 0 = .ok (.aload_n 0, 1) := dk_42 (dk_at dksX3_its_0 0 rfl rfl)
theorem dX3_its_1 : decode cX3_its 1 = .ok (.getfield 7, 3) := dk_180 0 7 (dk_at dksX3_its_0 1 rfl rfl)
theorem dX3_its_4 : decode cX3_its 4 = .ok (.iload_n 1, 1) := dk_27 (dk_at dksX3_its_0 4 rfl rfl)
theorem dX3_its_5 : decode cX3_its 5 = .ok (.iload_n 2, 1) := dk_28 (dk_at dksX3_its_0 5 rfl rfl)
theorem dX3_its_6 : decode cX3_its 6 = .ok (.invokestatic 56, 3) := dk_184 0 56 (dk_at dksX3_its_0 6 rfl rfl)
theorem dX3_its_9 : decode cX3_its 9 = .ok (.iaload, 1) := dk_46 (dk_at dksX3_its_0 9 rfl rfl)
theorem dX3_its_10 : decode cX3_its 10 = .ok (.ireturn, 1) := dk_172 (dk_at dksX3_its_0 10 rfl rfl)
abbrev cX3_spotOf : ByteArray := prog_17_method_14_code
def yX3_spotOf : MethodName := ⟨RX3, "spotOf", "(II)I"⟩
def dkwX3_spotOf_0 : List UInt8 := [16, 27, 8, 26, 104, 96, 27, 96, 172]
abbrev dktX3_spotOf_0 : List UInt8 := dkwX3_spotOf_0 ++ []
theorem dksX3_spotOf_0 : cX3_spotOf.data.toList.drop 0 = dktX3_spotOf_0 := by decide +kernel
theorem dX3_spotOf_0 : decode cX3_spotOf 0 = .ok (.bipush 27, 2) := dk_16 27 (dk_at dksX3_spotOf_0 0 rfl rfl)
theorem dX3_spotOf_2 : decode cX3_spotOf 2 = .ok (.iconst 5, 1) := dk_8 (dk_at dksX3_spotOf_0 2 rfl rfl)
theorem dX3_spotOf_3 : decode cX3_spotOf 3 = .ok (.iload_n 0, 1) := dk_26 (dk_at dksX3_spotOf_0 3 rfl rfl)
theorem dX3_spotOf_4 : decode cX3_spotOf 4 = .ok (.imul, 1) := dk_104 (dk_at dksX3_spotOf_0 4 rfl rfl)
theorem dX3_spotOf_5 : decode cX3_spotOf 5 = .ok (.iadd, 1) := dk_96 (dk_at dksX3_spotOf_0 5 rfl rfl)
theorem dX3_spotOf_6 : decode cX3_spotOf 6 = .ok (.iload_n 1, 1) := dk_27 (dk_at dksX3_spotOf_0 6 rfl rfl)
theorem dX3_spotOf_7 : decode cX3_spotOf 7 = .ok (.iadd, 1) := dk_96 (dk_at dksX3_spotOf_0 7 rfl rfl)
theorem dX3_spotOf_8 : decode cX3_spotOf 8 = .ok (.ireturn, 1) := dk_172 (dk_at dksX3_spotOf_0 8 rfl rfl)
abbrev cX3_eventsAt : ByteArray := prog_17_method_20_code
def yX3_eventsAt : MethodName := ⟨RX3, "eventsAt", "(I)I"⟩
def dkwX3_eventsAt_2 : List UInt8 := [172]
abbrev dktX3_eventsAt_2 : List UInt8 := dkwX3_eventsAt_2 ++ []
def dkwX3_eventsAt_1 : List UInt8 := [160, 0, 14, 4, 42, 29, 4, 182, 0, 78, 120, 167, 0, 4, 3, 128, 61, 132, 3, 1, 167, 255, 218, 28]
abbrev dktX3_eventsAt_1 : List UInt8 := dkwX3_eventsAt_1 ++ dktX3_eventsAt_2
def dkwX3_eventsAt_0 : List UInt8 := [3, 61, 3, 62, 29, 42, 180, 0, 7, 3, 46, 162, 0, 34, 28, 42, 29, 7, 182, 0, 78, 27]
abbrev dktX3_eventsAt_0 : List UInt8 := dkwX3_eventsAt_0 ++ dktX3_eventsAt_1
theorem dksX3_eventsAt_0 : cX3_eventsAt.data.toList.drop 0 = dktX3_eventsAt_0 := by decide +kernel
theorem dksX3_eventsAt_1 : cX3_eventsAt.data.toList.drop 22 = dktX3_eventsAt_1 := dk_seg dksX3_eventsAt_0 22 rfl rfl
theorem dksX3_eventsAt_2 : cX3_eventsAt.data.toList.drop 46 = dktX3_eventsAt_2 := dk_seg dksX3_eventsAt_1 24 rfl rfl
theorem dX3_eventsAt_0 : decode cX3_eventsAt 0 = .ok (.iconst 0, 1) := dk_3 (dk_at dksX3_eventsAt_0 0 rfl rfl)
theorem dX3_eventsAt_1 : decode cX3_eventsAt 1 = .ok (.istore_n 2, 1) := dk_61 (dk_at dksX3_eventsAt_0 1 rfl rfl)
theorem dX3_eventsAt_2 : decode cX3_eventsAt 2 = .ok (.iconst 0, 1) := dk_3 (dk_at dksX3_eventsAt_0 2 rfl rfl)
theorem dX3_eventsAt_3 : decode cX3_eventsAt 3 = .ok (.istore_n 3, 1) := dk_62 (dk_at dksX3_eventsAt_0 3 rfl rfl)
theorem dX3_eventsAt_4 : decode cX3_eventsAt 4 = .ok (.iload_n 3, 1) := dk_29 (dk_at dksX3_eventsAt_0 4 rfl rfl)
theorem dX3_eventsAt_5 : decode cX3_eventsAt 5 = .ok (.aload_n 0, 1) := dk_42 (dk_at dksX3_eventsAt_0 5 rfl rfl)
theorem dX3_eventsAt_6 : decode cX3_eventsAt 6 = .ok (.getfield 7, 3) := dk_180 0 7 (dk_at dksX3_eventsAt_0 6 rfl rfl)
theorem dX3_eventsAt_9 : decode cX3_eventsAt 9 = .ok (.iconst 0, 1) := dk_3 (dk_at dksX3_eventsAt_0 9 rfl rfl)
theorem dX3_eventsAt_10 : decode cX3_eventsAt 10 = .ok (.iaload, 1) := dk_46 (dk_at dksX3_eventsAt_0 10 rfl rfl)
theorem dX3_eventsAt_11 : decode cX3_eventsAt 11 = .ok (.if_icmp .ge 34, 3) := dk_162 0 34 (dk_at dksX3_eventsAt_0 11 rfl rfl)
theorem dX3_eventsAt_14 : decode cX3_eventsAt 14 = .ok (.iload_n 2, 1) := dk_28 (dk_at dksX3_eventsAt_0 14 rfl rfl)
theorem dX3_eventsAt_15 : decode cX3_eventsAt 15 = .ok (.aload_n 0, 1) := dk_42 (dk_at dksX3_eventsAt_0 15 rfl rfl)
theorem dX3_eventsAt_16 : decode cX3_eventsAt 16 = .ok (.iload_n 3, 1) := dk_29 (dk_at dksX3_eventsAt_0 16 rfl rfl)
theorem dX3_eventsAt_17 : decode cX3_eventsAt 17 = .ok (.iconst 4, 1) := dk_7 (dk_at dksX3_eventsAt_0 17 rfl rfl)
theorem dX3_eventsAt_18 : decode cX3_eventsAt 18 = .ok (.invokevirtual 78, 3) := dk_182 0 78 (dk_at dksX3_eventsAt_0 18 rfl rfl)
theorem dX3_eventsAt_21 : decode cX3_eventsAt 21 = .ok (.iload_n 1, 1) := dk_27 (dk_at dksX3_eventsAt_0 21 rfl rfl)
theorem dX3_eventsAt_22 : decode cX3_eventsAt 22 = .ok (.if_icmp .ne 14, 3) := dk_160 0 14 (dk_at dksX3_eventsAt_1 0 rfl rfl)
theorem dX3_eventsAt_25 : decode cX3_eventsAt 25 = .ok (.iconst 1, 1) := dk_4 (dk_at dksX3_eventsAt_1 3 rfl rfl)
theorem dX3_eventsAt_26 : decode cX3_eventsAt 26 = .ok (.aload_n 0, 1) := dk_42 (dk_at dksX3_eventsAt_1 4 rfl rfl)
theorem dX3_eventsAt_27 : decode cX3_eventsAt 27 = .ok (.iload_n 3, 1) := dk_29 (dk_at dksX3_eventsAt_1 5 rfl rfl)
theorem dX3_eventsAt_28 : decode cX3_eventsAt 28 = .ok (.iconst 1, 1) := dk_4 (dk_at dksX3_eventsAt_1 6 rfl rfl)
theorem dX3_eventsAt_29 : decode cX3_eventsAt 29 = .ok (.invokevirtual 78, 3) := dk_182 0 78 (dk_at dksX3_eventsAt_1 7 rfl rfl)
theorem dX3_eventsAt_32 : decode cX3_eventsAt 32 = .ok (.ishl, 1) := dk_120 (dk_at dksX3_eventsAt_1 10 rfl rfl)
theorem dX3_eventsAt_33 : decode cX3_eventsAt 33 = .ok (.goto 4, 3) := dk_167 0 4 (dk_at dksX3_eventsAt_1 11 rfl rfl)
theorem dX3_eventsAt_36 : decode cX3_eventsAt 36 = .ok (.iconst 0, 1) := dk_3 (dk_at dksX3_eventsAt_1 14 rfl rfl)
theorem dX3_eventsAt_37 : decode cX3_eventsAt 37 = .ok (.ior, 1) := dk_128 (dk_at dksX3_eventsAt_1 15 rfl rfl)
theorem dX3_eventsAt_38 : decode cX3_eventsAt 38 = .ok (.istore_n 2, 1) := dk_61 (dk_at dksX3_eventsAt_1 16 rfl rfl)
theorem dX3_eventsAt_39 : decode cX3_eventsAt 39 = .ok (.iinc 3 1, 3) := dk_132 3 1 (dk_at dksX3_eventsAt_1 17 rfl rfl)
theorem dX3_eventsAt_42 : decode cX3_eventsAt 42 = .ok (.goto (-38), 3) := dk_167 255 218 (dk_at dksX3_eventsAt_1 20 rfl rfl)
theorem dX3_eventsAt_45 : decode cX3_eventsAt 45 = .ok (.iload_n 2, 1) := dk_28 (dk_at dksX3_eventsAt_1 23 rfl rfl)
theorem dX3_eventsAt_46 : decode cX3_eventsAt 46 = .ok (.ireturn, 1) := dk_172 (dk_at dksX3_eventsAt_2 0 rfl rfl)
abbrev cX3_eatenAt : ByteArray := prog_17_method_21_code
def yX3_eatenAt : MethodName := ⟨RX3, "eatenAt", "(I)I"⟩
def dkwX3_eatenAt_1 : List UInt8 := [160, 0, 11, 42, 29, 182, 0, 81, 167, 0, 4, 3, 96, 61, 132, 3, 1, 167, 255, 221, 28, 172]
abbrev dktX3_eatenAt_1 : List UInt8 := dkwX3_eatenAt_1 ++ []
def dkwX3_eatenAt_0 : List UInt8 := [3, 61, 3, 62, 29, 42, 180, 0, 7, 3, 46, 162, 0, 31, 28, 42, 29, 7, 182, 0, 78, 27]
abbrev dktX3_eatenAt_0 : List UInt8 := dkwX3_eatenAt_0 ++ dktX3_eatenAt_1
theorem dksX3_eatenAt_0 : cX3_eatenAt.data.toList.drop 0 = dktX3_eatenAt_0 := by decide +kernel
theorem dksX3_eatenAt_1 : cX3_eatenAt.data.toList.drop 22 = dktX3_eatenAt_1 := dk_seg dksX3_eatenAt_0 22 rfl rfl
theorem dX3_eatenAt_0 : decode cX3_eatenAt 0 = .ok (.iconst 0, 1) := dk_3 (dk_at dksX3_eatenAt_0 0 rfl rfl)
theorem dX3_eatenAt_1 : decode cX3_eatenAt 1 = .ok (.istore_n 2, 1) := dk_61 (dk_at dksX3_eatenAt_0 1 rfl rfl)
theorem dX3_eatenAt_2 : decode cX3_eatenAt 2 = .ok (.iconst 0, 1) := dk_3 (dk_at dksX3_eatenAt_0 2 rfl rfl)
theorem dX3_eatenAt_3 : decode cX3_eatenAt 3 = .ok (.istore_n 3, 1) := dk_62 (dk_at dksX3_eatenAt_0 3 rfl rfl)
theorem dX3_eatenAt_4 : decode cX3_eatenAt 4 = .ok (.iload_n 3, 1) := dk_29 (dk_at dksX3_eatenAt_0 4 rfl rfl)
theorem dX3_eatenAt_5 : decode cX3_eatenAt 5 = .ok (.aload_n 0, 1) := dk_42 (dk_at dksX3_eatenAt_0 5 rfl rfl)
theorem dX3_eatenAt_6 : decode cX3_eatenAt 6 = .ok (.getfield 7, 3) := dk_180 0 7 (dk_at dksX3_eatenAt_0 6 rfl rfl)
theorem dX3_eatenAt_9 : decode cX3_eatenAt 9 = .ok (.iconst 0, 1) := dk_3 (dk_at dksX3_eatenAt_0 9 rfl rfl)
theorem dX3_eatenAt_10 : decode cX3_eatenAt 10 = .ok (.iaload, 1) := dk_46 (dk_at dksX3_eatenAt_0 10 rfl rfl)
theorem dX3_eatenAt_11 : decode cX3_eatenAt 11 = .ok (.if_icmp .ge 31, 3) := dk_162 0 31 (dk_at dksX3_eatenAt_0 11 rfl rfl)
theorem dX3_eatenAt_14 : decode cX3_eatenAt 14 = .ok (.iload_n 2, 1) := dk_28 (dk_at dksX3_eatenAt_0 14 rfl rfl)
theorem dX3_eatenAt_15 : decode cX3_eatenAt 15 = .ok (.aload_n 0, 1) := dk_42 (dk_at dksX3_eatenAt_0 15 rfl rfl)
theorem dX3_eatenAt_16 : decode cX3_eatenAt 16 = .ok (.iload_n 3, 1) := dk_29 (dk_at dksX3_eatenAt_0 16 rfl rfl)
theorem dX3_eatenAt_17 : decode cX3_eatenAt 17 = .ok (.iconst 4, 1) := dk_7 (dk_at dksX3_eatenAt_0 17 rfl rfl)
theorem dX3_eatenAt_18 : decode cX3_eatenAt 18 = .ok (.invokevirtual 78, 3) := dk_182 0 78 (dk_at dksX3_eatenAt_0 18 rfl rfl)
theorem dX3_eatenAt_21 : decode cX3_eatenAt 21 = .ok (.iload_n 1, 1) := dk_27 (dk_at dksX3_eatenAt_0 21 rfl rfl)
theorem dX3_eatenAt_22 : decode cX3_eatenAt 22 = .ok (.if_icmp .ne 11, 3) := dk_160 0 11 (dk_at dksX3_eatenAt_1 0 rfl rfl)
theorem dX3_eatenAt_25 : decode cX3_eatenAt 25 = .ok (.aload_n 0, 1) := dk_42 (dk_at dksX3_eatenAt_1 3 rfl rfl)
theorem dX3_eatenAt_26 : decode cX3_eatenAt 26 = .ok (.iload_n 3, 1) := dk_29 (dk_at dksX3_eatenAt_1 4 rfl rfl)
theorem dX3_eatenAt_27 : decode cX3_eatenAt 27 = .ok (.invokevirtual 81, 3) := dk_182 0 81 (dk_at dksX3_eatenAt_1 5 rfl rfl)
theorem dX3_eatenAt_30 : decode cX3_eatenAt 30 = .ok (.goto 4, 3) := dk_167 0 4 (dk_at dksX3_eatenAt_1 8 rfl rfl)
theorem dX3_eatenAt_33 : decode cX3_eatenAt 33 = .ok (.iconst 0, 1) := dk_3 (dk_at dksX3_eatenAt_1 11 rfl rfl)
theorem dX3_eatenAt_34 : decode cX3_eatenAt 34 = .ok (.iadd, 1) := dk_96 (dk_at dksX3_eatenAt_1 12 rfl rfl)
theorem dX3_eatenAt_35 : decode cX3_eatenAt 35 = .ok (.istore_n 2, 1) := dk_61 (dk_at dksX3_eatenAt_1 13 rfl rfl)
theorem dX3_eatenAt_36 : decode cX3_eatenAt 36 = .ok (.iinc 3 1, 3) := dk_132 3 1 (dk_at dksX3_eatenAt_1 14 rfl rfl)
theorem dX3_eatenAt_39 : decode cX3_eatenAt 39 = .ok (.goto (-35), 3) := dk_167 255 221 (dk_at dksX3_eatenAt_1 17 rfl rfl)
theorem dX3_eatenAt_42 : decode cX3_eatenAt 42 = .ok (.iload_n 2, 1) := dk_28 (dk_at dksX3_eatenAt_1 20 rfl rfl)
theorem dX3_eatenAt_43 : decode cX3_eatenAt 43 = .ok (.ireturn, 1) := dk_172 (dk_at dksX3_eatenAt_1 21 rfl rfl)
abbrev cX3_eats : ByteArray := prog_17_method_25_code
def yX3_eats : MethodName := ⟨RX3, "eats", "(I)I"⟩
def dkwX3_eats_4 : List UInt8 := [28, 172]
abbrev dktX3_eats_4 : List UInt8 := dkwX3_eats_4 ++ []
def dkwX3_eats_3 : List UInt8 := [5, 28, 104, 172, 4, 172, 29, 156, 0, 7, 3, 167, 0, 4, 29, 172, 5, 28, 104, 6, 96, 172, 3, 172]
abbrev dktX3_eats_3 : List UInt8 := dkwX3_eats_3 ++ dktX3_eats_4
def dkwX3_eats_2 : List UInt8 := [170, 0, 0, 0, 0, 58, 0, 0, 0, 1, 0, 0, 0, 5, 0, 0, 0, 34, 0, 0, 0, 38, 0, 0, 0, 40, 0, 0, 0, 50, 0, 0, 0, 56]
abbrev dktX3_eats_2 : List UInt8 := dkwX3_eats_2 ++ dktX3_eats_3
def dkwX3_eats_1 : List UInt8 := [42, 27, 3, 182, 0, 78]
abbrev dktX3_eats_1 : List UInt8 := dkwX3_eats_1 ++ dktX3_eats_2
def dkwX3_eats_0 : List UInt8 := [42, 27, 5, 182, 0, 78, 16, 10, 108, 4, 96, 61, 28, 42, 27, 6, 182, 0, 78, 16, 10, 108, 100, 62]
abbrev dktX3_eats_0 : List UInt8 := dkwX3_eats_0 ++ dktX3_eats_1
theorem dksX3_eats_0 : cX3_eats.data.toList.drop 0 = dktX3_eats_0 := by decide +kernel
theorem dksX3_eats_1 : cX3_eats.data.toList.drop 24 = dktX3_eats_1 := dk_seg dksX3_eats_0 24 rfl rfl
theorem dksX3_eats_2 : cX3_eats.data.toList.drop 30 = dktX3_eats_2 := dk_seg dksX3_eats_1 6 rfl rfl
theorem dksX3_eats_3 : cX3_eats.data.toList.drop 64 = dktX3_eats_3 := dk_seg dksX3_eats_2 34 rfl rfl
theorem dksX3_eats_4 : cX3_eats.data.toList.drop 88 = dktX3_eats_4 := dk_seg dksX3_eats_3 24 rfl rfl
theorem dX3_eats_0 : decode cX3_eats 0 = .ok (.aload_n 0, 1) := dk_42 (dk_at dksX3_eats_0 0 rfl rfl)
theorem dX3_eats_1 : decode cX3_eats 1 = .ok (.iload_n 1, 1) := dk_27 (dk_at dksX3_eats_0 1 rfl rfl)
theorem dX3_eats_2 : decode cX3_eats 2 = .ok (.iconst 2, 1) := dk_5 (dk_at dksX3_eats_0 2 rfl rfl)
theorem dX3_eats_3 : decode cX3_eats 3 = .ok (.invokevirtual 78, 3) := dk_182 0 78 (dk_at dksX3_eats_0 3 rfl rfl)
theorem dX3_eats_6 : decode cX3_eats 6 = .ok (.bipush 10, 2) := dk_16 10 (dk_at dksX3_eats_0 6 rfl rfl)
theorem dX3_eats_8 : decode cX3_eats 8 = .ok (.idiv, 1) := dk_108 (dk_at dksX3_eats_0 8 rfl rfl)
theorem dX3_eats_9 : decode cX3_eats 9 = .ok (.iconst 1, 1) := dk_4 (dk_at dksX3_eats_0 9 rfl rfl)
theorem dX3_eats_10 : decode cX3_eats 10 = .ok (.iadd, 1) := dk_96 (dk_at dksX3_eats_0 10 rfl rfl)
theorem dX3_eats_11 : decode cX3_eats 11 = .ok (.istore_n 2, 1) := dk_61 (dk_at dksX3_eats_0 11 rfl rfl)
theorem dX3_eats_12 : decode cX3_eats 12 = .ok (.iload_n 2, 1) := dk_28 (dk_at dksX3_eats_0 12 rfl rfl)
theorem dX3_eats_13 : decode cX3_eats 13 = .ok (.aload_n 0, 1) := dk_42 (dk_at dksX3_eats_0 13 rfl rfl)
theorem dX3_eats_14 : decode cX3_eats 14 = .ok (.iload_n 1, 1) := dk_27 (dk_at dksX3_eats_0 14 rfl rfl)
theorem dX3_eats_15 : decode cX3_eats 15 = .ok (.iconst 3, 1) := dk_6 (dk_at dksX3_eats_0 15 rfl rfl)
theorem dX3_eats_16 : decode cX3_eats 16 = .ok (.invokevirtual 78, 3) := dk_182 0 78 (dk_at dksX3_eats_0 16 rfl rfl)
theorem dX3_eats_19 : decode cX3_eats 19 = .ok (.bipush 10, 2) := dk_16 10 (dk_at dksX3_eats_0 19 rfl rfl)
theorem dX3_eats_21 : decode cX3_eats 21 = .ok (.idiv, 1) := dk_108 (dk_at dksX3_eats_0 21 rfl rfl)
theorem dX3_eats_22 : decode cX3_eats 22 = .ok (.isub, 1) := dk_100 (dk_at dksX3_eats_0 22 rfl rfl)
theorem dX3_eats_23 : decode cX3_eats 23 = .ok (.istore_n 3, 1) := dk_62 (dk_at dksX3_eats_0 23 rfl rfl)
theorem dX3_eats_24 : decode cX3_eats 24 = .ok (.aload_n 0, 1) := dk_42 (dk_at dksX3_eats_1 0 rfl rfl)
theorem dX3_eats_25 : decode cX3_eats 25 = .ok (.iload_n 1, 1) := dk_27 (dk_at dksX3_eats_1 1 rfl rfl)
theorem dX3_eats_26 : decode cX3_eats 26 = .ok (.iconst 0, 1) := dk_3 (dk_at dksX3_eats_1 2 rfl rfl)
theorem dX3_eats_27 : decode cX3_eats 27 = .ok (.invokevirtual 78, 3) := dk_182 0 78 (dk_at dksX3_eats_1 3 rfl rfl)
theorem dX3_eats_30 : decode cX3_eats 30 = .ok (.tableswitch 58 1 5 #[34, 38, 40, 50, 56], 34) := by decide +kernel
theorem dX3_eats_64 : decode cX3_eats 64 = .ok (.iconst 2, 1) := dk_5 (dk_at dksX3_eats_3 0 rfl rfl)
theorem dX3_eats_65 : decode cX3_eats 65 = .ok (.iload_n 2, 1) := dk_28 (dk_at dksX3_eats_3 1 rfl rfl)
theorem dX3_eats_66 : decode cX3_eats 66 = .ok (.imul, 1) := dk_104 (dk_at dksX3_eats_3 2 rfl rfl)
theorem dX3_eats_67 : decode cX3_eats 67 = .ok (.ireturn, 1) := dk_172 (dk_at dksX3_eats_3 3 rfl rfl)
theorem dX3_eats_68 : decode cX3_eats 68 = .ok (.iconst 1, 1) := dk_4 (dk_at dksX3_eats_3 4 rfl rfl)
theorem dX3_eats_69 : decode cX3_eats 69 = .ok (.ireturn, 1) := dk_172 (dk_at dksX3_eats_3 5 rfl rfl)
theorem dX3_eats_70 : decode cX3_eats 70 = .ok (.iload_n 3, 1) := dk_29 (dk_at dksX3_eats_3 6 rfl rfl)
theorem dX3_eats_71 : decode cX3_eats 71 = .ok (.ifCond .ge 7, 3) := dk_156 0 7 (dk_at dksX3_eats_3 7 rfl rfl)
theorem dX3_eats_74 : decode cX3_eats 74 = .ok (.iconst 0, 1) := dk_3 (dk_at dksX3_eats_3 10 rfl rfl)
theorem dX3_eats_75 : decode cX3_eats 75 = .ok (.goto 4, 3) := dk_167 0 4 (dk_at dksX3_eats_3 11 rfl rfl)
theorem dX3_eats_78 : decode cX3_eats 78 = .ok (.iload_n 3, 1) := dk_29 (dk_at dksX3_eats_3 14 rfl rfl)
theorem dX3_eats_79 : decode cX3_eats 79 = .ok (.ireturn, 1) := dk_172 (dk_at dksX3_eats_3 15 rfl rfl)
theorem dX3_eats_80 : decode cX3_eats 80 = .ok (.iconst 2, 1) := dk_5 (dk_at dksX3_eats_3 16 rfl rfl)
theorem dX3_eats_81 : decode cX3_eats 81 = .ok (.iload_n 2, 1) := dk_28 (dk_at dksX3_eats_3 17 rfl rfl)
theorem dX3_eats_82 : decode cX3_eats 82 = .ok (.imul, 1) := dk_104 (dk_at dksX3_eats_3 18 rfl rfl)
theorem dX3_eats_83 : decode cX3_eats 83 = .ok (.iconst 3, 1) := dk_6 (dk_at dksX3_eats_3 19 rfl rfl)
theorem dX3_eats_84 : decode cX3_eats 84 = .ok (.iadd, 1) := dk_96 (dk_at dksX3_eats_3 20 rfl rfl)
theorem dX3_eats_85 : decode cX3_eats 85 = .ok (.ireturn, 1) := dk_172 (dk_at dksX3_eats_3 21 rfl rfl)
theorem dX3_eats_86 : decode cX3_eats 86 = .ok (.iconst 0, 1) := dk_3 (dk_at dksX3_eats_3 22 rfl rfl)
theorem dX3_eats_87 : decode cX3_eats 87 = .ok (.ireturn, 1) := dk_172 (dk_at dksX3_eats_3 23 rfl rfl)
theorem dX3_eats_88 : decode cX3_eats 88 = .ok (.iload_n 2, 1) := dk_28 (dk_at dksX3_eats_4 0 rfl rfl)
theorem dX3_eats_89 : decode cX3_eats 89 = .ok (.ireturn, 1) := dk_172 (dk_at dksX3_eats_4 1 rfl rfl)
abbrev cX3_rumour : ByteArray := prog_17_method_24_code
def yX3_rumour : MethodName := ⟨RX3, "rumour", "(II)I"⟩
def dkwX3_rumour_2 : List UInt8 := [182, 0, 103, 172]
abbrev dktX3_rumour_2 : List UInt8 := dkwX3_rumour_2 ++ []
def dkwX3_rumour_1 : List UInt8 := [180, 0, 7, 3, 46, 16, 10, 160, 0, 12, 42, 18, 102, 182, 0, 74, 167, 0, 9, 42, 27, 28]
abbrev dktX3_rumour_1 : List UInt8 := dkwX3_rumour_1 ++ dktX3_rumour_2
def dkwX3_rumour_0 : List UInt8 := [27, 184, 0, 96, 153, 0, 10, 28, 184, 0, 99, 154, 0, 10, 42, 18, 45, 182, 0, 74, 172, 42]
abbrev dktX3_rumour_0 : List UInt8 := dkwX3_rumour_0 ++ dktX3_rumour_1
theorem dksX3_rumour_0 : cX3_rumour.data.toList.drop 0 = dktX3_rumour_0 := by decide +kernel
theorem dksX3_rumour_1 : cX3_rumour.data.toList.drop 22 = dktX3_rumour_1 := dk_seg dksX3_rumour_0 22 rfl rfl
theorem dksX3_rumour_2 : cX3_rumour.data.toList.drop 44 = dktX3_rumour_2 := dk_seg dksX3_rumour_1 22 rfl rfl
theorem dX3_rumour_0 : decode cX3_rumour 0 = .ok (.iload_n 1, 1) := dk_27 (dk_at dksX3_rumour_0 0 rfl rfl)
theorem dX3_rumour_1 : decode cX3_rumour 1 = .ok (.invokestatic 96, 3) := dk_184 0 96 (dk_at dksX3_rumour_0 1 rfl rfl)
theorem dX3_rumour_4 : decode cX3_rumour 4 = .ok (.ifCond .eq 10, 3) := dk_153 0 10 (dk_at dksX3_rumour_0 4 rfl rfl)
theorem dX3_rumour_7 : decode cX3_rumour 7 = .ok (.iload_n 2, 1) := dk_28 (dk_at dksX3_rumour_0 7 rfl rfl)
theorem dX3_rumour_8 : decode cX3_rumour 8 = .ok (.invokestatic 99, 3) := dk_184 0 99 (dk_at dksX3_rumour_0 8 rfl rfl)
theorem dX3_rumour_11 : decode cX3_rumour 11 = .ok (.ifCond .ne 10, 3) := dk_154 0 10 (dk_at dksX3_rumour_0 11 rfl rfl)
theorem dX3_rumour_14 : decode cX3_rumour 14 = .ok (.aload_n 0, 1) := dk_42 (dk_at dksX3_rumour_0 14 rfl rfl)
theorem dX3_rumour_15 : decode cX3_rumour 15 = .ok (.ldc 45, 2) := dk_18 45 (dk_at dksX3_rumour_0 15 rfl rfl)
theorem dX3_rumour_17 : decode cX3_rumour 17 = .ok (.invokevirtual 74, 3) := dk_182 0 74 (dk_at dksX3_rumour_0 17 rfl rfl)
theorem dX3_rumour_20 : decode cX3_rumour 20 = .ok (.ireturn, 1) := dk_172 (dk_at dksX3_rumour_0 20 rfl rfl)
theorem dX3_rumour_21 : decode cX3_rumour 21 = .ok (.aload_n 0, 1) := dk_42 (dk_at dksX3_rumour_0 21 rfl rfl)
theorem dX3_rumour_22 : decode cX3_rumour 22 = .ok (.getfield 7, 3) := dk_180 0 7 (dk_at dksX3_rumour_1 0 rfl rfl)
theorem dX3_rumour_25 : decode cX3_rumour 25 = .ok (.iconst 0, 1) := dk_3 (dk_at dksX3_rumour_1 3 rfl rfl)
theorem dX3_rumour_26 : decode cX3_rumour 26 = .ok (.iaload, 1) := dk_46 (dk_at dksX3_rumour_1 4 rfl rfl)
theorem dX3_rumour_27 : decode cX3_rumour 27 = .ok (.bipush 10, 2) := dk_16 10 (dk_at dksX3_rumour_1 5 rfl rfl)
theorem dX3_rumour_29 : decode cX3_rumour 29 = .ok (.if_icmp .ne 12, 3) := dk_160 0 12 (dk_at dksX3_rumour_1 7 rfl rfl)
theorem dX3_rumour_32 : decode cX3_rumour 32 = .ok (.aload_n 0, 1) := dk_42 (dk_at dksX3_rumour_1 10 rfl rfl)
theorem dX3_rumour_33 : decode cX3_rumour 33 = .ok (.ldc 102, 2) := dk_18 102 (dk_at dksX3_rumour_1 11 rfl rfl)
theorem dX3_rumour_35 : decode cX3_rumour 35 = .ok (.invokevirtual 74, 3) := dk_182 0 74 (dk_at dksX3_rumour_1 13 rfl rfl)
theorem dX3_rumour_38 : decode cX3_rumour 38 = .ok (.goto 9, 3) := dk_167 0 9 (dk_at dksX3_rumour_1 16 rfl rfl)
theorem dX3_rumour_41 : decode cX3_rumour 41 = .ok (.aload_n 0, 1) := dk_42 (dk_at dksX3_rumour_1 19 rfl rfl)
theorem dX3_rumour_42 : decode cX3_rumour 42 = .ok (.iload_n 1, 1) := dk_27 (dk_at dksX3_rumour_1 20 rfl rfl)
theorem dX3_rumour_43 : decode cX3_rumour 43 = .ok (.iload_n 2, 1) := dk_28 (dk_at dksX3_rumour_1 21 rfl rfl)
theorem dX3_rumour_44 : decode cX3_rumour 44 = .ok (.invokevirtual 103, 3) := dk_182 0 103 (dk_at dksX3_rumour_2 0 rfl rfl)
theorem dX3_rumour_47 : decode cX3_rumour 47 = .ok (.ireturn, 1) := dk_172 (dk_at dksX3_rumour_2 3 rfl rfl)
abbrev cX3_isKind : ByteArray := prog_17_method_11_code
def yX3_isKind : MethodName := ⟨RX3, "isKind", "(I)Z"⟩
def dkwX3_isKind_0 : List UInt8 := [26, 133, 9, 20, 0, 52, 184, 0, 48, 172]
abbrev dktX3_isKind_0 : List UInt8 := dkwX3_isKind_0 ++ []
theorem dksX3_isKind_0 : cX3_isKind.data.toList.drop 0 = dktX3_isKind_0 := by decide +kernel
theorem dX3_isKind_0 : decode cX3_isKind 0 = .ok (.iload_n 0, 1) := dk_26 (dk_at dksX3_isKind_0 0 rfl rfl)
theorem dX3_isKind_1 : decode cX3_isKind 1 = .ok (.i2l, 1) := dk_133 (dk_at dksX3_isKind_0 1 rfl rfl)
theorem dX3_isKind_2 : decode cX3_isKind 2 = .ok (.lconst 0, 1) := dk_9 (dk_at dksX3_isKind_0 2 rfl rfl)
theorem dX3_isKind_3 : decode cX3_isKind 3 = .ok (.ldc2_w 52, 3) := dk_20 0 52 (dk_at dksX3_isKind_0 3 rfl rfl)
theorem dX3_isKind_6 : decode cX3_isKind 6 = .ok (.invokestatic 48, 3) := dk_184 0 48 (dk_at dksX3_isKind_0 6 rfl rfl)
theorem dX3_isKind_9 : decode cX3_isKind 9 = .ok (.ireturn, 1) := dk_172 (dk_at dksX3_isKind_0 9 rfl rfl)
abbrev cX3_isEvent : ByteArray := prog_17_method_12_code
def yX3_isEvent : MethodName := ⟨RX3, "isEvent", "(I)Z"⟩
def dkwX3_isEvent_0 : List UInt8 := [26, 133, 9, 20, 0, 54, 184, 0, 48, 172]
abbrev dktX3_isEvent_0 : List UInt8 := dkwX3_isEvent_0 ++ []
theorem dksX3_isEvent_0 : cX3_isEvent.data.toList.drop 0 = dktX3_isEvent_0 := by decide +kernel
theorem dX3_isEvent_0 : decode cX3_isEvent 0 = .ok (.iload_n 0, 1) := dk_26 (dk_at dksX3_isEvent_0 0 rfl rfl)
theorem dX3_isEvent_1 : decode cX3_isEvent 1 = .ok (.i2l, 1) := dk_133 (dk_at dksX3_isEvent_0 1 rfl rfl)
theorem dX3_isEvent_2 : decode cX3_isEvent 2 = .ok (.lconst 0, 1) := dk_9 (dk_at dksX3_isEvent_0 2 rfl rfl)
theorem dX3_isEvent_3 : decode cX3_isEvent 3 = .ok (.ldc2_w 54, 3) := dk_20 0 54 (dk_at dksX3_isEvent_0 3 rfl rfl)
theorem dX3_isEvent_6 : decode cX3_isEvent 6 = .ok (.invokestatic 48, 3) := dk_184 0 48 (dk_at dksX3_isEvent_0 6 rfl rfl)
theorem dX3_isEvent_9 : decode cX3_isEvent 9 = .ok (.ireturn, 1) := dk_172 (dk_at dksX3_isEvent_0 9 rfl rfl)
abbrev cX3_adds : ByteArray := prog_17_method_23_code
def yX3_adds : MethodName := ⟨RX3, "adds", "(II)I"⟩
def dkwX3_adds_3 : List UInt8 := [96, 79, 29, 172]
abbrev dktX3_adds_3 : List UInt8 := dkwX3_adds_3 ++ []
def dkwX3_adds_2 : List UInt8 := [184, 0, 56, 3, 79, 42, 180, 0, 7, 29, 7, 184, 0, 56, 2, 79, 42, 180, 0, 7, 3, 92, 46, 4]
abbrev dktX3_adds_2 : List UInt8 := dkwX3_adds_2 ++ dktX3_adds_3
def dkwX3_adds_1 : List UInt8 := [184, 0, 56, 28, 79, 42, 180, 0, 7, 29, 5, 184, 0, 56, 16, 10, 79, 42, 180, 0, 7, 29, 6]
abbrev dktX3_adds_1 : List UInt8 := dkwX3_adds_1 ++ dktX3_adds_2
def dkwX3_adds_0 : List UInt8 := [42, 180, 0, 7, 3, 46, 62, 42, 180, 0, 7, 29, 3, 184, 0, 56, 27, 79, 42, 180, 0, 7, 29, 4]
abbrev dktX3_adds_0 : List UInt8 := dkwX3_adds_0 ++ dktX3_adds_1
theorem dksX3_adds_0 : cX3_adds.data.toList.drop 0 = dktX3_adds_0 := by decide +kernel
theorem dksX3_adds_1 : cX3_adds.data.toList.drop 24 = dktX3_adds_1 := dk_seg dksX3_adds_0 24 rfl rfl
theorem dksX3_adds_2 : cX3_adds.data.toList.drop 47 = dktX3_adds_2 := dk_seg dksX3_adds_1 23 rfl rfl
theorem dksX3_adds_3 : cX3_adds.data.toList.drop 71 = dktX3_adds_3 := dk_seg dksX3_adds_2 24 rfl rfl
theorem dX3_adds_0 : decode cX3_adds 0 = .ok (.aload_n 0, 1) := dk_42 (dk_at dksX3_adds_0 0 rfl rfl)
theorem dX3_adds_1 : decode cX3_adds 1 = .ok (.getfield 7, 3) := dk_180 0 7 (dk_at dksX3_adds_0 1 rfl rfl)
theorem dX3_adds_4 : decode cX3_adds 4 = .ok (.iconst 0, 1) := dk_3 (dk_at dksX3_adds_0 4 rfl rfl)
theorem dX3_adds_5 : decode cX3_adds 5 = .ok (.iaload, 1) := dk_46 (dk_at dksX3_adds_0 5 rfl rfl)
theorem dX3_adds_6 : decode cX3_adds 6 = .ok (.istore_n 3, 1) := dk_62 (dk_at dksX3_adds_0 6 rfl rfl)
theorem dX3_adds_7 : decode cX3_adds 7 = .ok (.aload_n 0, 1) := dk_42 (dk_at dksX3_adds_0 7 rfl rfl)
theorem dX3_adds_8 : decode cX3_adds 8 = .ok (.getfield 7, 3) := dk_180 0 7 (dk_at dksX3_adds_0 8 rfl rfl)
theorem dX3_adds_11 : decode cX3_adds 11 = .ok (.iload_n 3, 1) := dk_29 (dk_at dksX3_adds_0 11 rfl rfl)
theorem dX3_adds_12 : decode cX3_adds 12 = .ok (.iconst 0, 1) := dk_3 (dk_at dksX3_adds_0 12 rfl rfl)
theorem dX3_adds_13 : decode cX3_adds 13 = .ok (.invokestatic 56, 3) := dk_184 0 56 (dk_at dksX3_adds_0 13 rfl rfl)
theorem dX3_adds_16 : decode cX3_adds 16 = .ok (.iload_n 1, 1) := dk_27 (dk_at dksX3_adds_0 16 rfl rfl)
theorem dX3_adds_17 : decode cX3_adds 17 = .ok (.iastore, 1) := dk_79 (dk_at dksX3_adds_0 17 rfl rfl)
theorem dX3_adds_18 : decode cX3_adds 18 = .ok (.aload_n 0, 1) := dk_42 (dk_at dksX3_adds_0 18 rfl rfl)
theorem dX3_adds_19 : decode cX3_adds 19 = .ok (.getfield 7, 3) := dk_180 0 7 (dk_at dksX3_adds_0 19 rfl rfl)
theorem dX3_adds_22 : decode cX3_adds 22 = .ok (.iload_n 3, 1) := dk_29 (dk_at dksX3_adds_0 22 rfl rfl)
theorem dX3_adds_23 : decode cX3_adds 23 = .ok (.iconst 1, 1) := dk_4 (dk_at dksX3_adds_0 23 rfl rfl)
theorem dX3_adds_24 : decode cX3_adds 24 = .ok (.invokestatic 56, 3) := dk_184 0 56 (dk_at dksX3_adds_1 0 rfl rfl)
theorem dX3_adds_27 : decode cX3_adds 27 = .ok (.iload_n 2, 1) := dk_28 (dk_at dksX3_adds_1 3 rfl rfl)
theorem dX3_adds_28 : decode cX3_adds 28 = .ok (.iastore, 1) := dk_79 (dk_at dksX3_adds_1 4 rfl rfl)
theorem dX3_adds_29 : decode cX3_adds 29 = .ok (.aload_n 0, 1) := dk_42 (dk_at dksX3_adds_1 5 rfl rfl)
theorem dX3_adds_30 : decode cX3_adds 30 = .ok (.getfield 7, 3) := dk_180 0 7 (dk_at dksX3_adds_1 6 rfl rfl)
theorem dX3_adds_33 : decode cX3_adds 33 = .ok (.iload_n 3, 1) := dk_29 (dk_at dksX3_adds_1 9 rfl rfl)
theorem dX3_adds_34 : decode cX3_adds 34 = .ok (.iconst 2, 1) := dk_5 (dk_at dksX3_adds_1 10 rfl rfl)
theorem dX3_adds_35 : decode cX3_adds 35 = .ok (.invokestatic 56, 3) := dk_184 0 56 (dk_at dksX3_adds_1 11 rfl rfl)
theorem dX3_adds_38 : decode cX3_adds 38 = .ok (.bipush 10, 2) := dk_16 10 (dk_at dksX3_adds_1 14 rfl rfl)
theorem dX3_adds_40 : decode cX3_adds 40 = .ok (.iastore, 1) := dk_79 (dk_at dksX3_adds_1 16 rfl rfl)
theorem dX3_adds_41 : decode cX3_adds 41 = .ok (.aload_n 0, 1) := dk_42 (dk_at dksX3_adds_1 17 rfl rfl)
theorem dX3_adds_42 : decode cX3_adds 42 = .ok (.getfield 7, 3) := dk_180 0 7 (dk_at dksX3_adds_1 18 rfl rfl)
theorem dX3_adds_45 : decode cX3_adds 45 = .ok (.iload_n 3, 1) := dk_29 (dk_at dksX3_adds_1 21 rfl rfl)
theorem dX3_adds_46 : decode cX3_adds 46 = .ok (.iconst 3, 1) := dk_6 (dk_at dksX3_adds_1 22 rfl rfl)
theorem dX3_adds_47 : decode cX3_adds 47 = .ok (.invokestatic 56, 3) := dk_184 0 56 (dk_at dksX3_adds_2 0 rfl rfl)
theorem dX3_adds_50 : decode cX3_adds 50 = .ok (.iconst 0, 1) := dk_3 (dk_at dksX3_adds_2 3 rfl rfl)
theorem dX3_adds_51 : decode cX3_adds 51 = .ok (.iastore, 1) := dk_79 (dk_at dksX3_adds_2 4 rfl rfl)
theorem dX3_adds_52 : decode cX3_adds 52 = .ok (.aload_n 0, 1) := dk_42 (dk_at dksX3_adds_2 5 rfl rfl)
theorem dX3_adds_53 : decode cX3_adds 53 = .ok (.getfield 7, 3) := dk_180 0 7 (dk_at dksX3_adds_2 6 rfl rfl)
theorem dX3_adds_56 : decode cX3_adds 56 = .ok (.iload_n 3, 1) := dk_29 (dk_at dksX3_adds_2 9 rfl rfl)
theorem dX3_adds_57 : decode cX3_adds 57 = .ok (.iconst 4, 1) := dk_7 (dk_at dksX3_adds_2 10 rfl rfl)
theorem dX3_adds_58 : decode cX3_adds 58 = .ok (.invokestatic 56, 3) := dk_184 0 56 (dk_at dksX3_adds_2 11 rfl rfl)
theorem dX3_adds_61 : decode cX3_adds 61 = .ok (.iconst (-1), 1) := dk_2 (dk_at dksX3_adds_2 14 rfl rfl)
theorem dX3_adds_62 : decode cX3_adds 62 = .ok (.iastore, 1) := dk_79 (dk_at dksX3_adds_2 15 rfl rfl)
theorem dX3_adds_63 : decode cX3_adds 63 = .ok (.aload_n 0, 1) := dk_42 (dk_at dksX3_adds_2 16 rfl rfl)
theorem dX3_adds_64 : decode cX3_adds 64 = .ok (.getfield 7, 3) := dk_180 0 7 (dk_at dksX3_adds_2 17 rfl rfl)
theorem dX3_adds_67 : decode cX3_adds 67 = .ok (.iconst 0, 1) := dk_3 (dk_at dksX3_adds_2 20 rfl rfl)
theorem dX3_adds_68 : decode cX3_adds 68 = .ok (.dup2, 1) := dk_92 (dk_at dksX3_adds_2 21 rfl rfl)
theorem dX3_adds_69 : decode cX3_adds 69 = .ok (.iaload, 1) := dk_46 (dk_at dksX3_adds_2 22 rfl rfl)
theorem dX3_adds_70 : decode cX3_adds 70 = .ok (.iconst 1, 1) := dk_4 (dk_at dksX3_adds_2 23 rfl rfl)
theorem dX3_adds_71 : decode cX3_adds 71 = .ok (.iadd, 1) := dk_96 (dk_at dksX3_adds_3 0 rfl rfl)
theorem dX3_adds_72 : decode cX3_adds 72 = .ok (.iastore, 1) := dk_79 (dk_at dksX3_adds_3 1 rfl rfl)
theorem dX3_adds_73 : decode cX3_adds 73 = .ok (.iload_n 3, 1) := dk_29 (dk_at dksX3_adds_3 2 rfl rfl)
theorem dX3_adds_74 : decode cX3_adds 74 = .ok (.ireturn, 1) := dk_172 (dk_at dksX3_adds_3 3 rfl rfl)
abbrev cX3_of : ByteArray := prog_17_method_28_code
def yX3_of : MethodName := ⟨RX3, "of", "(II)I"⟩
def dkwX3_of_3 : List UInt8 := [182, 0, 112, 172]
abbrev dktX3_of_3 : List UInt8 := dkwX3_of_3 ++ []
def dkwX3_of_2 : List UInt8 := [27, 182, 0, 81, 167, 0, 22, 28, 16, 6, 160, 0, 11, 42, 27, 182, 0, 109, 167, 0, 8, 42, 27]
abbrev dktX3_of_2 : List UInt8 := dkwX3_of_2 ++ dktX3_of_3
def dkwX3_of_1 : List UInt8 := [182, 0, 74, 172, 28, 7, 163, 0, 12, 42, 27, 28, 182, 0, 78, 167, 0, 35, 28, 8, 160, 0, 11, 42]
abbrev dktX3_of_1 : List UInt8 := dkwX3_of_1 ++ dktX3_of_2
def dkwX3_of_0 : List UInt8 := [42, 27, 182, 0, 106, 153, 0, 15, 28, 133, 9, 20, 0, 46, 184, 0, 48, 154, 0, 10, 42, 18, 45]
abbrev dktX3_of_0 : List UInt8 := dkwX3_of_0 ++ dktX3_of_1
theorem dksX3_of_0 : cX3_of.data.toList.drop 0 = dktX3_of_0 := by decide +kernel
theorem dksX3_of_1 : cX3_of.data.toList.drop 23 = dktX3_of_1 := dk_seg dksX3_of_0 23 rfl rfl
theorem dksX3_of_2 : cX3_of.data.toList.drop 47 = dktX3_of_2 := dk_seg dksX3_of_1 24 rfl rfl
theorem dksX3_of_3 : cX3_of.data.toList.drop 70 = dktX3_of_3 := dk_seg dksX3_of_2 23 rfl rfl
theorem dX3_of_0 : decode cX3_of 0 = .ok (.aload_n 0, 1) := dk_42 (dk_at dksX3_of_0 0 rfl rfl)
theorem dX3_of_1 : decode cX3_of 1 = .ok (.iload_n 1, 1) := dk_27 (dk_at dksX3_of_0 1 rfl rfl)
theorem dX3_of_2 : decode cX3_of 2 = .ok (.invokevirtual 106, 3) := dk_182 0 106 (dk_at dksX3_of_0 2 rfl rfl)
theorem dX3_of_5 : decode cX3_of 5 = .ok (.ifCond .eq 15, 3) := dk_153 0 15 (dk_at dksX3_of_0 5 rfl rfl)
theorem dX3_of_8 : decode cX3_of 8 = .ok (.iload_n 2, 1) := dk_28 (dk_at dksX3_of_0 8 rfl rfl)
theorem dX3_of_9 : decode cX3_of 9 = .ok (.i2l, 1) := dk_133 (dk_at dksX3_of_0 9 rfl rfl)
theorem dX3_of_10 : decode cX3_of 10 = .ok (.lconst 0, 1) := dk_9 (dk_at dksX3_of_0 10 rfl rfl)
theorem dX3_of_11 : decode cX3_of 11 = .ok (.ldc2_w 46, 3) := dk_20 0 46 (dk_at dksX3_of_0 11 rfl rfl)
theorem dX3_of_14 : decode cX3_of 14 = .ok (.invokestatic 48, 3) := dk_184 0 48 (dk_at dksX3_of_0 14 rfl rfl)
theorem dX3_of_17 : decode cX3_of 17 = .ok (.ifCond .ne 10, 3) := dk_154 0 10 (dk_at dksX3_of_0 17 rfl rfl)
theorem dX3_of_20 : decode cX3_of 20 = .ok (.aload_n 0, 1) := dk_42 (dk_at dksX3_of_0 20 rfl rfl)
theorem dX3_of_21 : decode cX3_of 21 = .ok (.ldc 45, 2) := dk_18 45 (dk_at dksX3_of_0 21 rfl rfl)
theorem dX3_of_23 : decode cX3_of 23 = .ok (.invokevirtual 74, 3) := dk_182 0 74 (dk_at dksX3_of_1 0 rfl rfl)
theorem dX3_of_26 : decode cX3_of 26 = .ok (.ireturn, 1) := dk_172 (dk_at dksX3_of_1 3 rfl rfl)
theorem dX3_of_27 : decode cX3_of 27 = .ok (.iload_n 2, 1) := dk_28 (dk_at dksX3_of_1 4 rfl rfl)
theorem dX3_of_28 : decode cX3_of 28 = .ok (.iconst 4, 1) := dk_7 (dk_at dksX3_of_1 5 rfl rfl)
theorem dX3_of_29 : decode cX3_of 29 = .ok (.if_icmp .gt 12, 3) := dk_163 0 12 (dk_at dksX3_of_1 6 rfl rfl)
theorem dX3_of_32 : decode cX3_of 32 = .ok (.aload_n 0, 1) := dk_42 (dk_at dksX3_of_1 9 rfl rfl)
theorem dX3_of_33 : decode cX3_of 33 = .ok (.iload_n 1, 1) := dk_27 (dk_at dksX3_of_1 10 rfl rfl)
theorem dX3_of_34 : decode cX3_of 34 = .ok (.iload_n 2, 1) := dk_28 (dk_at dksX3_of_1 11 rfl rfl)
theorem dX3_of_35 : decode cX3_of 35 = .ok (.invokevirtual 78, 3) := dk_182 0 78 (dk_at dksX3_of_1 12 rfl rfl)
theorem dX3_of_38 : decode cX3_of 38 = .ok (.goto 35, 3) := dk_167 0 35 (dk_at dksX3_of_1 15 rfl rfl)
theorem dX3_of_41 : decode cX3_of 41 = .ok (.iload_n 2, 1) := dk_28 (dk_at dksX3_of_1 18 rfl rfl)
theorem dX3_of_42 : decode cX3_of 42 = .ok (.iconst 5, 1) := dk_8 (dk_at dksX3_of_1 19 rfl rfl)
theorem dX3_of_43 : decode cX3_of 43 = .ok (.if_icmp .ne 11, 3) := dk_160 0 11 (dk_at dksX3_of_1 20 rfl rfl)
theorem dX3_of_46 : decode cX3_of 46 = .ok (.aload_n 0, 1) := dk_42 (dk_at dksX3_of_1 23 rfl rfl)
theorem dX3_of_47 : decode cX3_of 47 = .ok (.iload_n 1, 1) := dk_27 (dk_at dksX3_of_2 0 rfl rfl)
theorem dX3_of_48 : decode cX3_of 48 = .ok (.invokevirtual 81, 3) := dk_182 0 81 (dk_at dksX3_of_2 1 rfl rfl)
theorem dX3_of_51 : decode cX3_of 51 = .ok (.goto 22, 3) := dk_167 0 22 (dk_at dksX3_of_2 4 rfl rfl)
theorem dX3_of_54 : decode cX3_of 54 = .ok (.iload_n 2, 1) := dk_28 (dk_at dksX3_of_2 7 rfl rfl)
theorem dX3_of_55 : decode cX3_of 55 = .ok (.bipush 6, 2) := dk_16 6 (dk_at dksX3_of_2 8 rfl rfl)
theorem dX3_of_57 : decode cX3_of 57 = .ok (.if_icmp .ne 11, 3) := dk_160 0 11 (dk_at dksX3_of_2 10 rfl rfl)
theorem dX3_of_60 : decode cX3_of 60 = .ok (.aload_n 0, 1) := dk_42 (dk_at dksX3_of_2 13 rfl rfl)
theorem dX3_of_61 : decode cX3_of 61 = .ok (.iload_n 1, 1) := dk_27 (dk_at dksX3_of_2 14 rfl rfl)
theorem dX3_of_62 : decode cX3_of 62 = .ok (.invokevirtual 109, 3) := dk_182 0 109 (dk_at dksX3_of_2 15 rfl rfl)
theorem dX3_of_65 : decode cX3_of 65 = .ok (.goto 8, 3) := dk_167 0 8 (dk_at dksX3_of_2 18 rfl rfl)
theorem dX3_of_68 : decode cX3_of 68 = .ok (.aload_n 0, 1) := dk_42 (dk_at dksX3_of_2 21 rfl rfl)
theorem dX3_of_69 : decode cX3_of 69 = .ok (.iload_n 1, 1) := dk_27 (dk_at dksX3_of_2 22 rfl rfl)
theorem dX3_of_70 : decode cX3_of 70 = .ok (.invokevirtual 112, 3) := dk_182 0 112 (dk_at dksX3_of_3 0 rfl rfl)
theorem dX3_of_73 : decode cX3_of 73 = .ok (.ireturn, 1) := dk_172 (dk_at dksX3_of_3 3 rfl rfl)
abbrev cX3_isRumour : ByteArray := prog_17_method_10_code
def yX3_isRumour : MethodName := ⟨RX3, "isRumour", "(I)Z"⟩
def dkwX3_isRumour_0 : List UInt8 := [27, 133, 9, 42, 180, 0, 7, 3, 46, 4, 100, 133, 184, 0, 48, 172]
abbrev dktX3_isRumour_0 : List UInt8 := dkwX3_isRumour_0 ++ []
theorem dksX3_isRumour_0 : cX3_isRumour.data.toList.drop 0 = dktX3_isRumour_0 := by decide +kernel
theorem dX3_isRumour_0 : decode cX3_isRumour 0 = .ok (.iload_n 1, 1) := dk_27 (dk_at dksX3_isRumour_0 0 rfl rfl)
theorem dX3_isRumour_1 : decode cX3_isRumour 1 = .ok (.i2l, 1) := dk_133 (dk_at dksX3_isRumour_0 1 rfl rfl)
theorem dX3_isRumour_2 : decode cX3_isRumour 2 = .ok (.lconst 0, 1) := dk_9 (dk_at dksX3_isRumour_0 2 rfl rfl)
theorem dX3_isRumour_3 : decode cX3_isRumour 3 = .ok (.aload_n 0, 1) := dk_42 (dk_at dksX3_isRumour_0 3 rfl rfl)
theorem dX3_isRumour_4 : decode cX3_isRumour 4 = .ok (.getfield 7, 3) := dk_180 0 7 (dk_at dksX3_isRumour_0 4 rfl rfl)
theorem dX3_isRumour_7 : decode cX3_isRumour 7 = .ok (.iconst 0, 1) := dk_3 (dk_at dksX3_isRumour_0 7 rfl rfl)
theorem dX3_isRumour_8 : decode cX3_isRumour 8 = .ok (.iaload, 1) := dk_46 (dk_at dksX3_isRumour_0 8 rfl rfl)
theorem dX3_isRumour_9 : decode cX3_isRumour 9 = .ok (.iconst 1, 1) := dk_4 (dk_at dksX3_isRumour_0 9 rfl rfl)
theorem dX3_isRumour_10 : decode cX3_isRumour 10 = .ok (.isub, 1) := dk_100 (dk_at dksX3_isRumour_0 10 rfl rfl)
theorem dX3_isRumour_11 : decode cX3_isRumour 11 = .ok (.i2l, 1) := dk_133 (dk_at dksX3_isRumour_0 11 rfl rfl)
theorem dX3_isRumour_12 : decode cX3_isRumour 12 = .ok (.invokestatic 48, 3) := dk_184 0 48 (dk_at dksX3_isRumour_0 12 rfl rfl)
theorem dX3_isRumour_15 : decode cX3_isRumour 15 = .ok (.ireturn, 1) := dk_172 (dk_at dksX3_isRumour_0 15 rfl rfl)
abbrev cX3_needs : ByteArray := prog_17_method_26_code
def yX3_needs : MethodName := ⟨RX3, "needs", "(I)I"⟩
def dkwX3_needs_2 : List UInt8 := [28, 172, 16, 6, 172, 7, 172, 28, 4, 100, 172, 16, 7, 172, 6, 172]
abbrev dktX3_needs_2 : List UInt8 := dkwX3_needs_2 ++ []
def dkwX3_needs_1 : List UInt8 := [170, 0, 0, 0, 47, 0, 0, 0, 1, 0, 0, 0, 5, 0, 0, 0, 33, 0, 0, 0, 35, 0, 0, 0, 38, 0, 0, 0, 40, 0, 0, 0, 44]
abbrev dktX3_needs_1 : List UInt8 := dkwX3_needs_1 ++ dktX3_needs_2
def dkwX3_needs_0 : List UInt8 := [42, 27, 5, 182, 0, 78, 16, 20, 162, 0, 7, 4, 167, 0, 4, 6, 61, 42, 27, 3, 182, 0, 78]
abbrev dktX3_needs_0 : List UInt8 := dkwX3_needs_0 ++ dktX3_needs_1
theorem dksX3_needs_0 : cX3_needs.data.toList.drop 0 = dktX3_needs_0 := by decide +kernel
theorem dksX3_needs_1 : cX3_needs.data.toList.drop 23 = dktX3_needs_1 := dk_seg dksX3_needs_0 23 rfl rfl
theorem dksX3_needs_2 : cX3_needs.data.toList.drop 56 = dktX3_needs_2 := dk_seg dksX3_needs_1 33 rfl rfl
theorem dX3_needs_0 : decode cX3_needs 0 = .ok (.aload_n 0, 1) := dk_42 (dk_at dksX3_needs_0 0 rfl rfl)
theorem dX3_needs_1 : decode cX3_needs 1 = .ok (.iload_n 1, 1) := dk_27 (dk_at dksX3_needs_0 1 rfl rfl)
theorem dX3_needs_2 : decode cX3_needs 2 = .ok (.iconst 2, 1) := dk_5 (dk_at dksX3_needs_0 2 rfl rfl)
theorem dX3_needs_3 : decode cX3_needs 3 = .ok (.invokevirtual 78, 3) := dk_182 0 78 (dk_at dksX3_needs_0 3 rfl rfl)
theorem dX3_needs_6 : decode cX3_needs 6 = .ok (.bipush 20, 2) := dk_16 20 (dk_at dksX3_needs_0 6 rfl rfl)
theorem dX3_needs_8 : decode cX3_needs 8 = .ok (.if_icmp .ge 7, 3) := dk_162 0 7 (dk_at dksX3_needs_0 8 rfl rfl)
theorem dX3_needs_11 : decode cX3_needs 11 = .ok (.iconst 1, 1) := dk_4 (dk_at dksX3_needs_0 11 rfl rfl)
theorem dX3_needs_12 : decode cX3_needs 12 = .ok (.goto 4, 3) := dk_167 0 4 (dk_at dksX3_needs_0 12 rfl rfl)
theorem dX3_needs_15 : decode cX3_needs 15 = .ok (.iconst 3, 1) := dk_6 (dk_at dksX3_needs_0 15 rfl rfl)
theorem dX3_needs_16 : decode cX3_needs 16 = .ok (.istore_n 2, 1) := dk_61 (dk_at dksX3_needs_0 16 rfl rfl)
theorem dX3_needs_17 : decode cX3_needs 17 = .ok (.aload_n 0, 1) := dk_42 (dk_at dksX3_needs_0 17 rfl rfl)
theorem dX3_needs_18 : decode cX3_needs 18 = .ok (.iload_n 1, 1) := dk_27 (dk_at dksX3_needs_0 18 rfl rfl)
theorem dX3_needs_19 : decode cX3_needs 19 = .ok (.iconst 0, 1) := dk_3 (dk_at dksX3_needs_0 19 rfl rfl)
theorem dX3_needs_20 : decode cX3_needs 20 = .ok (.invokevirtual 78, 3) := dk_182 0 78 (dk_at dksX3_needs_0 20 rfl rfl)
theorem dX3_needs_23 : decode cX3_needs 23 = .ok (.tableswitch 47 1 5 #[33, 35, 38, 40, 44], 33) := by decide +kernel
theorem dX3_needs_56 : decode cX3_needs 56 = .ok (.iload_n 2, 1) := dk_28 (dk_at dksX3_needs_2 0 rfl rfl)
theorem dX3_needs_57 : decode cX3_needs 57 = .ok (.ireturn, 1) := dk_172 (dk_at dksX3_needs_2 1 rfl rfl)
theorem dX3_needs_58 : decode cX3_needs 58 = .ok (.bipush 6, 2) := dk_16 6 (dk_at dksX3_needs_2 2 rfl rfl)
theorem dX3_needs_60 : decode cX3_needs 60 = .ok (.ireturn, 1) := dk_172 (dk_at dksX3_needs_2 4 rfl rfl)
theorem dX3_needs_61 : decode cX3_needs 61 = .ok (.iconst 4, 1) := dk_7 (dk_at dksX3_needs_2 5 rfl rfl)
theorem dX3_needs_62 : decode cX3_needs 62 = .ok (.ireturn, 1) := dk_172 (dk_at dksX3_needs_2 6 rfl rfl)
theorem dX3_needs_63 : decode cX3_needs 63 = .ok (.iload_n 2, 1) := dk_28 (dk_at dksX3_needs_2 7 rfl rfl)
theorem dX3_needs_64 : decode cX3_needs 64 = .ok (.iconst 1, 1) := dk_4 (dk_at dksX3_needs_2 8 rfl rfl)
theorem dX3_needs_65 : decode cX3_needs 65 = .ok (.isub, 1) := dk_100 (dk_at dksX3_needs_2 9 rfl rfl)
theorem dX3_needs_66 : decode cX3_needs 66 = .ok (.ireturn, 1) := dk_172 (dk_at dksX3_needs_2 10 rfl rfl)
theorem dX3_needs_67 : decode cX3_needs 67 = .ok (.bipush 7, 2) := dk_16 7 (dk_at dksX3_needs_2 11 rfl rfl)
theorem dX3_needs_69 : decode cX3_needs 69 = .ok (.ireturn, 1) := dk_172 (dk_at dksX3_needs_2 13 rfl rfl)
theorem dX3_needs_70 : decode cX3_needs 70 = .ok (.iconst 3, 1) := dk_6 (dk_at dksX3_needs_2 14 rfl rfl)
theorem dX3_needs_71 : decode cX3_needs 71 = .ok (.ireturn, 1) := dk_172 (dk_at dksX3_needs_2 15 rfl rfl)
abbrev cX3_grows : ByteArray := prog_17_method_27_code
def yX3_grows : MethodName := ⟨RX3, "grows", "(I)I"⟩
def dkwX3_grows_3 : List UInt8 := [154, 0, 7, 4, 167, 0, 4, 3, 172, 4, 172]
abbrev dktX3_grows_3 : List UInt8 := dkwX3_grows_3 ++ []
def dkwX3_grows_2 : List UInt8 := [42, 27, 5, 182, 0, 78, 16, 10, 108, 4, 96, 172, 3, 172, 42, 27, 6, 182, 0, 78, 5, 112]
abbrev dktX3_grows_2 : List UInt8 := dkwX3_grows_2 ++ dktX3_grows_3
def dkwX3_grows_1 : List UInt8 := [170, 0, 0, 0, 0, 65, 0, 0, 0, 1, 0, 0, 0, 5, 0, 0, 0, 34, 0, 0, 0, 46, 0, 0, 0, 48, 0, 0, 0, 34, 0, 0, 0, 46]
abbrev dktX3_grows_1 : List UInt8 := dkwX3_grows_1 ++ dktX3_grows_2
def dkwX3_grows_0 : List UInt8 := [42, 27, 3, 182, 0, 78]
abbrev dktX3_grows_0 : List UInt8 := dkwX3_grows_0 ++ dktX3_grows_1
theorem dksX3_grows_0 : cX3_grows.data.toList.drop 0 = dktX3_grows_0 := by decide +kernel
theorem dksX3_grows_1 : cX3_grows.data.toList.drop 6 = dktX3_grows_1 := dk_seg dksX3_grows_0 6 rfl rfl
theorem dksX3_grows_2 : cX3_grows.data.toList.drop 40 = dktX3_grows_2 := dk_seg dksX3_grows_1 34 rfl rfl
theorem dksX3_grows_3 : cX3_grows.data.toList.drop 62 = dktX3_grows_3 := dk_seg dksX3_grows_2 22 rfl rfl
theorem dX3_grows_0 : decode cX3_grows 0 = .ok (.aload_n 0, 1) := dk_42 (dk_at dksX3_grows_0 0 rfl rfl)
theorem dX3_grows_1 : decode cX3_grows 1 = .ok (.iload_n 1, 1) := dk_27 (dk_at dksX3_grows_0 1 rfl rfl)
theorem dX3_grows_2 : decode cX3_grows 2 = .ok (.iconst 0, 1) := dk_3 (dk_at dksX3_grows_0 2 rfl rfl)
theorem dX3_grows_3 : decode cX3_grows 3 = .ok (.invokevirtual 78, 3) := dk_182 0 78 (dk_at dksX3_grows_0 3 rfl rfl)
theorem dX3_grows_6 : decode cX3_grows 6 = .ok (.tableswitch 65 1 5 #[34, 46, 48, 34, 46], 34) := by decide +kernel
theorem dX3_grows_40 : decode cX3_grows 40 = .ok (.aload_n 0, 1) := dk_42 (dk_at dksX3_grows_2 0 rfl rfl)
theorem dX3_grows_41 : decode cX3_grows 41 = .ok (.iload_n 1, 1) := dk_27 (dk_at dksX3_grows_2 1 rfl rfl)
theorem dX3_grows_42 : decode cX3_grows 42 = .ok (.iconst 2, 1) := dk_5 (dk_at dksX3_grows_2 2 rfl rfl)
theorem dX3_grows_43 : decode cX3_grows 43 = .ok (.invokevirtual 78, 3) := dk_182 0 78 (dk_at dksX3_grows_2 3 rfl rfl)
theorem dX3_grows_46 : decode cX3_grows 46 = .ok (.bipush 10, 2) := dk_16 10 (dk_at dksX3_grows_2 6 rfl rfl)
theorem dX3_grows_48 : decode cX3_grows 48 = .ok (.idiv, 1) := dk_108 (dk_at dksX3_grows_2 8 rfl rfl)
theorem dX3_grows_49 : decode cX3_grows 49 = .ok (.iconst 1, 1) := dk_4 (dk_at dksX3_grows_2 9 rfl rfl)
theorem dX3_grows_50 : decode cX3_grows 50 = .ok (.iadd, 1) := dk_96 (dk_at dksX3_grows_2 10 rfl rfl)
theorem dX3_grows_51 : decode cX3_grows 51 = .ok (.ireturn, 1) := dk_172 (dk_at dksX3_grows_2 11 rfl rfl)
theorem dX3_grows_52 : decode cX3_grows 52 = .ok (.iconst 0, 1) := dk_3 (dk_at dksX3_grows_2 12 rfl rfl)
theorem dX3_grows_53 : decode cX3_grows 53 = .ok (.ireturn, 1) := dk_172 (dk_at dksX3_grows_2 13 rfl rfl)
theorem dX3_grows_54 : decode cX3_grows 54 = .ok (.aload_n 0, 1) := dk_42 (dk_at dksX3_grows_2 14 rfl rfl)
theorem dX3_grows_55 : decode cX3_grows 55 = .ok (.iload_n 1, 1) := dk_27 (dk_at dksX3_grows_2 15 rfl rfl)
theorem dX3_grows_56 : decode cX3_grows 56 = .ok (.iconst 3, 1) := dk_6 (dk_at dksX3_grows_2 16 rfl rfl)
theorem dX3_grows_57 : decode cX3_grows 57 = .ok (.invokevirtual 78, 3) := dk_182 0 78 (dk_at dksX3_grows_2 17 rfl rfl)
theorem dX3_grows_60 : decode cX3_grows 60 = .ok (.iconst 2, 1) := dk_5 (dk_at dksX3_grows_2 20 rfl rfl)
theorem dX3_grows_61 : decode cX3_grows 61 = .ok (.irem, 1) := dk_112 (dk_at dksX3_grows_2 21 rfl rfl)
theorem dX3_grows_62 : decode cX3_grows 62 = .ok (.ifCond .ne 7, 3) := dk_154 0 7 (dk_at dksX3_grows_3 0 rfl rfl)
theorem dX3_grows_65 : decode cX3_grows 65 = .ok (.iconst 1, 1) := dk_4 (dk_at dksX3_grows_3 3 rfl rfl)
theorem dX3_grows_66 : decode cX3_grows 66 = .ok (.goto 4, 3) := dk_167 0 4 (dk_at dksX3_grows_3 4 rfl rfl)
theorem dX3_grows_69 : decode cX3_grows 69 = .ok (.iconst 0, 1) := dk_3 (dk_at dksX3_grows_3 7 rfl rfl)
theorem dX3_grows_70 : decode cX3_grows 70 = .ok (.ireturn, 1) := dk_172 (dk_at dksX3_grows_3 8 rfl rfl)
theorem dX3_grows_71 : decode cX3_grows 71 = .ok (.iconst 1, 1) := dk_4 (dk_at dksX3_grows_3 9 rfl rfl)
theorem dX3_grows_72 : decode cX3_grows 72 = .ok (.ireturn, 1) := dk_172 (dk_at dksX3_grows_3 10 rfl rfl)
abbrev cX3_set : ByteArray := prog_17_method_29_code
def yX3_set : MethodName := ⟨RX3, "set", "(III)I"⟩
def dkwX3_set_3 : List UInt8 := [184, 0, 56, 29, 182, 0, 71, 167, 0, 9, 42, 18, 45, 182, 0, 74, 172]
abbrev dktX3_set_3 : List UInt8 := dkwX3_set_3 ++ []
def dkwX3_set_2 : List UInt8 := [167, 0, 4, 3, 54, 4, 42, 27, 182, 0, 106, 153, 0, 21, 21, 4, 153, 0, 16, 42, 27, 28]
abbrev dktX3_set_2 : List UInt8 := dkwX3_set_2 ++ dktX3_set_3
def dkwX3_set_1 : List UInt8 := [167, 0, 17, 28, 5, 160, 0, 9, 20, 0, 115, 167, 0, 6, 20, 0, 63, 184, 0, 48, 153, 0, 7, 4]
abbrev dktX3_set_1 : List UInt8 := dkwX3_set_1 ++ dktX3_set_2
def dkwX3_set_0 : List UInt8 := [28, 133, 10, 20, 0, 61, 184, 0, 48, 153, 0, 41, 29, 133, 9, 28, 4, 160, 0, 9, 20, 0, 54]
abbrev dktX3_set_0 : List UInt8 := dkwX3_set_0 ++ dktX3_set_1
theorem dksX3_set_0 : cX3_set.data.toList.drop 0 = dktX3_set_0 := by decide +kernel
theorem dksX3_set_1 : cX3_set.data.toList.drop 23 = dktX3_set_1 := dk_seg dksX3_set_0 23 rfl rfl
theorem dksX3_set_2 : cX3_set.data.toList.drop 47 = dktX3_set_2 := dk_seg dksX3_set_1 24 rfl rfl
theorem dksX3_set_3 : cX3_set.data.toList.drop 69 = dktX3_set_3 := dk_seg dksX3_set_2 22 rfl rfl
theorem dX3_set_0 : decode cX3_set 0 = .ok (.iload_n 2, 1) := dk_28 (dk_at dksX3_set_0 0 rfl rfl)
theorem dX3_set_1 : decode cX3_set 1 = .ok (.i2l, 1) := dk_133 (dk_at dksX3_set_0 1 rfl rfl)
theorem dX3_set_2 : decode cX3_set 2 = .ok (.lconst 1, 1) := dk_10 (dk_at dksX3_set_0 2 rfl rfl)
theorem dX3_set_3 : decode cX3_set 3 = .ok (.ldc2_w 61, 3) := dk_20 0 61 (dk_at dksX3_set_0 3 rfl rfl)
theorem dX3_set_6 : decode cX3_set 6 = .ok (.invokestatic 48, 3) := dk_184 0 48 (dk_at dksX3_set_0 6 rfl rfl)
theorem dX3_set_9 : decode cX3_set 9 = .ok (.ifCond .eq 41, 3) := dk_153 0 41 (dk_at dksX3_set_0 9 rfl rfl)
theorem dX3_set_12 : decode cX3_set 12 = .ok (.iload_n 3, 1) := dk_29 (dk_at dksX3_set_0 12 rfl rfl)
theorem dX3_set_13 : decode cX3_set 13 = .ok (.i2l, 1) := dk_133 (dk_at dksX3_set_0 13 rfl rfl)
theorem dX3_set_14 : decode cX3_set 14 = .ok (.lconst 0, 1) := dk_9 (dk_at dksX3_set_0 14 rfl rfl)
theorem dX3_set_15 : decode cX3_set 15 = .ok (.iload_n 2, 1) := dk_28 (dk_at dksX3_set_0 15 rfl rfl)
theorem dX3_set_16 : decode cX3_set 16 = .ok (.iconst 1, 1) := dk_4 (dk_at dksX3_set_0 16 rfl rfl)
theorem dX3_set_17 : decode cX3_set 17 = .ok (.if_icmp .ne 9, 3) := dk_160 0 9 (dk_at dksX3_set_0 17 rfl rfl)
theorem dX3_set_20 : decode cX3_set 20 = .ok (.ldc2_w 54, 3) := dk_20 0 54 (dk_at dksX3_set_0 20 rfl rfl)
theorem dX3_set_23 : decode cX3_set 23 = .ok (.goto 17, 3) := dk_167 0 17 (dk_at dksX3_set_1 0 rfl rfl)
theorem dX3_set_26 : decode cX3_set 26 = .ok (.iload_n 2, 1) := dk_28 (dk_at dksX3_set_1 3 rfl rfl)
theorem dX3_set_27 : decode cX3_set 27 = .ok (.iconst 2, 1) := dk_5 (dk_at dksX3_set_1 4 rfl rfl)
theorem dX3_set_28 : decode cX3_set 28 = .ok (.if_icmp .ne 9, 3) := dk_160 0 9 (dk_at dksX3_set_1 5 rfl rfl)
theorem dX3_set_31 : decode cX3_set 31 = .ok (.ldc2_w 115, 3) := dk_20 0 115 (dk_at dksX3_set_1 8 rfl rfl)
theorem dX3_set_34 : decode cX3_set 34 = .ok (.goto 6, 3) := dk_167 0 6 (dk_at dksX3_set_1 11 rfl rfl)
theorem dX3_set_37 : decode cX3_set 37 = .ok (.ldc2_w 63, 3) := dk_20 0 63 (dk_at dksX3_set_1 14 rfl rfl)
theorem dX3_set_40 : decode cX3_set 40 = .ok (.invokestatic 48, 3) := dk_184 0 48 (dk_at dksX3_set_1 17 rfl rfl)
theorem dX3_set_43 : decode cX3_set 43 = .ok (.ifCond .eq 7, 3) := dk_153 0 7 (dk_at dksX3_set_1 20 rfl rfl)
theorem dX3_set_46 : decode cX3_set 46 = .ok (.iconst 1, 1) := dk_4 (dk_at dksX3_set_1 23 rfl rfl)
theorem dX3_set_47 : decode cX3_set 47 = .ok (.goto 4, 3) := dk_167 0 4 (dk_at dksX3_set_2 0 rfl rfl)
theorem dX3_set_50 : decode cX3_set 50 = .ok (.iconst 0, 1) := dk_3 (dk_at dksX3_set_2 3 rfl rfl)
theorem dX3_set_51 : decode cX3_set 51 = .ok (.istore 4, 2) := dk_54 4 (dk_at dksX3_set_2 4 rfl rfl)
theorem dX3_set_53 : decode cX3_set 53 = .ok (.aload_n 0, 1) := dk_42 (dk_at dksX3_set_2 6 rfl rfl)
theorem dX3_set_54 : decode cX3_set 54 = .ok (.iload_n 1, 1) := dk_27 (dk_at dksX3_set_2 7 rfl rfl)
theorem dX3_set_55 : decode cX3_set 55 = .ok (.invokevirtual 106, 3) := dk_182 0 106 (dk_at dksX3_set_2 8 rfl rfl)
theorem dX3_set_58 : decode cX3_set 58 = .ok (.ifCond .eq 21, 3) := dk_153 0 21 (dk_at dksX3_set_2 11 rfl rfl)
theorem dX3_set_61 : decode cX3_set 61 = .ok (.iload 4, 2) := dk_21 4 (dk_at dksX3_set_2 14 rfl rfl)
theorem dX3_set_63 : decode cX3_set 63 = .ok (.ifCond .eq 16, 3) := dk_153 0 16 (dk_at dksX3_set_2 16 rfl rfl)
theorem dX3_set_66 : decode cX3_set 66 = .ok (.aload_n 0, 1) := dk_42 (dk_at dksX3_set_2 19 rfl rfl)
theorem dX3_set_67 : decode cX3_set 67 = .ok (.iload_n 1, 1) := dk_27 (dk_at dksX3_set_2 20 rfl rfl)
theorem dX3_set_68 : decode cX3_set 68 = .ok (.iload_n 2, 1) := dk_28 (dk_at dksX3_set_2 21 rfl rfl)
theorem dX3_set_69 : decode cX3_set 69 = .ok (.invokestatic 56, 3) := dk_184 0 56 (dk_at dksX3_set_3 0 rfl rfl)
theorem dX3_set_72 : decode cX3_set 72 = .ok (.iload_n 3, 1) := dk_29 (dk_at dksX3_set_3 3 rfl rfl)
theorem dX3_set_73 : decode cX3_set 73 = .ok (.invokevirtual 71, 3) := dk_182 0 71 (dk_at dksX3_set_3 4 rfl rfl)
theorem dX3_set_76 : decode cX3_set 76 = .ok (.goto 9, 3) := dk_167 0 9 (dk_at dksX3_set_3 7 rfl rfl)
theorem dX3_set_79 : decode cX3_set 79 = .ok (.aload_n 0, 1) := dk_42 (dk_at dksX3_set_3 10 rfl rfl)
theorem dX3_set_80 : decode cX3_set 80 = .ok (.ldc 45, 2) := dk_18 45 (dk_at dksX3_set_3 11 rfl rfl)
theorem dX3_set_82 : decode cX3_set 82 = .ok (.invokevirtual 74, 3) := dk_182 0 74 (dk_at dksX3_set_3 13 rfl rfl)
theorem dX3_set_85 : decode cX3_set 85 = .ok (.ireturn, 1) := dk_172 (dk_at dksX3_set_3 16 rfl rfl)
abbrev cX3_turn : ByteArray := prog_17_method_30_code
def yX3_turn : MethodName := ⟨RX3, "turn", "(II)I"⟩
def dkwX3_turn_1 : List UInt8 := [182, 0, 71, 167, 0, 9, 42, 18, 45, 182, 0, 74, 172]
abbrev dktX3_turn_1 : List UInt8 := dkwX3_turn_1 ++ []
def dkwX3_turn_0 : List UInt8 := [42, 27, 182, 0, 106, 153, 0, 23, 28, 184, 0, 96, 153, 0, 16, 42, 27, 3, 184, 0, 56, 28]
abbrev dktX3_turn_0 : List UInt8 := dkwX3_turn_0 ++ dktX3_turn_1
theorem dksX3_turn_0 : cX3_turn.data.toList.drop 0 = dktX3_turn_0 := by decide +kernel
theorem dksX3_turn_1 : cX3_turn.data.toList.drop 22 = dktX3_turn_1 := dk_seg dksX3_turn_0 22 rfl rfl
theorem dX3_turn_0 : decode cX3_turn 0 = .ok (.aload_n 0, 1) := dk_42 (dk_at dksX3_turn_0 0 rfl rfl)
theorem dX3_turn_1 : decode cX3_turn 1 = .ok (.iload_n 1, 1) := dk_27 (dk_at dksX3_turn_0 1 rfl rfl)
theorem dX3_turn_2 : decode cX3_turn 2 = .ok (.invokevirtual 106, 3) := dk_182 0 106 (dk_at dksX3_turn_0 2 rfl rfl)
theorem dX3_turn_5 : decode cX3_turn 5 = .ok (.ifCond .eq 23, 3) := dk_153 0 23 (dk_at dksX3_turn_0 5 rfl rfl)
theorem dX3_turn_8 : decode cX3_turn 8 = .ok (.iload_n 2, 1) := dk_28 (dk_at dksX3_turn_0 8 rfl rfl)
theorem dX3_turn_9 : decode cX3_turn 9 = .ok (.invokestatic 96, 3) := dk_184 0 96 (dk_at dksX3_turn_0 9 rfl rfl)
theorem dX3_turn_12 : decode cX3_turn 12 = .ok (.ifCond .eq 16, 3) := dk_153 0 16 (dk_at dksX3_turn_0 12 rfl rfl)
theorem dX3_turn_15 : decode cX3_turn 15 = .ok (.aload_n 0, 1) := dk_42 (dk_at dksX3_turn_0 15 rfl rfl)
theorem dX3_turn_16 : decode cX3_turn 16 = .ok (.iload_n 1, 1) := dk_27 (dk_at dksX3_turn_0 16 rfl rfl)
theorem dX3_turn_17 : decode cX3_turn 17 = .ok (.iconst 0, 1) := dk_3 (dk_at dksX3_turn_0 17 rfl rfl)
theorem dX3_turn_18 : decode cX3_turn 18 = .ok (.invokestatic 56, 3) := dk_184 0 56 (dk_at dksX3_turn_0 18 rfl rfl)
theorem dX3_turn_21 : decode cX3_turn 21 = .ok (.iload_n 2, 1) := dk_28 (dk_at dksX3_turn_0 21 rfl rfl)
theorem dX3_turn_22 : decode cX3_turn 22 = .ok (.invokevirtual 71, 3) := dk_182 0 71 (dk_at dksX3_turn_1 0 rfl rfl)
theorem dX3_turn_25 : decode cX3_turn 25 = .ok (.goto 9, 3) := dk_167 0 9 (dk_at dksX3_turn_1 3 rfl rfl)
theorem dX3_turn_28 : decode cX3_turn 28 = .ok (.aload_n 0, 1) := dk_42 (dk_at dksX3_turn_1 6 rfl rfl)
theorem dX3_turn_29 : decode cX3_turn 29 = .ok (.ldc 45, 2) := dk_18 45 (dk_at dksX3_turn_1 7 rfl rfl)
theorem dX3_turn_31 : decode cX3_turn 31 = .ok (.invokevirtual 74, 3) := dk_182 0 74 (dk_at dksX3_turn_1 9 rfl rfl)
theorem dX3_turn_34 : decode cX3_turn 34 = .ok (.ireturn, 1) := dk_172 (dk_at dksX3_turn_1 12 rfl rfl)
abbrev cX3_as : ByteArray := prog_17_method_32_code
def yX3_as : MethodName := ⟨RX3, "as", "(II)I"⟩
def dkwX3_as_2 : List UInt8 := [182, 0, 74, 172]
abbrev dktX3_as_2 : List UInt8 := dkwX3_as_2 ++ []
def dkwX3_as_1 : List UInt8 := [3, 182, 0, 78, 28, 184, 0, 117, 153, 0, 12, 42, 27, 5, 182, 0, 78, 167, 0, 9, 42, 18, 121]
abbrev dktX3_as_1 : List UInt8 := dkwX3_as_1 ++ dktX3_as_2
def dkwX3_as_0 : List UInt8 := [42, 27, 182, 0, 106, 153, 0, 10, 28, 184, 0, 96, 154, 0, 10, 42, 18, 45, 182, 0, 74, 172, 42, 27]
abbrev dktX3_as_0 : List UInt8 := dkwX3_as_0 ++ dktX3_as_1
theorem dksX3_as_0 : cX3_as.data.toList.drop 0 = dktX3_as_0 := by decide +kernel
theorem dksX3_as_1 : cX3_as.data.toList.drop 24 = dktX3_as_1 := dk_seg dksX3_as_0 24 rfl rfl
theorem dksX3_as_2 : cX3_as.data.toList.drop 47 = dktX3_as_2 := dk_seg dksX3_as_1 23 rfl rfl
theorem dX3_as_0 : decode cX3_as 0 = .ok (.aload_n 0, 1) := dk_42 (dk_at dksX3_as_0 0 rfl rfl)
theorem dX3_as_1 : decode cX3_as 1 = .ok (.iload_n 1, 1) := dk_27 (dk_at dksX3_as_0 1 rfl rfl)
theorem dX3_as_2 : decode cX3_as 2 = .ok (.invokevirtual 106, 3) := dk_182 0 106 (dk_at dksX3_as_0 2 rfl rfl)
theorem dX3_as_5 : decode cX3_as 5 = .ok (.ifCond .eq 10, 3) := dk_153 0 10 (dk_at dksX3_as_0 5 rfl rfl)
theorem dX3_as_8 : decode cX3_as 8 = .ok (.iload_n 2, 1) := dk_28 (dk_at dksX3_as_0 8 rfl rfl)
theorem dX3_as_9 : decode cX3_as 9 = .ok (.invokestatic 96, 3) := dk_184 0 96 (dk_at dksX3_as_0 9 rfl rfl)
theorem dX3_as_12 : decode cX3_as 12 = .ok (.ifCond .ne 10, 3) := dk_154 0 10 (dk_at dksX3_as_0 12 rfl rfl)
theorem dX3_as_15 : decode cX3_as 15 = .ok (.aload_n 0, 1) := dk_42 (dk_at dksX3_as_0 15 rfl rfl)
theorem dX3_as_16 : decode cX3_as 16 = .ok (.ldc 45, 2) := dk_18 45 (dk_at dksX3_as_0 16 rfl rfl)
theorem dX3_as_18 : decode cX3_as 18 = .ok (.invokevirtual 74, 3) := dk_182 0 74 (dk_at dksX3_as_0 18 rfl rfl)
theorem dX3_as_21 : decode cX3_as 21 = .ok (.ireturn, 1) := dk_172 (dk_at dksX3_as_0 21 rfl rfl)
theorem dX3_as_22 : decode cX3_as 22 = .ok (.aload_n 0, 1) := dk_42 (dk_at dksX3_as_0 22 rfl rfl)
theorem dX3_as_23 : decode cX3_as 23 = .ok (.iload_n 1, 1) := dk_27 (dk_at dksX3_as_0 23 rfl rfl)
theorem dX3_as_24 : decode cX3_as 24 = .ok (.iconst 0, 1) := dk_3 (dk_at dksX3_as_1 0 rfl rfl)
theorem dX3_as_25 : decode cX3_as 25 = .ok (.invokevirtual 78, 3) := dk_182 0 78 (dk_at dksX3_as_1 1 rfl rfl)
theorem dX3_as_28 : decode cX3_as 28 = .ok (.iload_n 2, 1) := dk_28 (dk_at dksX3_as_1 4 rfl rfl)
theorem dX3_as_29 : decode cX3_as 29 = .ok (.invokestatic 117, 3) := dk_184 0 117 (dk_at dksX3_as_1 5 rfl rfl)
theorem dX3_as_32 : decode cX3_as 32 = .ok (.ifCond .eq 12, 3) := dk_153 0 12 (dk_at dksX3_as_1 8 rfl rfl)
theorem dX3_as_35 : decode cX3_as 35 = .ok (.aload_n 0, 1) := dk_42 (dk_at dksX3_as_1 11 rfl rfl)
theorem dX3_as_36 : decode cX3_as 36 = .ok (.iload_n 1, 1) := dk_27 (dk_at dksX3_as_1 12 rfl rfl)
theorem dX3_as_37 : decode cX3_as 37 = .ok (.iconst 2, 1) := dk_5 (dk_at dksX3_as_1 13 rfl rfl)
theorem dX3_as_38 : decode cX3_as 38 = .ok (.invokevirtual 78, 3) := dk_182 0 78 (dk_at dksX3_as_1 14 rfl rfl)
theorem dX3_as_41 : decode cX3_as 41 = .ok (.goto 9, 3) := dk_167 0 9 (dk_at dksX3_as_1 17 rfl rfl)
theorem dX3_as_44 : decode cX3_as 44 = .ok (.aload_n 0, 1) := dk_42 (dk_at dksX3_as_1 20 rfl rfl)
theorem dX3_as_45 : decode cX3_as 45 = .ok (.ldc 121, 2) := dk_18 121 (dk_at dksX3_as_1 21 rfl rfl)
theorem dX3_as_47 : decode cX3_as 47 = .ok (.invokevirtual 74, 3) := dk_182 0 74 (dk_at dksX3_as_2 0 rfl rfl)
theorem dX3_as_50 : decode cX3_as 50 = .ok (.ireturn, 1) := dk_172 (dk_at dksX3_as_2 3 rfl rfl)
abbrev cX3_isUnder : ByteArray := prog_17_method_31_code
def yX3_isUnder : MethodName := ⟨RX3, "isUnder", "(II)Z"⟩
def dkwX3_isUnder_1 : List UInt8 := [167, 0, 4, 3, 172]
abbrev dktX3_isUnder_1 : List UInt8 := dkwX3_isUnder_1 ++ []
def dkwX3_isUnder_0 : List UInt8 := [27, 153, 0, 20, 26, 27, 159, 0, 15, 26, 6, 164, 0, 14, 26, 6, 100, 27, 160, 0, 7, 4]
abbrev dktX3_isUnder_0 : List UInt8 := dkwX3_isUnder_0 ++ dktX3_isUnder_1
theorem dksX3_isUnder_0 : cX3_isUnder.data.toList.drop 0 = dktX3_isUnder_0 := by decide +kernel
theorem dksX3_isUnder_1 : cX3_isUnder.data.toList.drop 22 = dktX3_isUnder_1 := dk_seg dksX3_isUnder_0 22 rfl rfl
theorem dX3_isUnder_0 : decode cX3_isUnder 0 = .ok (.iload_n 1, 1) := dk_27 (dk_at dksX3_isUnder_0 0 rfl rfl)
theorem dX3_isUnder_1 : decode cX3_isUnder 1 = .ok (.ifCond .eq 20, 3) := dk_153 0 20 (dk_at dksX3_isUnder_0 1 rfl rfl)
theorem dX3_isUnder_4 : decode cX3_isUnder 4 = .ok (.iload_n 0, 1) := dk_26 (dk_at dksX3_isUnder_0 4 rfl rfl)
theorem dX3_isUnder_5 : decode cX3_isUnder 5 = .ok (.iload_n 1, 1) := dk_27 (dk_at dksX3_isUnder_0 5 rfl rfl)
theorem dX3_isUnder_6 : decode cX3_isUnder 6 = .ok (.if_icmp .eq 15, 3) := dk_159 0 15 (dk_at dksX3_isUnder_0 6 rfl rfl)
theorem dX3_isUnder_9 : decode cX3_isUnder 9 = .ok (.iload_n 0, 1) := dk_26 (dk_at dksX3_isUnder_0 9 rfl rfl)
theorem dX3_isUnder_10 : decode cX3_isUnder 10 = .ok (.iconst 3, 1) := dk_6 (dk_at dksX3_isUnder_0 10 rfl rfl)
theorem dX3_isUnder_11 : decode cX3_isUnder 11 = .ok (.if_icmp .le 14, 3) := dk_164 0 14 (dk_at dksX3_isUnder_0 11 rfl rfl)
theorem dX3_isUnder_14 : decode cX3_isUnder 14 = .ok (.iload_n 0, 1) := dk_26 (dk_at dksX3_isUnder_0 14 rfl rfl)
theorem dX3_isUnder_15 : decode cX3_isUnder 15 = .ok (.iconst 3, 1) := dk_6 (dk_at dksX3_isUnder_0 15 rfl rfl)
theorem dX3_isUnder_16 : decode cX3_isUnder 16 = .ok (.isub, 1) := dk_100 (dk_at dksX3_isUnder_0 16 rfl rfl)
theorem dX3_isUnder_17 : decode cX3_isUnder 17 = .ok (.iload_n 1, 1) := dk_27 (dk_at dksX3_isUnder_0 17 rfl rfl)
theorem dX3_isUnder_18 : decode cX3_isUnder 18 = .ok (.if_icmp .ne 7, 3) := dk_160 0 7 (dk_at dksX3_isUnder_0 18 rfl rfl)
theorem dX3_isUnder_21 : decode cX3_isUnder 21 = .ok (.iconst 1, 1) := dk_4 (dk_at dksX3_isUnder_0 21 rfl rfl)
theorem dX3_isUnder_22 : decode cX3_isUnder 22 = .ok (.goto 4, 3) := dk_167 0 4 (dk_at dksX3_isUnder_1 0 rfl rfl)
theorem dX3_isUnder_25 : decode cX3_isUnder 25 = .ok (.iconst 0, 1) := dk_3 (dk_at dksX3_isUnder_1 3 rfl rfl)
theorem dX3_isUnder_26 : decode cX3_isUnder 26 = .ok (.ireturn, 1) := dk_172 (dk_at dksX3_isUnder_1 4 rfl rfl)
abbrev cX3_takes : ByteArray := prog_17_method_35_code
def yX3_takes : MethodName := ⟨RX3, "takes", "(II)I"⟩
def dkwX3_takes_1 : List UInt8 := [28, 182, 0, 128, 153, 0, 7, 4, 167, 0, 4, 3, 172]
abbrev dktX3_takes_1 : List UInt8 := dkwX3_takes_1 ++ []
def dkwX3_takes_0 : List UInt8 := [27, 184, 0, 67, 153, 0, 11, 42, 28, 182, 0, 106, 154, 0, 10, 42, 18, 45, 182, 0, 74, 172, 42, 27]
abbrev dktX3_takes_0 : List UInt8 := dkwX3_takes_0 ++ dktX3_takes_1
theorem dksX3_takes_0 : cX3_takes.data.toList.drop 0 = dktX3_takes_0 := by decide +kernel
theorem dksX3_takes_1 : cX3_takes.data.toList.drop 24 = dktX3_takes_1 := dk_seg dksX3_takes_0 24 rfl rfl
theorem dX3_takes_0 : decode cX3_takes 0 = .ok (.iload_n 1, 1) := dk_27 (dk_at dksX3_takes_0 0 rfl rfl)
theorem dX3_takes_1 : decode cX3_takes 1 = .ok (.invokestatic 67, 3) := dk_184 0 67 (dk_at dksX3_takes_0 1 rfl rfl)
theorem dX3_takes_4 : decode cX3_takes 4 = .ok (.ifCond .eq 11, 3) := dk_153 0 11 (dk_at dksX3_takes_0 4 rfl rfl)
theorem dX3_takes_7 : decode cX3_takes 7 = .ok (.aload_n 0, 1) := dk_42 (dk_at dksX3_takes_0 7 rfl rfl)
theorem dX3_takes_8 : decode cX3_takes 8 = .ok (.iload_n 2, 1) := dk_28 (dk_at dksX3_takes_0 8 rfl rfl)
theorem dX3_takes_9 : decode cX3_takes 9 = .ok (.invokevirtual 106, 3) := dk_182 0 106 (dk_at dksX3_takes_0 9 rfl rfl)
theorem dX3_takes_12 : decode cX3_takes 12 = .ok (.ifCond .ne 10, 3) := dk_154 0 10 (dk_at dksX3_takes_0 12 rfl rfl)
theorem dX3_takes_15 : decode cX3_takes 15 = .ok (.aload_n 0, 1) := dk_42 (dk_at dksX3_takes_0 15 rfl rfl)
theorem dX3_takes_16 : decode cX3_takes 16 = .ok (.ldc 45, 2) := dk_18 45 (dk_at dksX3_takes_0 16 rfl rfl)
theorem dX3_takes_18 : decode cX3_takes 18 = .ok (.invokevirtual 74, 3) := dk_182 0 74 (dk_at dksX3_takes_0 18 rfl rfl)
theorem dX3_takes_21 : decode cX3_takes 21 = .ok (.ireturn, 1) := dk_172 (dk_at dksX3_takes_0 21 rfl rfl)
theorem dX3_takes_22 : decode cX3_takes 22 = .ok (.aload_n 0, 1) := dk_42 (dk_at dksX3_takes_0 22 rfl rfl)
theorem dX3_takes_23 : decode cX3_takes 23 = .ok (.iload_n 1, 1) := dk_27 (dk_at dksX3_takes_0 23 rfl rfl)
theorem dX3_takes_24 : decode cX3_takes 24 = .ok (.iload_n 2, 1) := dk_28 (dk_at dksX3_takes_1 0 rfl rfl)
theorem dX3_takes_25 : decode cX3_takes 25 = .ok (.invokevirtual 128, 3) := dk_182 0 128 (dk_at dksX3_takes_1 1 rfl rfl)
theorem dX3_takes_28 : decode cX3_takes 28 = .ok (.ifCond .eq 7, 3) := dk_153 0 7 (dk_at dksX3_takes_1 4 rfl rfl)
theorem dX3_takes_31 : decode cX3_takes 31 = .ok (.iconst 1, 1) := dk_4 (dk_at dksX3_takes_1 7 rfl rfl)
theorem dX3_takes_32 : decode cX3_takes 32 = .ok (.goto 4, 3) := dk_167 0 4 (dk_at dksX3_takes_1 8 rfl rfl)
theorem dX3_takes_35 : decode cX3_takes 35 = .ok (.iconst 0, 1) := dk_3 (dk_at dksX3_takes_1 11 rfl rfl)
theorem dX3_takes_36 : decode cX3_takes 36 = .ok (.ireturn, 1) := dk_172 (dk_at dksX3_takes_1 12 rfl rfl)
abbrev cX3_isTaken : ByteArray := prog_17_method_34_code
def yX3_isTaken : MethodName := ⟨RX3, "isTaken", "(II)Z"⟩
def dkwX3_isTaken_1 : List UInt8 := [167, 0, 4, 3, 172]
abbrev dktX3_isTaken_1 : List UInt8 := dkwX3_isTaken_1 ++ []
def dkwX3_isTaken_0 : List UInt8 := [42, 27, 182, 0, 125, 153, 0, 21, 42, 27, 5, 182, 0, 84, 42, 28, 182, 0, 109, 161, 0, 7, 4]
abbrev dktX3_isTaken_0 : List UInt8 := dkwX3_isTaken_0 ++ dktX3_isTaken_1
theorem dksX3_isTaken_0 : cX3_isTaken.data.toList.drop 0 = dktX3_isTaken_0 := by decide +kernel
theorem dksX3_isTaken_1 : cX3_isTaken.data.toList.drop 23 = dktX3_isTaken_1 := dk_seg dksX3_isTaken_0 23 rfl rfl
theorem dX3_isTaken_0 : decode cX3_isTaken 0 = .ok (.aload_n 0, 1) := dk_42 (dk_at dksX3_isTaken_0 0 rfl rfl)
theorem dX3_isTaken_1 : decode cX3_isTaken 1 = .ok (.iload_n 1, 1) := dk_27 (dk_at dksX3_isTaken_0 1 rfl rfl)
theorem dX3_isTaken_2 : decode cX3_isTaken 2 = .ok (.invokevirtual 125, 3) := dk_182 0 125 (dk_at dksX3_isTaken_0 2 rfl rfl)
theorem dX3_isTaken_5 : decode cX3_isTaken 5 = .ok (.ifCond .eq 21, 3) := dk_153 0 21 (dk_at dksX3_isTaken_0 5 rfl rfl)
theorem dX3_isTaken_8 : decode cX3_isTaken 8 = .ok (.aload_n 0, 1) := dk_42 (dk_at dksX3_isTaken_0 8 rfl rfl)
theorem dX3_isTaken_9 : decode cX3_isTaken 9 = .ok (.iload_n 1, 1) := dk_27 (dk_at dksX3_isTaken_0 9 rfl rfl)
theorem dX3_isTaken_10 : decode cX3_isTaken 10 = .ok (.iconst 2, 1) := dk_5 (dk_at dksX3_isTaken_0 10 rfl rfl)
theorem dX3_isTaken_11 : decode cX3_isTaken 11 = .ok (.invokevirtual 84, 3) := dk_182 0 84 (dk_at dksX3_isTaken_0 11 rfl rfl)
theorem dX3_isTaken_14 : decode cX3_isTaken 14 = .ok (.aload_n 0, 1) := dk_42 (dk_at dksX3_isTaken_0 14 rfl rfl)
theorem dX3_isTaken_15 : decode cX3_isTaken 15 = .ok (.iload_n 2, 1) := dk_28 (dk_at dksX3_isTaken_0 15 rfl rfl)
theorem dX3_isTaken_16 : decode cX3_isTaken 16 = .ok (.invokevirtual 109, 3) := dk_182 0 109 (dk_at dksX3_isTaken_0 16 rfl rfl)
theorem dX3_isTaken_19 : decode cX3_isTaken 19 = .ok (.if_icmp .lt 7, 3) := dk_161 0 7 (dk_at dksX3_isTaken_0 19 rfl rfl)
theorem dX3_isTaken_22 : decode cX3_isTaken 22 = .ok (.iconst 1, 1) := dk_4 (dk_at dksX3_isTaken_0 22 rfl rfl)
theorem dX3_isTaken_23 : decode cX3_isTaken 23 = .ok (.goto 4, 3) := dk_167 0 4 (dk_at dksX3_isTaken_1 0 rfl rfl)
theorem dX3_isTaken_26 : decode cX3_isTaken 26 = .ok (.iconst 0, 1) := dk_3 (dk_at dksX3_isTaken_1 3 rfl rfl)
theorem dX3_isTaken_27 : decode cX3_isTaken 27 = .ok (.ireturn, 1) := dk_172 (dk_at dksX3_isTaken_1 4 rfl rfl)
abbrev cX3_isFree : ByteArray := prog_17_method_33_code
def yX3_isFree : MethodName := ⟨RX3, "isFree", "(I)Z"⟩
def dkwX3_isFree_0 : List UInt8 := [42, 27, 182, 0, 87, 184, 0, 122, 42, 27, 3, 182, 0, 84, 162, 0, 7, 4, 167, 0, 4, 3, 172]
abbrev dktX3_isFree_0 : List UInt8 := dkwX3_isFree_0 ++ []
theorem dksX3_isFree_0 : cX3_isFree.data.toList.drop 0 = dktX3_isFree_0 := by decide +kernel
theorem dX3_isFree_0 : decode cX3_isFree 0 = .ok (.aload_n 0, 1) := dk_42 (dk_at dksX3_isFree_0 0 rfl rfl)
theorem dX3_isFree_1 : decode cX3_isFree 1 = .ok (.iload_n 1, 1) := dk_27 (dk_at dksX3_isFree_0 1 rfl rfl)
theorem dX3_isFree_2 : decode cX3_isFree 2 = .ok (.invokevirtual 87, 3) := dk_182 0 87 (dk_at dksX3_isFree_0 2 rfl rfl)
theorem dX3_isFree_5 : decode cX3_isFree 5 = .ok (.invokestatic 122, 3) := dk_184 0 122 (dk_at dksX3_isFree_0 5 rfl rfl)
theorem dX3_isFree_8 : decode cX3_isFree 8 = .ok (.aload_n 0, 1) := dk_42 (dk_at dksX3_isFree_0 8 rfl rfl)
theorem dX3_isFree_9 : decode cX3_isFree 9 = .ok (.iload_n 1, 1) := dk_27 (dk_at dksX3_isFree_0 9 rfl rfl)
theorem dX3_isFree_10 : decode cX3_isFree 10 = .ok (.iconst 0, 1) := dk_3 (dk_at dksX3_isFree_0 10 rfl rfl)
theorem dX3_isFree_11 : decode cX3_isFree 11 = .ok (.invokevirtual 84, 3) := dk_182 0 84 (dk_at dksX3_isFree_0 11 rfl rfl)
theorem dX3_isFree_14 : decode cX3_isFree 14 = .ok (.if_icmp .ge 7, 3) := dk_162 0 7 (dk_at dksX3_isFree_0 14 rfl rfl)
theorem dX3_isFree_17 : decode cX3_isFree 17 = .ok (.iconst 1, 1) := dk_4 (dk_at dksX3_isFree_0 17 rfl rfl)
theorem dX3_isFree_18 : decode cX3_isFree 18 = .ok (.goto 4, 3) := dk_167 0 4 (dk_at dksX3_isFree_0 18 rfl rfl)
theorem dX3_isFree_21 : decode cX3_isFree 21 = .ok (.iconst 0, 1) := dk_3 (dk_at dksX3_isFree_0 21 rfl rfl)
theorem dX3_isFree_22 : decode cX3_isFree 22 = .ok (.ireturn, 1) := dk_172 (dk_at dksX3_isFree_0 22 rfl rfl)
abbrev cX3_ones : ByteArray := prog_17_method_19_code
def yX3_ones : MethodName := ⟨RX3, "ones", "(I)I"⟩
def dkwX3_ones_0 : List UInt8 := [3, 60, 26, 61, 28, 153, 0, 15, 132, 1, 1, 28, 28, 4, 100, 126, 61, 167, 255, 243, 27, 172]
abbrev dktX3_ones_0 : List UInt8 := dkwX3_ones_0 ++ []
theorem dksX3_ones_0 : cX3_ones.data.toList.drop 0 = dktX3_ones_0 := by decide +kernel
theorem dX3_ones_0 : decode cX3_ones 0 = .ok (.iconst 0, 1) := dk_3 (dk_at dksX3_ones_0 0 rfl rfl)
theorem dX3_ones_1 : decode cX3_ones 1 = .ok (.istore_n 1, 1) := dk_60 (dk_at dksX3_ones_0 1 rfl rfl)
theorem dX3_ones_2 : decode cX3_ones 2 = .ok (.iload_n 0, 1) := dk_26 (dk_at dksX3_ones_0 2 rfl rfl)
theorem dX3_ones_3 : decode cX3_ones 3 = .ok (.istore_n 2, 1) := dk_61 (dk_at dksX3_ones_0 3 rfl rfl)
theorem dX3_ones_4 : decode cX3_ones 4 = .ok (.iload_n 2, 1) := dk_28 (dk_at dksX3_ones_0 4 rfl rfl)
theorem dX3_ones_5 : decode cX3_ones 5 = .ok (.ifCond .eq 15, 3) := dk_153 0 15 (dk_at dksX3_ones_0 5 rfl rfl)
theorem dX3_ones_8 : decode cX3_ones 8 = .ok (.iinc 1 1, 3) := dk_132 1 1 (dk_at dksX3_ones_0 8 rfl rfl)
theorem dX3_ones_11 : decode cX3_ones 11 = .ok (.iload_n 2, 1) := dk_28 (dk_at dksX3_ones_0 11 rfl rfl)
theorem dX3_ones_12 : decode cX3_ones 12 = .ok (.iload_n 2, 1) := dk_28 (dk_at dksX3_ones_0 12 rfl rfl)
theorem dX3_ones_13 : decode cX3_ones 13 = .ok (.iconst 1, 1) := dk_4 (dk_at dksX3_ones_0 13 rfl rfl)
theorem dX3_ones_14 : decode cX3_ones 14 = .ok (.isub, 1) := dk_100 (dk_at dksX3_ones_0 14 rfl rfl)
theorem dX3_ones_15 : decode cX3_ones 15 = .ok (.iand, 1) := dk_126 (dk_at dksX3_ones_0 15 rfl rfl)
theorem dX3_ones_16 : decode cX3_ones 16 = .ok (.istore_n 2, 1) := dk_61 (dk_at dksX3_ones_0 16 rfl rfl)
theorem dX3_ones_17 : decode cX3_ones 17 = .ok (.goto (-13), 3) := dk_167 255 243 (dk_at dksX3_ones_0 17 rfl rfl)
theorem dX3_ones_20 : decode cX3_ones 20 = .ok (.iload_n 1, 1) := dk_27 (dk_at dksX3_ones_0 20 rfl rfl)
theorem dX3_ones_21 : decode cX3_ones 21 = .ok (.ireturn, 1) := dk_172 (dk_at dksX3_ones_0 21 rfl rfl)
abbrev cX3_comeIn : ByteArray := prog_17_method_38_code
def yX3_comeIn : MethodName := ⟨RX3, "comeIn", "(I)I"⟩
def dkwX3_comeIn_2 : List UInt8 := [180, 0, 7, 27, 7, 184, 0, 56, 42, 27, 182, 0, 135, 79, 42, 27, 7, 182, 0, 78, 172]
abbrev dktX3_comeIn_2 : List UInt8 := dkwX3_comeIn_2 ++ []
def dkwX3_comeIn_1 : List UInt8 := [160, 0, 16, 42, 42, 27, 4, 182, 0, 78, 182, 0, 131, 153, 0, 10, 42, 18, 134, 182, 0, 74, 172, 42]
abbrev dktX3_comeIn_1 : List UInt8 := dkwX3_comeIn_1 ++ dktX3_comeIn_2
def dkwX3_comeIn_0 : List UInt8 := [42, 27, 182, 0, 106, 154, 0, 10, 42, 18, 45, 182, 0, 74, 172, 42, 27, 7, 182, 0, 78, 2]
abbrev dktX3_comeIn_0 : List UInt8 := dkwX3_comeIn_0 ++ dktX3_comeIn_1
theorem dksX3_comeIn_0 : cX3_comeIn.data.toList.drop 0 = dktX3_comeIn_0 := by decide +kernel
theorem dksX3_comeIn_1 : cX3_comeIn.data.toList.drop 22 = dktX3_comeIn_1 := dk_seg dksX3_comeIn_0 22 rfl rfl
theorem dksX3_comeIn_2 : cX3_comeIn.data.toList.drop 46 = dktX3_comeIn_2 := dk_seg dksX3_comeIn_1 24 rfl rfl
theorem dX3_comeIn_0 : decode cX3_comeIn 0 = .ok (.aload_n 0, 1) := dk_42 (dk_at dksX3_comeIn_0 0 rfl rfl)
theorem dX3_comeIn_1 : decode cX3_comeIn 1 = .ok (.iload_n 1, 1) := dk_27 (dk_at dksX3_comeIn_0 1 rfl rfl)
theorem dX3_comeIn_2 : decode cX3_comeIn 2 = .ok (.invokevirtual 106, 3) := dk_182 0 106 (dk_at dksX3_comeIn_0 2 rfl rfl)
theorem dX3_comeIn_5 : decode cX3_comeIn 5 = .ok (.ifCond .ne 10, 3) := dk_154 0 10 (dk_at dksX3_comeIn_0 5 rfl rfl)
theorem dX3_comeIn_8 : decode cX3_comeIn 8 = .ok (.aload_n 0, 1) := dk_42 (dk_at dksX3_comeIn_0 8 rfl rfl)
theorem dX3_comeIn_9 : decode cX3_comeIn 9 = .ok (.ldc 45, 2) := dk_18 45 (dk_at dksX3_comeIn_0 9 rfl rfl)
theorem dX3_comeIn_11 : decode cX3_comeIn 11 = .ok (.invokevirtual 74, 3) := dk_182 0 74 (dk_at dksX3_comeIn_0 11 rfl rfl)
theorem dX3_comeIn_14 : decode cX3_comeIn 14 = .ok (.ireturn, 1) := dk_172 (dk_at dksX3_comeIn_0 14 rfl rfl)
theorem dX3_comeIn_15 : decode cX3_comeIn 15 = .ok (.aload_n 0, 1) := dk_42 (dk_at dksX3_comeIn_0 15 rfl rfl)
theorem dX3_comeIn_16 : decode cX3_comeIn 16 = .ok (.iload_n 1, 1) := dk_27 (dk_at dksX3_comeIn_0 16 rfl rfl)
theorem dX3_comeIn_17 : decode cX3_comeIn 17 = .ok (.iconst 4, 1) := dk_7 (dk_at dksX3_comeIn_0 17 rfl rfl)
theorem dX3_comeIn_18 : decode cX3_comeIn 18 = .ok (.invokevirtual 78, 3) := dk_182 0 78 (dk_at dksX3_comeIn_0 18 rfl rfl)
theorem dX3_comeIn_21 : decode cX3_comeIn 21 = .ok (.iconst (-1), 1) := dk_2 (dk_at dksX3_comeIn_0 21 rfl rfl)
theorem dX3_comeIn_22 : decode cX3_comeIn 22 = .ok (.if_icmp .ne 16, 3) := dk_160 0 16 (dk_at dksX3_comeIn_1 0 rfl rfl)
theorem dX3_comeIn_25 : decode cX3_comeIn 25 = .ok (.aload_n 0, 1) := dk_42 (dk_at dksX3_comeIn_1 3 rfl rfl)
theorem dX3_comeIn_26 : decode cX3_comeIn 26 = .ok (.aload_n 0, 1) := dk_42 (dk_at dksX3_comeIn_1 4 rfl rfl)
theorem dX3_comeIn_27 : decode cX3_comeIn 27 = .ok (.iload_n 1, 1) := dk_27 (dk_at dksX3_comeIn_1 5 rfl rfl)
theorem dX3_comeIn_28 : decode cX3_comeIn 28 = .ok (.iconst 1, 1) := dk_4 (dk_at dksX3_comeIn_1 6 rfl rfl)
theorem dX3_comeIn_29 : decode cX3_comeIn 29 = .ok (.invokevirtual 78, 3) := dk_182 0 78 (dk_at dksX3_comeIn_1 7 rfl rfl)
theorem dX3_comeIn_32 : decode cX3_comeIn 32 = .ok (.invokevirtual 131, 3) := dk_182 0 131 (dk_at dksX3_comeIn_1 10 rfl rfl)
theorem dX3_comeIn_35 : decode cX3_comeIn 35 = .ok (.ifCond .eq 10, 3) := dk_153 0 10 (dk_at dksX3_comeIn_1 13 rfl rfl)
theorem dX3_comeIn_38 : decode cX3_comeIn 38 = .ok (.aload_n 0, 1) := dk_42 (dk_at dksX3_comeIn_1 16 rfl rfl)
theorem dX3_comeIn_39 : decode cX3_comeIn 39 = .ok (.ldc 134, 2) := dk_18 134 (dk_at dksX3_comeIn_1 17 rfl rfl)
theorem dX3_comeIn_41 : decode cX3_comeIn 41 = .ok (.invokevirtual 74, 3) := dk_182 0 74 (dk_at dksX3_comeIn_1 19 rfl rfl)
theorem dX3_comeIn_44 : decode cX3_comeIn 44 = .ok (.ireturn, 1) := dk_172 (dk_at dksX3_comeIn_1 22 rfl rfl)
theorem dX3_comeIn_45 : decode cX3_comeIn 45 = .ok (.aload_n 0, 1) := dk_42 (dk_at dksX3_comeIn_1 23 rfl rfl)
theorem dX3_comeIn_46 : decode cX3_comeIn 46 = .ok (.getfield 7, 3) := dk_180 0 7 (dk_at dksX3_comeIn_2 0 rfl rfl)
theorem dX3_comeIn_49 : decode cX3_comeIn 49 = .ok (.iload_n 1, 1) := dk_27 (dk_at dksX3_comeIn_2 3 rfl rfl)
theorem dX3_comeIn_50 : decode cX3_comeIn 50 = .ok (.iconst 4, 1) := dk_7 (dk_at dksX3_comeIn_2 4 rfl rfl)
theorem dX3_comeIn_51 : decode cX3_comeIn 51 = .ok (.invokestatic 56, 3) := dk_184 0 56 (dk_at dksX3_comeIn_2 5 rfl rfl)
theorem dX3_comeIn_54 : decode cX3_comeIn 54 = .ok (.aload_n 0, 1) := dk_42 (dk_at dksX3_comeIn_2 8 rfl rfl)
theorem dX3_comeIn_55 : decode cX3_comeIn 55 = .ok (.iload_n 1, 1) := dk_27 (dk_at dksX3_comeIn_2 9 rfl rfl)
theorem dX3_comeIn_56 : decode cX3_comeIn 56 = .ok (.invokevirtual 135, 3) := dk_182 0 135 (dk_at dksX3_comeIn_2 10 rfl rfl)
theorem dX3_comeIn_59 : decode cX3_comeIn 59 = .ok (.iastore, 1) := dk_79 (dk_at dksX3_comeIn_2 13 rfl rfl)
theorem dX3_comeIn_60 : decode cX3_comeIn 60 = .ok (.aload_n 0, 1) := dk_42 (dk_at dksX3_comeIn_2 14 rfl rfl)
theorem dX3_comeIn_61 : decode cX3_comeIn 61 = .ok (.iload_n 1, 1) := dk_27 (dk_at dksX3_comeIn_2 15 rfl rfl)
theorem dX3_comeIn_62 : decode cX3_comeIn 62 = .ok (.iconst 4, 1) := dk_7 (dk_at dksX3_comeIn_2 16 rfl rfl)
theorem dX3_comeIn_63 : decode cX3_comeIn 63 = .ok (.invokevirtual 78, 3) := dk_182 0 78 (dk_at dksX3_comeIn_2 17 rfl rfl)
theorem dX3_comeIn_66 : decode cX3_comeIn 66 = .ok (.ireturn, 1) := dk_172 (dk_at dksX3_comeIn_2 20 rfl rfl)
abbrev cX3_isTrue : ByteArray := prog_17_method_36_code
def yX3_isTrue : MethodName := ⟨RX3, "isTrue", "(I)Z"⟩
def dkwX3_isTrue_0 : List UInt8 := [42, 180, 0, 7, 5, 46, 27, 122, 4, 126, 4, 160, 0, 7, 4, 167, 0, 4, 3, 172]
abbrev dktX3_isTrue_0 : List UInt8 := dkwX3_isTrue_0 ++ []
theorem dksX3_isTrue_0 : cX3_isTrue.data.toList.drop 0 = dktX3_isTrue_0 := by decide +kernel
theorem dX3_isTrue_0 : decode cX3_isTrue 0 = .ok (.aload_n 0, 1) := dk_42 (dk_at dksX3_isTrue_0 0 rfl rfl)
theorem dX3_isTrue_1 : decode cX3_isTrue 1 = .ok (.getfield 7, 3) := dk_180 0 7 (dk_at dksX3_isTrue_0 1 rfl rfl)
theorem dX3_isTrue_4 : decode cX3_isTrue 4 = .ok (.iconst 2, 1) := dk_5 (dk_at dksX3_isTrue_0 4 rfl rfl)
theorem dX3_isTrue_5 : decode cX3_isTrue 5 = .ok (.iaload, 1) := dk_46 (dk_at dksX3_isTrue_0 5 rfl rfl)
theorem dX3_isTrue_6 : decode cX3_isTrue 6 = .ok (.iload_n 1, 1) := dk_27 (dk_at dksX3_isTrue_0 6 rfl rfl)
theorem dX3_isTrue_7 : decode cX3_isTrue 7 = .ok (.ishr, 1) := dk_122 (dk_at dksX3_isTrue_0 7 rfl rfl)
theorem dX3_isTrue_8 : decode cX3_isTrue 8 = .ok (.iconst 1, 1) := dk_4 (dk_at dksX3_isTrue_0 8 rfl rfl)
theorem dX3_isTrue_9 : decode cX3_isTrue 9 = .ok (.iand, 1) := dk_126 (dk_at dksX3_isTrue_0 9 rfl rfl)
theorem dX3_isTrue_10 : decode cX3_isTrue 10 = .ok (.iconst 1, 1) := dk_4 (dk_at dksX3_isTrue_0 10 rfl rfl)
theorem dX3_isTrue_11 : decode cX3_isTrue 11 = .ok (.if_icmp .ne 7, 3) := dk_160 0 7 (dk_at dksX3_isTrue_0 11 rfl rfl)
theorem dX3_isTrue_14 : decode cX3_isTrue 14 = .ok (.iconst 1, 1) := dk_4 (dk_at dksX3_isTrue_0 14 rfl rfl)
theorem dX3_isTrue_15 : decode cX3_isTrue 15 = .ok (.goto 4, 3) := dk_167 0 4 (dk_at dksX3_isTrue_0 15 rfl rfl)
theorem dX3_isTrue_18 : decode cX3_isTrue 18 = .ok (.iconst 0, 1) := dk_3 (dk_at dksX3_isTrue_0 18 rfl rfl)
theorem dX3_isTrue_19 : decode cX3_isTrue 19 = .ok (.ireturn, 1) := dk_172 (dk_at dksX3_isTrue_0 19 rfl rfl)
abbrev cX3_hostOf : ByteArray := prog_17_method_37_code
def yX3_hostOf : MethodName := ⟨RX3, "hostOf", "(I)I"⟩
def dkwX3_hostOf_2 : List UInt8 := [167, 255, 212, 28, 172]
abbrev dktX3_hostOf_2 : List UInt8 := dkwX3_hostOf_2 ++ []
def dkwX3_hostOf_1 : List UInt8 := [42, 29, 5, 182, 0, 84, 42, 28, 5, 182, 0, 84, 164, 0, 7, 29, 167, 0, 4, 28, 61, 132, 3, 1]
abbrev dktX3_hostOf_1 : List UInt8 := dkwX3_hostOf_1 ++ dktX3_hostOf_2
def dkwX3_hostOf_0 : List UInt8 := [2, 61, 3, 62, 29, 16, 8, 162, 0, 44, 42, 29, 27, 182, 0, 128, 153, 0, 27, 28, 2, 159, 0, 18]
abbrev dktX3_hostOf_0 : List UInt8 := dkwX3_hostOf_0 ++ dktX3_hostOf_1
theorem dksX3_hostOf_0 : cX3_hostOf.data.toList.drop 0 = dktX3_hostOf_0 := by decide +kernel
theorem dksX3_hostOf_1 : cX3_hostOf.data.toList.drop 24 = dktX3_hostOf_1 := dk_seg dksX3_hostOf_0 24 rfl rfl
theorem dksX3_hostOf_2 : cX3_hostOf.data.toList.drop 48 = dktX3_hostOf_2 := dk_seg dksX3_hostOf_1 24 rfl rfl
theorem dX3_hostOf_0 : decode cX3_hostOf 0 = .ok (.iconst (-1), 1) := dk_2 (dk_at dksX3_hostOf_0 0 rfl rfl)
theorem dX3_hostOf_1 : decode cX3_hostOf 1 = .ok (.istore_n 2, 1) := dk_61 (dk_at dksX3_hostOf_0 1 rfl rfl)
theorem dX3_hostOf_2 : decode cX3_hostOf 2 = .ok (.iconst 0, 1) := dk_3 (dk_at dksX3_hostOf_0 2 rfl rfl)
theorem dX3_hostOf_3 : decode cX3_hostOf 3 = .ok (.istore_n 3, 1) := dk_62 (dk_at dksX3_hostOf_0 3 rfl rfl)
theorem dX3_hostOf_4 : decode cX3_hostOf 4 = .ok (.iload_n 3, 1) := dk_29 (dk_at dksX3_hostOf_0 4 rfl rfl)
theorem dX3_hostOf_5 : decode cX3_hostOf 5 = .ok (.bipush 8, 2) := dk_16 8 (dk_at dksX3_hostOf_0 5 rfl rfl)
theorem dX3_hostOf_7 : decode cX3_hostOf 7 = .ok (.if_icmp .ge 44, 3) := dk_162 0 44 (dk_at dksX3_hostOf_0 7 rfl rfl)
theorem dX3_hostOf_10 : decode cX3_hostOf 10 = .ok (.aload_n 0, 1) := dk_42 (dk_at dksX3_hostOf_0 10 rfl rfl)
theorem dX3_hostOf_11 : decode cX3_hostOf 11 = .ok (.iload_n 3, 1) := dk_29 (dk_at dksX3_hostOf_0 11 rfl rfl)
theorem dX3_hostOf_12 : decode cX3_hostOf 12 = .ok (.iload_n 1, 1) := dk_27 (dk_at dksX3_hostOf_0 12 rfl rfl)
theorem dX3_hostOf_13 : decode cX3_hostOf 13 = .ok (.invokevirtual 128, 3) := dk_182 0 128 (dk_at dksX3_hostOf_0 13 rfl rfl)
theorem dX3_hostOf_16 : decode cX3_hostOf 16 = .ok (.ifCond .eq 27, 3) := dk_153 0 27 (dk_at dksX3_hostOf_0 16 rfl rfl)
theorem dX3_hostOf_19 : decode cX3_hostOf 19 = .ok (.iload_n 2, 1) := dk_28 (dk_at dksX3_hostOf_0 19 rfl rfl)
theorem dX3_hostOf_20 : decode cX3_hostOf 20 = .ok (.iconst (-1), 1) := dk_2 (dk_at dksX3_hostOf_0 20 rfl rfl)
theorem dX3_hostOf_21 : decode cX3_hostOf 21 = .ok (.if_icmp .eq 18, 3) := dk_159 0 18 (dk_at dksX3_hostOf_0 21 rfl rfl)
theorem dX3_hostOf_24 : decode cX3_hostOf 24 = .ok (.aload_n 0, 1) := dk_42 (dk_at dksX3_hostOf_1 0 rfl rfl)
theorem dX3_hostOf_25 : decode cX3_hostOf 25 = .ok (.iload_n 3, 1) := dk_29 (dk_at dksX3_hostOf_1 1 rfl rfl)
theorem dX3_hostOf_26 : decode cX3_hostOf 26 = .ok (.iconst 2, 1) := dk_5 (dk_at dksX3_hostOf_1 2 rfl rfl)
theorem dX3_hostOf_27 : decode cX3_hostOf 27 = .ok (.invokevirtual 84, 3) := dk_182 0 84 (dk_at dksX3_hostOf_1 3 rfl rfl)
theorem dX3_hostOf_30 : decode cX3_hostOf 30 = .ok (.aload_n 0, 1) := dk_42 (dk_at dksX3_hostOf_1 6 rfl rfl)
theorem dX3_hostOf_31 : decode cX3_hostOf 31 = .ok (.iload_n 2, 1) := dk_28 (dk_at dksX3_hostOf_1 7 rfl rfl)
theorem dX3_hostOf_32 : decode cX3_hostOf 32 = .ok (.iconst 2, 1) := dk_5 (dk_at dksX3_hostOf_1 8 rfl rfl)
theorem dX3_hostOf_33 : decode cX3_hostOf 33 = .ok (.invokevirtual 84, 3) := dk_182 0 84 (dk_at dksX3_hostOf_1 9 rfl rfl)
theorem dX3_hostOf_36 : decode cX3_hostOf 36 = .ok (.if_icmp .le 7, 3) := dk_164 0 7 (dk_at dksX3_hostOf_1 12 rfl rfl)
theorem dX3_hostOf_39 : decode cX3_hostOf 39 = .ok (.iload_n 3, 1) := dk_29 (dk_at dksX3_hostOf_1 15 rfl rfl)
theorem dX3_hostOf_40 : decode cX3_hostOf 40 = .ok (.goto 4, 3) := dk_167 0 4 (dk_at dksX3_hostOf_1 16 rfl rfl)
theorem dX3_hostOf_43 : decode cX3_hostOf 43 = .ok (.iload_n 2, 1) := dk_28 (dk_at dksX3_hostOf_1 19 rfl rfl)
theorem dX3_hostOf_44 : decode cX3_hostOf 44 = .ok (.istore_n 2, 1) := dk_61 (dk_at dksX3_hostOf_1 20 rfl rfl)
theorem dX3_hostOf_45 : decode cX3_hostOf 45 = .ok (.iinc 3 1, 3) := dk_132 3 1 (dk_at dksX3_hostOf_1 21 rfl rfl)
theorem dX3_hostOf_48 : decode cX3_hostOf 48 = .ok (.goto (-44), 3) := dk_167 255 212 (dk_at dksX3_hostOf_2 0 rfl rfl)
theorem dX3_hostOf_51 : decode cX3_hostOf 51 = .ok (.iload_n 2, 1) := dk_28 (dk_at dksX3_hostOf_2 3 rfl rfl)
theorem dX3_hostOf_52 : decode cX3_hostOf 52 = .ok (.ireturn, 1) := dk_172 (dk_at dksX3_hostOf_2 4 rfl rfl)
abbrev cX3_improve : ByteArray := prog_17_method_41_code
def yX3_improve : MethodName := ⟨RX3, "improve", "(II)I"⟩
def dkwX3_improve_2 : List UInt8 := [182, 0, 143, 42, 27, 7, 182, 0, 78, 172]
abbrev dktX3_improve_2 : List UInt8 := dkwX3_improve_2 ++ []
def dkwX3_improve_1 : List UInt8 := [182, 0, 74, 172, 42, 27, 7, 182, 0, 78, 2, 160, 0, 10, 42, 18, 134, 182, 0, 74, 172, 42, 27, 28]
abbrev dktX3_improve_1 : List UInt8 := dkwX3_improve_1 ++ dktX3_improve_2
def dkwX3_improve_0 : List UInt8 := [42, 27, 182, 0, 106, 153, 0, 15, 28, 133, 10, 20, 0, 141, 184, 0, 48, 154, 0, 10, 42, 18, 45]
abbrev dktX3_improve_0 : List UInt8 := dkwX3_improve_0 ++ dktX3_improve_1
theorem dksX3_improve_0 : cX3_improve.data.toList.drop 0 = dktX3_improve_0 := by decide +kernel
theorem dksX3_improve_1 : cX3_improve.data.toList.drop 23 = dktX3_improve_1 := dk_seg dksX3_improve_0 23 rfl rfl
theorem dksX3_improve_2 : cX3_improve.data.toList.drop 47 = dktX3_improve_2 := dk_seg dksX3_improve_1 24 rfl rfl
theorem dX3_improve_0 : decode cX3_improve 0 = .ok (.aload_n 0, 1) := dk_42 (dk_at dksX3_improve_0 0 rfl rfl)
theorem dX3_improve_1 : decode cX3_improve 1 = .ok (.iload_n 1, 1) := dk_27 (dk_at dksX3_improve_0 1 rfl rfl)
theorem dX3_improve_2 : decode cX3_improve 2 = .ok (.invokevirtual 106, 3) := dk_182 0 106 (dk_at dksX3_improve_0 2 rfl rfl)
theorem dX3_improve_5 : decode cX3_improve 5 = .ok (.ifCond .eq 15, 3) := dk_153 0 15 (dk_at dksX3_improve_0 5 rfl rfl)
theorem dX3_improve_8 : decode cX3_improve 8 = .ok (.iload_n 2, 1) := dk_28 (dk_at dksX3_improve_0 8 rfl rfl)
theorem dX3_improve_9 : decode cX3_improve 9 = .ok (.i2l, 1) := dk_133 (dk_at dksX3_improve_0 9 rfl rfl)
theorem dX3_improve_10 : decode cX3_improve 10 = .ok (.lconst 1, 1) := dk_10 (dk_at dksX3_improve_0 10 rfl rfl)
theorem dX3_improve_11 : decode cX3_improve 11 = .ok (.ldc2_w 141, 3) := dk_20 0 141 (dk_at dksX3_improve_0 11 rfl rfl)
theorem dX3_improve_14 : decode cX3_improve 14 = .ok (.invokestatic 48, 3) := dk_184 0 48 (dk_at dksX3_improve_0 14 rfl rfl)
theorem dX3_improve_17 : decode cX3_improve 17 = .ok (.ifCond .ne 10, 3) := dk_154 0 10 (dk_at dksX3_improve_0 17 rfl rfl)
theorem dX3_improve_20 : decode cX3_improve 20 = .ok (.aload_n 0, 1) := dk_42 (dk_at dksX3_improve_0 20 rfl rfl)
theorem dX3_improve_21 : decode cX3_improve 21 = .ok (.ldc 45, 2) := dk_18 45 (dk_at dksX3_improve_0 21 rfl rfl)
theorem dX3_improve_23 : decode cX3_improve 23 = .ok (.invokevirtual 74, 3) := dk_182 0 74 (dk_at dksX3_improve_1 0 rfl rfl)
theorem dX3_improve_26 : decode cX3_improve 26 = .ok (.ireturn, 1) := dk_172 (dk_at dksX3_improve_1 3 rfl rfl)
theorem dX3_improve_27 : decode cX3_improve 27 = .ok (.aload_n 0, 1) := dk_42 (dk_at dksX3_improve_1 4 rfl rfl)
theorem dX3_improve_28 : decode cX3_improve 28 = .ok (.iload_n 1, 1) := dk_27 (dk_at dksX3_improve_1 5 rfl rfl)
theorem dX3_improve_29 : decode cX3_improve 29 = .ok (.iconst 4, 1) := dk_7 (dk_at dksX3_improve_1 6 rfl rfl)
theorem dX3_improve_30 : decode cX3_improve 30 = .ok (.invokevirtual 78, 3) := dk_182 0 78 (dk_at dksX3_improve_1 7 rfl rfl)
theorem dX3_improve_33 : decode cX3_improve 33 = .ok (.iconst (-1), 1) := dk_2 (dk_at dksX3_improve_1 10 rfl rfl)
theorem dX3_improve_34 : decode cX3_improve 34 = .ok (.if_icmp .ne 10, 3) := dk_160 0 10 (dk_at dksX3_improve_1 11 rfl rfl)
theorem dX3_improve_37 : decode cX3_improve 37 = .ok (.aload_n 0, 1) := dk_42 (dk_at dksX3_improve_1 14 rfl rfl)
theorem dX3_improve_38 : decode cX3_improve 38 = .ok (.ldc 134, 2) := dk_18 134 (dk_at dksX3_improve_1 15 rfl rfl)
theorem dX3_improve_40 : decode cX3_improve 40 = .ok (.invokevirtual 74, 3) := dk_182 0 74 (dk_at dksX3_improve_1 17 rfl rfl)
theorem dX3_improve_43 : decode cX3_improve 43 = .ok (.ireturn, 1) := dk_172 (dk_at dksX3_improve_1 20 rfl rfl)
theorem dX3_improve_44 : decode cX3_improve 44 = .ok (.aload_n 0, 1) := dk_42 (dk_at dksX3_improve_1 21 rfl rfl)
theorem dX3_improve_45 : decode cX3_improve 45 = .ok (.iload_n 1, 1) := dk_27 (dk_at dksX3_improve_1 22 rfl rfl)
theorem dX3_improve_46 : decode cX3_improve 46 = .ok (.iload_n 2, 1) := dk_28 (dk_at dksX3_improve_1 23 rfl rfl)
theorem dX3_improve_47 : decode cX3_improve 47 = .ok (.invokevirtual 143, 3) := dk_182 0 143 (dk_at dksX3_improve_2 0 rfl rfl)
theorem dX3_improve_50 : decode cX3_improve 50 = .ok (.aload_n 0, 1) := dk_42 (dk_at dksX3_improve_2 3 rfl rfl)
theorem dX3_improve_51 : decode cX3_improve 51 = .ok (.iload_n 1, 1) := dk_27 (dk_at dksX3_improve_2 4 rfl rfl)
theorem dX3_improve_52 : decode cX3_improve 52 = .ok (.iconst 4, 1) := dk_7 (dk_at dksX3_improve_2 5 rfl rfl)
theorem dX3_improve_53 : decode cX3_improve 53 = .ok (.invokevirtual 78, 3) := dk_182 0 78 (dk_at dksX3_improve_2 6 rfl rfl)
theorem dX3_improve_56 : decode cX3_improve 56 = .ok (.ireturn, 1) := dk_172 (dk_at dksX3_improve_2 9 rfl rfl)
abbrev cX3_isImproved : ByteArray := prog_17_method_40_code
def yX3_isImproved : MethodName := ⟨RX3, "isImproved", "(II)V"⟩
def dkwX3_isImproved_3 : List UInt8 := [177, 132, 4, 1, 167, 255, 214, 177]
abbrev dktX3_isImproved_3 : List UInt8 := dkwX3_isImproved_3 ++ []
def dkwX3_isImproved_2 : List UInt8 := [54, 5, 42, 21, 5, 27, 182, 0, 128, 153, 0, 16, 42, 180, 0, 7, 27, 7, 184, 0, 56, 21, 5, 79]
abbrev dktX3_isImproved_2 : List UInt8 := dkwX3_isImproved_2 ++ dktX3_isImproved_3
def dkwX3_isImproved_1 : List UInt8 := [27, 7, 182, 0, 78, 62, 4, 54, 4, 21, 4, 16, 8, 162, 0, 41, 29, 21, 4, 96, 16, 8, 112]
abbrev dktX3_isImproved_1 : List UInt8 := dkwX3_isImproved_1 ++ dktX3_isImproved_2
def dkwX3_isImproved_0 : List UInt8 := [42, 180, 0, 7, 27, 5, 184, 0, 56, 42, 27, 5, 182, 0, 78, 28, 96, 16, 99, 184, 0, 138, 79, 42]
abbrev dktX3_isImproved_0 : List UInt8 := dkwX3_isImproved_0 ++ dktX3_isImproved_1
theorem dksX3_isImproved_0 : cX3_isImproved.data.toList.drop 0 = dktX3_isImproved_0 := by decide +kernel
theorem dksX3_isImproved_1 : cX3_isImproved.data.toList.drop 24 = dktX3_isImproved_1 := dk_seg dksX3_isImproved_0 24 rfl rfl
theorem dksX3_isImproved_2 : cX3_isImproved.data.toList.drop 47 = dktX3_isImproved_2 := dk_seg dksX3_isImproved_1 23 rfl rfl
theorem dksX3_isImproved_3 : cX3_isImproved.data.toList.drop 71 = dktX3_isImproved_3 := dk_seg dksX3_isImproved_2 24 rfl rfl
theorem dX3_isImproved_0 : decode cX3_isImproved 0 = .ok (.aload_n 0, 1) := dk_42 (dk_at dksX3_isImproved_0 0 rfl rfl)
theorem dX3_isImproved_1 : decode cX3_isImproved 1 = .ok (.getfield 7, 3) := dk_180 0 7 (dk_at dksX3_isImproved_0 1 rfl rfl)
theorem dX3_isImproved_4 : decode cX3_isImproved 4 = .ok (.iload_n 1, 1) := dk_27 (dk_at dksX3_isImproved_0 4 rfl rfl)
theorem dX3_isImproved_5 : decode cX3_isImproved 5 = .ok (.iconst 2, 1) := dk_5 (dk_at dksX3_isImproved_0 5 rfl rfl)
theorem dX3_isImproved_6 : decode cX3_isImproved 6 = .ok (.invokestatic 56, 3) := dk_184 0 56 (dk_at dksX3_isImproved_0 6 rfl rfl)
theorem dX3_isImproved_9 : decode cX3_isImproved 9 = .ok (.aload_n 0, 1) := dk_42 (dk_at dksX3_isImproved_0 9 rfl rfl)
theorem dX3_isImproved_10 : decode cX3_isImproved 10 = .ok (.iload_n 1, 1) := dk_27 (dk_at dksX3_isImproved_0 10 rfl rfl)
theorem dX3_isImproved_11 : decode cX3_isImproved 11 = .ok (.iconst 2, 1) := dk_5 (dk_at dksX3_isImproved_0 11 rfl rfl)
theorem dX3_isImproved_12 : decode cX3_isImproved 12 = .ok (.invokevirtual 78, 3) := dk_182 0 78 (dk_at dksX3_isImproved_0 12 rfl rfl)
theorem dX3_isImproved_15 : decode cX3_isImproved 15 = .ok (.iload_n 2, 1) := dk_28 (dk_at dksX3_isImproved_0 15 rfl rfl)
theorem dX3_isImproved_16 : decode cX3_isImproved 16 = .ok (.iadd, 1) := dk_96 (dk_at dksX3_isImproved_0 16 rfl rfl)
theorem dX3_isImproved_17 : decode cX3_isImproved 17 = .ok (.bipush 99, 2) := dk_16 99 (dk_at dksX3_isImproved_0 17 rfl rfl)
theorem dX3_isImproved_19 : decode cX3_isImproved 19 = .ok (.invokestatic 138, 3) := dk_184 0 138 (dk_at dksX3_isImproved_0 19 rfl rfl)
theorem dX3_isImproved_22 : decode cX3_isImproved 22 = .ok (.iastore, 1) := dk_79 (dk_at dksX3_isImproved_0 22 rfl rfl)
theorem dX3_isImproved_23 : decode cX3_isImproved 23 = .ok (.aload_n 0, 1) := dk_42 (dk_at dksX3_isImproved_0 23 rfl rfl)
theorem dX3_isImproved_24 : decode cX3_isImproved 24 = .ok (.iload_n 1, 1) := dk_27 (dk_at dksX3_isImproved_1 0 rfl rfl)
theorem dX3_isImproved_25 : decode cX3_isImproved 25 = .ok (.iconst 4, 1) := dk_7 (dk_at dksX3_isImproved_1 1 rfl rfl)
theorem dX3_isImproved_26 : decode cX3_isImproved 26 = .ok (.invokevirtual 78, 3) := dk_182 0 78 (dk_at dksX3_isImproved_1 2 rfl rfl)
theorem dX3_isImproved_29 : decode cX3_isImproved 29 = .ok (.istore_n 3, 1) := dk_62 (dk_at dksX3_isImproved_1 5 rfl rfl)
theorem dX3_isImproved_30 : decode cX3_isImproved 30 = .ok (.iconst 1, 1) := dk_4 (dk_at dksX3_isImproved_1 6 rfl rfl)
theorem dX3_isImproved_31 : decode cX3_isImproved 31 = .ok (.istore 4, 2) := dk_54 4 (dk_at dksX3_isImproved_1 7 rfl rfl)
theorem dX3_isImproved_33 : decode cX3_isImproved 33 = .ok (.iload 4, 2) := dk_21 4 (dk_at dksX3_isImproved_1 9 rfl rfl)
theorem dX3_isImproved_35 : decode cX3_isImproved 35 = .ok (.bipush 8, 2) := dk_16 8 (dk_at dksX3_isImproved_1 11 rfl rfl)
theorem dX3_isImproved_37 : decode cX3_isImproved 37 = .ok (.if_icmp .ge 41, 3) := dk_162 0 41 (dk_at dksX3_isImproved_1 13 rfl rfl)
theorem dX3_isImproved_40 : decode cX3_isImproved 40 = .ok (.iload_n 3, 1) := dk_29 (dk_at dksX3_isImproved_1 16 rfl rfl)
theorem dX3_isImproved_41 : decode cX3_isImproved 41 = .ok (.iload 4, 2) := dk_21 4 (dk_at dksX3_isImproved_1 17 rfl rfl)
theorem dX3_isImproved_43 : decode cX3_isImproved 43 = .ok (.iadd, 1) := dk_96 (dk_at dksX3_isImproved_1 19 rfl rfl)
theorem dX3_isImproved_44 : decode cX3_isImproved 44 = .ok (.bipush 8, 2) := dk_16 8 (dk_at dksX3_isImproved_1 20 rfl rfl)
theorem dX3_isImproved_46 : decode cX3_isImproved 46 = .ok (.irem, 1) := dk_112 (dk_at dksX3_isImproved_1 22 rfl rfl)
theorem dX3_isImproved_47 : decode cX3_isImproved 47 = .ok (.istore 5, 2) := dk_54 5 (dk_at dksX3_isImproved_2 0 rfl rfl)
theorem dX3_isImproved_49 : decode cX3_isImproved 49 = .ok (.aload_n 0, 1) := dk_42 (dk_at dksX3_isImproved_2 2 rfl rfl)
theorem dX3_isImproved_50 : decode cX3_isImproved 50 = .ok (.iload 5, 2) := dk_21 5 (dk_at dksX3_isImproved_2 3 rfl rfl)
theorem dX3_isImproved_52 : decode cX3_isImproved 52 = .ok (.iload_n 1, 1) := dk_27 (dk_at dksX3_isImproved_2 5 rfl rfl)
theorem dX3_isImproved_53 : decode cX3_isImproved 53 = .ok (.invokevirtual 128, 3) := dk_182 0 128 (dk_at dksX3_isImproved_2 6 rfl rfl)
theorem dX3_isImproved_56 : decode cX3_isImproved 56 = .ok (.ifCond .eq 16, 3) := dk_153 0 16 (dk_at dksX3_isImproved_2 9 rfl rfl)
theorem dX3_isImproved_59 : decode cX3_isImproved 59 = .ok (.aload_n 0, 1) := dk_42 (dk_at dksX3_isImproved_2 12 rfl rfl)
theorem dX3_isImproved_60 : decode cX3_isImproved 60 = .ok (.getfield 7, 3) := dk_180 0 7 (dk_at dksX3_isImproved_2 13 rfl rfl)
theorem dX3_isImproved_63 : decode cX3_isImproved 63 = .ok (.iload_n 1, 1) := dk_27 (dk_at dksX3_isImproved_2 16 rfl rfl)
theorem dX3_isImproved_64 : decode cX3_isImproved 64 = .ok (.iconst 4, 1) := dk_7 (dk_at dksX3_isImproved_2 17 rfl rfl)
theorem dX3_isImproved_65 : decode cX3_isImproved 65 = .ok (.invokestatic 56, 3) := dk_184 0 56 (dk_at dksX3_isImproved_2 18 rfl rfl)
theorem dX3_isImproved_68 : decode cX3_isImproved 68 = .ok (.iload 5, 2) := dk_21 5 (dk_at dksX3_isImproved_2 21 rfl rfl)
theorem dX3_isImproved_70 : decode cX3_isImproved 70 = .ok (.iastore, 1) := dk_79 (dk_at dksX3_isImproved_2 23 rfl rfl)
theorem dX3_isImproved_71 : decode cX3_isImproved 71 = .ok (.return_, 1) := dk_177 (dk_at dksX3_isImproved_3 0 rfl rfl)
theorem dX3_isImproved_72 : decode cX3_isImproved 72 = .ok (.iinc 4 1, 3) := dk_132 4 1 (dk_at dksX3_isImproved_3 1 rfl rfl)
theorem dX3_isImproved_75 : decode cX3_isImproved 75 = .ok (.goto (-42), 3) := dk_167 255 214 (dk_at dksX3_isImproved_3 4 rfl rfl)
theorem dX3_isImproved_78 : decode cX3_isImproved 78 = .ok (.return_, 1) := dk_177 (dk_at dksX3_isImproved_3 7 rfl rfl)
abbrev cX3_heldTo : ByteArray := prog_17_method_39_code
def yX3_heldTo : MethodName := ⟨RX3, "heldTo", "(II)I"⟩
def dkwX3_heldTo_0 : List UInt8 := [26, 27, 164, 0, 7, 27, 167, 0, 4, 26, 172]
abbrev dktX3_heldTo_0 : List UInt8 := dkwX3_heldTo_0 ++ []
theorem dksX3_heldTo_0 : cX3_heldTo.data.toList.drop 0 = dktX3_heldTo_0 := by decide +kernel
theorem dX3_heldTo_0 : decode cX3_heldTo 0 = .ok (.iload_n 0, 1) := dk_26 (dk_at dksX3_heldTo_0 0 rfl rfl)
theorem dX3_heldTo_1 : decode cX3_heldTo 1 = .ok (.iload_n 1, 1) := dk_27 (dk_at dksX3_heldTo_0 1 rfl rfl)
theorem dX3_heldTo_2 : decode cX3_heldTo 2 = .ok (.if_icmp .le 7, 3) := dk_164 0 7 (dk_at dksX3_heldTo_0 2 rfl rfl)
theorem dX3_heldTo_5 : decode cX3_heldTo 5 = .ok (.iload_n 1, 1) := dk_27 (dk_at dksX3_heldTo_0 5 rfl rfl)
theorem dX3_heldTo_6 : decode cX3_heldTo 6 = .ok (.goto 4, 3) := dk_167 0 4 (dk_at dksX3_heldTo_0 6 rfl rfl)
theorem dX3_heldTo_9 : decode cX3_heldTo 9 = .ok (.iload_n 0, 1) := dk_26 (dk_at dksX3_heldTo_0 9 rfl rfl)
theorem dX3_heldTo_10 : decode cX3_heldTo 10 = .ok (.ireturn, 1) := dk_172 (dk_at dksX3_heldTo_0 10 rfl rfl)
abbrev cX3_comesTrue : ByteArray := prog_17_method_43_code
def yX3_comesTrue : MethodName := ⟨RX3, "comesTrue", "(I)I"⟩
def dkwX3_comesTrue_0 : List UInt8 := [27, 184, 0, 99, 153, 0, 11, 42, 27, 182, 0, 147, 167, 0, 9, 42, 18, 45, 182, 0, 74, 172]
abbrev dktX3_comesTrue_0 : List UInt8 := dkwX3_comesTrue_0 ++ []
theorem dksX3_comesTrue_0 : cX3_comesTrue.data.toList.drop 0 = dktX3_comesTrue_0 := by decide +kernel
theorem dX3_comesTrue_0 : decode cX3_comesTrue 0 = .ok (.iload_n 1, 1) := dk_27 (dk_at dksX3_comesTrue_0 0 rfl rfl)
theorem dX3_comesTrue_1 : decode cX3_comesTrue 1 = .ok (.invokestatic 99, 3) := dk_184 0 99 (dk_at dksX3_comesTrue_0 1 rfl rfl)
theorem dX3_comesTrue_4 : decode cX3_comesTrue 4 = .ok (.ifCond .eq 11, 3) := dk_153 0 11 (dk_at dksX3_comesTrue_0 4 rfl rfl)
theorem dX3_comesTrue_7 : decode cX3_comesTrue 7 = .ok (.aload_n 0, 1) := dk_42 (dk_at dksX3_comesTrue_0 7 rfl rfl)
theorem dX3_comesTrue_8 : decode cX3_comesTrue 8 = .ok (.iload_n 1, 1) := dk_27 (dk_at dksX3_comesTrue_0 8 rfl rfl)
theorem dX3_comesTrue_9 : decode cX3_comesTrue 9 = .ok (.invokevirtual 147, 3) := dk_182 0 147 (dk_at dksX3_comesTrue_0 9 rfl rfl)
theorem dX3_comesTrue_12 : decode cX3_comesTrue 12 = .ok (.goto 9, 3) := dk_167 0 9 (dk_at dksX3_comesTrue_0 12 rfl rfl)
theorem dX3_comesTrue_15 : decode cX3_comesTrue 15 = .ok (.aload_n 0, 1) := dk_42 (dk_at dksX3_comesTrue_0 15 rfl rfl)
theorem dX3_comesTrue_16 : decode cX3_comesTrue 16 = .ok (.ldc 45, 2) := dk_18 45 (dk_at dksX3_comesTrue_0 16 rfl rfl)
theorem dX3_comesTrue_18 : decode cX3_comesTrue 18 = .ok (.invokevirtual 74, 3) := dk_182 0 74 (dk_at dksX3_comesTrue_0 18 rfl rfl)
theorem dX3_comesTrue_21 : decode cX3_comesTrue 21 = .ok (.ireturn, 1) := dk_172 (dk_at dksX3_comesTrue_0 21 rfl rfl)
abbrev cX3_becomesTrue : ByteArray := prog_17_method_42_code
def yX3_becomesTrue : MethodName := ⟨RX3, "becomesTrue", "(I)I"⟩
def dkwX3_becomesTrue_2 : List UInt8 := [180, 0, 7, 29, 7, 184, 0, 56, 2, 79, 132, 2, 1, 132, 3, 1, 167, 255, 209, 28, 172]
abbrev dktX3_becomesTrue_2 : List UInt8 := dkwX3_becomesTrue_2 ++ []
def dkwX3_becomesTrue_1 : List UInt8 := [162, 0, 43, 42, 29, 4, 182, 0, 78, 27, 160, 0, 27, 42, 29, 7, 182, 0, 78, 2, 159, 0, 17, 42]
abbrev dktX3_becomesTrue_1 : List UInt8 := dkwX3_becomesTrue_1 ++ dktX3_becomesTrue_2
def dkwX3_becomesTrue_0 : List UInt8 := [3, 61, 42, 180, 0, 7, 5, 92, 46, 4, 27, 120, 128, 79, 3, 62, 29, 42, 180, 0, 7, 3, 46]
abbrev dktX3_becomesTrue_0 : List UInt8 := dkwX3_becomesTrue_0 ++ dktX3_becomesTrue_1
theorem dksX3_becomesTrue_0 : cX3_becomesTrue.data.toList.drop 0 = dktX3_becomesTrue_0 := by decide +kernel
theorem dksX3_becomesTrue_1 : cX3_becomesTrue.data.toList.drop 23 = dktX3_becomesTrue_1 := dk_seg dksX3_becomesTrue_0 23 rfl rfl
theorem dksX3_becomesTrue_2 : cX3_becomesTrue.data.toList.drop 47 = dktX3_becomesTrue_2 := dk_seg dksX3_becomesTrue_1 24 rfl rfl
theorem dX3_becomesTrue_0 : decode cX3_becomesTrue 0 = .ok (.iconst 0, 1) := dk_3 (dk_at dksX3_becomesTrue_0 0 rfl rfl)
theorem dX3_becomesTrue_1 : decode cX3_becomesTrue 1 = .ok (.istore_n 2, 1) := dk_61 (dk_at dksX3_becomesTrue_0 1 rfl rfl)
theorem dX3_becomesTrue_2 : decode cX3_becomesTrue 2 = .ok (.aload_n 0, 1) := dk_42 (dk_at dksX3_becomesTrue_0 2 rfl rfl)
theorem dX3_becomesTrue_3 : decode cX3_becomesTrue 3 = .ok (.getfield 7, 3) := dk_180 0 7 (dk_at dksX3_becomesTrue_0 3 rfl rfl)
theorem dX3_becomesTrue_6 : decode cX3_becomesTrue 6 = .ok (.iconst 2, 1) := dk_5 (dk_at dksX3_becomesTrue_0 6 rfl rfl)
theorem dX3_becomesTrue_7 : decode cX3_becomesTrue 7 = .ok (.dup2, 1) := dk_92 (dk_at dksX3_becomesTrue_0 7 rfl rfl)
theorem dX3_becomesTrue_8 : decode cX3_becomesTrue 8 = .ok (.iaload, 1) := dk_46 (dk_at dksX3_becomesTrue_0 8 rfl rfl)
theorem dX3_becomesTrue_9 : decode cX3_becomesTrue 9 = .ok (.iconst 1, 1) := dk_4 (dk_at dksX3_becomesTrue_0 9 rfl rfl)
theorem dX3_becomesTrue_10 : decode cX3_becomesTrue 10 = .ok (.iload_n 1, 1) := dk_27 (dk_at dksX3_becomesTrue_0 10 rfl rfl)
theorem dX3_becomesTrue_11 : decode cX3_becomesTrue 11 = .ok (.ishl, 1) := dk_120 (dk_at dksX3_becomesTrue_0 11 rfl rfl)
theorem dX3_becomesTrue_12 : decode cX3_becomesTrue 12 = .ok (.ior, 1) := dk_128 (dk_at dksX3_becomesTrue_0 12 rfl rfl)
theorem dX3_becomesTrue_13 : decode cX3_becomesTrue 13 = .ok (.iastore, 1) := dk_79 (dk_at dksX3_becomesTrue_0 13 rfl rfl)
theorem dX3_becomesTrue_14 : decode cX3_becomesTrue 14 = .ok (.iconst 0, 1) := dk_3 (dk_at dksX3_becomesTrue_0 14 rfl rfl)
theorem dX3_becomesTrue_15 : decode cX3_becomesTrue 15 = .ok (.istore_n 3, 1) := dk_62 (dk_at dksX3_becomesTrue_0 15 rfl rfl)
theorem dX3_becomesTrue_16 : decode cX3_becomesTrue 16 = .ok (.iload_n 3, 1) := dk_29 (dk_at dksX3_becomesTrue_0 16 rfl rfl)
theorem dX3_becomesTrue_17 : decode cX3_becomesTrue 17 = .ok (.aload_n 0, 1) := dk_42 (dk_at dksX3_becomesTrue_0 17 rfl rfl)
theorem dX3_becomesTrue_18 : decode cX3_becomesTrue 18 = .ok (.getfield 7, 3) := dk_180 0 7 (dk_at dksX3_becomesTrue_0 18 rfl rfl)
theorem dX3_becomesTrue_21 : decode cX3_becomesTrue 21 = .ok (.iconst 0, 1) := dk_3 (dk_at dksX3_becomesTrue_0 21 rfl rfl)
theorem dX3_becomesTrue_22 : decode cX3_becomesTrue 22 = .ok (.iaload, 1) := dk_46 (dk_at dksX3_becomesTrue_0 22 rfl rfl)
theorem dX3_becomesTrue_23 : decode cX3_becomesTrue 23 = .ok (.if_icmp .ge 43, 3) := dk_162 0 43 (dk_at dksX3_becomesTrue_1 0 rfl rfl)
theorem dX3_becomesTrue_26 : decode cX3_becomesTrue 26 = .ok (.aload_n 0, 1) := dk_42 (dk_at dksX3_becomesTrue_1 3 rfl rfl)
theorem dX3_becomesTrue_27 : decode cX3_becomesTrue 27 = .ok (.iload_n 3, 1) := dk_29 (dk_at dksX3_becomesTrue_1 4 rfl rfl)
theorem dX3_becomesTrue_28 : decode cX3_becomesTrue 28 = .ok (.iconst 1, 1) := dk_4 (dk_at dksX3_becomesTrue_1 5 rfl rfl)
theorem dX3_becomesTrue_29 : decode cX3_becomesTrue 29 = .ok (.invokevirtual 78, 3) := dk_182 0 78 (dk_at dksX3_becomesTrue_1 6 rfl rfl)
theorem dX3_becomesTrue_32 : decode cX3_becomesTrue 32 = .ok (.iload_n 1, 1) := dk_27 (dk_at dksX3_becomesTrue_1 9 rfl rfl)
theorem dX3_becomesTrue_33 : decode cX3_becomesTrue 33 = .ok (.if_icmp .ne 27, 3) := dk_160 0 27 (dk_at dksX3_becomesTrue_1 10 rfl rfl)
theorem dX3_becomesTrue_36 : decode cX3_becomesTrue 36 = .ok (.aload_n 0, 1) := dk_42 (dk_at dksX3_becomesTrue_1 13 rfl rfl)
theorem dX3_becomesTrue_37 : decode cX3_becomesTrue 37 = .ok (.iload_n 3, 1) := dk_29 (dk_at dksX3_becomesTrue_1 14 rfl rfl)
theorem dX3_becomesTrue_38 : decode cX3_becomesTrue 38 = .ok (.iconst 4, 1) := dk_7 (dk_at dksX3_becomesTrue_1 15 rfl rfl)
theorem dX3_becomesTrue_39 : decode cX3_becomesTrue 39 = .ok (.invokevirtual 78, 3) := dk_182 0 78 (dk_at dksX3_becomesTrue_1 16 rfl rfl)
theorem dX3_becomesTrue_42 : decode cX3_becomesTrue 42 = .ok (.iconst (-1), 1) := dk_2 (dk_at dksX3_becomesTrue_1 19 rfl rfl)
theorem dX3_becomesTrue_43 : decode cX3_becomesTrue 43 = .ok (.if_icmp .eq 17, 3) := dk_159 0 17 (dk_at dksX3_becomesTrue_1 20 rfl rfl)
theorem dX3_becomesTrue_46 : decode cX3_becomesTrue 46 = .ok (.aload_n 0, 1) := dk_42 (dk_at dksX3_becomesTrue_1 23 rfl rfl)
theorem dX3_becomesTrue_47 : decode cX3_becomesTrue 47 = .ok (.getfield 7, 3) := dk_180 0 7 (dk_at dksX3_becomesTrue_2 0 rfl rfl)
theorem dX3_becomesTrue_50 : decode cX3_becomesTrue 50 = .ok (.iload_n 3, 1) := dk_29 (dk_at dksX3_becomesTrue_2 3 rfl rfl)
theorem dX3_becomesTrue_51 : decode cX3_becomesTrue 51 = .ok (.iconst 4, 1) := dk_7 (dk_at dksX3_becomesTrue_2 4 rfl rfl)
theorem dX3_becomesTrue_52 : decode cX3_becomesTrue 52 = .ok (.invokestatic 56, 3) := dk_184 0 56 (dk_at dksX3_becomesTrue_2 5 rfl rfl)
theorem dX3_becomesTrue_55 : decode cX3_becomesTrue 55 = .ok (.iconst (-1), 1) := dk_2 (dk_at dksX3_becomesTrue_2 8 rfl rfl)
theorem dX3_becomesTrue_56 : decode cX3_becomesTrue 56 = .ok (.iastore, 1) := dk_79 (dk_at dksX3_becomesTrue_2 9 rfl rfl)
theorem dX3_becomesTrue_57 : decode cX3_becomesTrue 57 = .ok (.iinc 2 1, 3) := dk_132 2 1 (dk_at dksX3_becomesTrue_2 10 rfl rfl)
theorem dX3_becomesTrue_60 : decode cX3_becomesTrue 60 = .ok (.iinc 3 1, 3) := dk_132 3 1 (dk_at dksX3_becomesTrue_2 13 rfl rfl)
theorem dX3_becomesTrue_63 : decode cX3_becomesTrue 63 = .ok (.goto (-47), 3) := dk_167 255 209 (dk_at dksX3_becomesTrue_2 16 rfl rfl)
theorem dX3_becomesTrue_66 : decode cX3_becomesTrue 66 = .ok (.iload_n 2, 1) := dk_28 (dk_at dksX3_becomesTrue_2 19 rfl rfl)
theorem dX3_becomesTrue_67 : decode cX3_becomesTrue 67 = .ok (.ireturn, 1) := dk_172 (dk_at dksX3_becomesTrue_2 20 rfl rfl)
abbrev cX3_forget : ByteArray := prog_17_method_44_code
def yX3_forget : MethodName := ⟨RX3, "forget", "(I)I"⟩
def dkwX3_forget_1 : List UInt8 := [167, 0, 4, 3, 61, 42, 180, 0, 7, 5, 92, 46, 4, 27, 120, 2, 130, 126, 79, 28, 172]
abbrev dktX3_forget_1 : List UInt8 := dkwX3_forget_1 ++ []
def dkwX3_forget_0 : List UInt8 := [27, 184, 0, 99, 154, 0, 10, 42, 18, 45, 182, 0, 74, 172, 42, 27, 182, 0, 131, 153, 0, 7, 4]
abbrev dktX3_forget_0 : List UInt8 := dkwX3_forget_0 ++ dktX3_forget_1
theorem dksX3_forget_0 : cX3_forget.data.toList.drop 0 = dktX3_forget_0 := by decide +kernel
theorem dksX3_forget_1 : cX3_forget.data.toList.drop 23 = dktX3_forget_1 := dk_seg dksX3_forget_0 23 rfl rfl
theorem dX3_forget_0 : decode cX3_forget 0 = .ok (.iload_n 1, 1) := dk_27 (dk_at dksX3_forget_0 0 rfl rfl)
theorem dX3_forget_1 : decode cX3_forget 1 = .ok (.invokestatic 99, 3) := dk_184 0 99 (dk_at dksX3_forget_0 1 rfl rfl)
theorem dX3_forget_4 : decode cX3_forget 4 = .ok (.ifCond .ne 10, 3) := dk_154 0 10 (dk_at dksX3_forget_0 4 rfl rfl)
theorem dX3_forget_7 : decode cX3_forget 7 = .ok (.aload_n 0, 1) := dk_42 (dk_at dksX3_forget_0 7 rfl rfl)
theorem dX3_forget_8 : decode cX3_forget 8 = .ok (.ldc 45, 2) := dk_18 45 (dk_at dksX3_forget_0 8 rfl rfl)
theorem dX3_forget_10 : decode cX3_forget 10 = .ok (.invokevirtual 74, 3) := dk_182 0 74 (dk_at dksX3_forget_0 10 rfl rfl)
theorem dX3_forget_13 : decode cX3_forget 13 = .ok (.ireturn, 1) := dk_172 (dk_at dksX3_forget_0 13 rfl rfl)
theorem dX3_forget_14 : decode cX3_forget 14 = .ok (.aload_n 0, 1) := dk_42 (dk_at dksX3_forget_0 14 rfl rfl)
theorem dX3_forget_15 : decode cX3_forget 15 = .ok (.iload_n 1, 1) := dk_27 (dk_at dksX3_forget_0 15 rfl rfl)
theorem dX3_forget_16 : decode cX3_forget 16 = .ok (.invokevirtual 131, 3) := dk_182 0 131 (dk_at dksX3_forget_0 16 rfl rfl)
theorem dX3_forget_19 : decode cX3_forget 19 = .ok (.ifCond .eq 7, 3) := dk_153 0 7 (dk_at dksX3_forget_0 19 rfl rfl)
theorem dX3_forget_22 : decode cX3_forget 22 = .ok (.iconst 1, 1) := dk_4 (dk_at dksX3_forget_0 22 rfl rfl)
theorem dX3_forget_23 : decode cX3_forget 23 = .ok (.goto 4, 3) := dk_167 0 4 (dk_at dksX3_forget_1 0 rfl rfl)
theorem dX3_forget_26 : decode cX3_forget 26 = .ok (.iconst 0, 1) := dk_3 (dk_at dksX3_forget_1 3 rfl rfl)
theorem dX3_forget_27 : decode cX3_forget 27 = .ok (.istore_n 2, 1) := dk_61 (dk_at dksX3_forget_1 4 rfl rfl)
theorem dX3_forget_28 : decode cX3_forget 28 = .ok (.aload_n 0, 1) := dk_42 (dk_at dksX3_forget_1 5 rfl rfl)
theorem dX3_forget_29 : decode cX3_forget 29 = .ok (.getfield 7, 3) := dk_180 0 7 (dk_at dksX3_forget_1 6 rfl rfl)
theorem dX3_forget_32 : decode cX3_forget 32 = .ok (.iconst 2, 1) := dk_5 (dk_at dksX3_forget_1 9 rfl rfl)
theorem dX3_forget_33 : decode cX3_forget 33 = .ok (.dup2, 1) := dk_92 (dk_at dksX3_forget_1 10 rfl rfl)
theorem dX3_forget_34 : decode cX3_forget 34 = .ok (.iaload, 1) := dk_46 (dk_at dksX3_forget_1 11 rfl rfl)
theorem dX3_forget_35 : decode cX3_forget 35 = .ok (.iconst 1, 1) := dk_4 (dk_at dksX3_forget_1 12 rfl rfl)
theorem dX3_forget_36 : decode cX3_forget 36 = .ok (.iload_n 1, 1) := dk_27 (dk_at dksX3_forget_1 13 rfl rfl)
theorem dX3_forget_37 : decode cX3_forget 37 = .ok (.ishl, 1) := dk_120 (dk_at dksX3_forget_1 14 rfl rfl)
theorem dX3_forget_38 : decode cX3_forget 38 = .ok (.iconst (-1), 1) := dk_2 (dk_at dksX3_forget_1 15 rfl rfl)
theorem dX3_forget_39 : decode cX3_forget 39 = .ok (.ixor, 1) := dk_130 (dk_at dksX3_forget_1 16 rfl rfl)
theorem dX3_forget_40 : decode cX3_forget 40 = .ok (.iand, 1) := dk_126 (dk_at dksX3_forget_1 17 rfl rfl)
theorem dX3_forget_41 : decode cX3_forget 41 = .ok (.iastore, 1) := dk_79 (dk_at dksX3_forget_1 18 rfl rfl)
theorem dX3_forget_42 : decode cX3_forget 42 = .ok (.iload_n 2, 1) := dk_28 (dk_at dksX3_forget_1 19 rfl rfl)
theorem dX3_forget_43 : decode cX3_forget 43 = .ok (.ireturn, 1) := dk_172 (dk_at dksX3_forget_1 20 rfl rfl)
abbrev cX3_days : ByteArray := prog_17_method_51_code
def yX3_days : MethodName := ⟨RX3, "days", "(I)I"⟩
def dkwX3_days_2 : List UInt8 := [180, 0, 7, 3, 46, 172]
abbrev dktX3_days_2 : List UInt8 := dkwX3_days_2 ++ []
def dkwX3_days_1 : List UInt8 := [46, 27, 96, 17, 39, 15, 164, 0, 10, 42, 18, 134, 182, 0, 74, 172, 42, 27, 182, 0, 168, 42]
abbrev dktX3_days_1 : List UInt8 := dkwX3_days_1 ++ dktX3_days_2
def dkwX3_days_0 : List UInt8 := [27, 133, 10, 20, 0, 166, 184, 0, 48, 154, 0, 10, 42, 18, 45, 182, 0, 74, 172, 42, 180, 0, 7, 4]
abbrev dktX3_days_0 : List UInt8 := dkwX3_days_0 ++ dktX3_days_1
theorem dksX3_days_0 : cX3_days.data.toList.drop 0 = dktX3_days_0 := by decide +kernel
theorem dksX3_days_1 : cX3_days.data.toList.drop 24 = dktX3_days_1 := dk_seg dksX3_days_0 24 rfl rfl
theorem dksX3_days_2 : cX3_days.data.toList.drop 46 = dktX3_days_2 := dk_seg dksX3_days_1 22 rfl rfl
theorem dX3_days_0 : decode cX3_days 0 = .ok (.iload_n 1, 1) := dk_27 (dk_at dksX3_days_0 0 rfl rfl)
theorem dX3_days_1 : decode cX3_days 1 = .ok (.i2l, 1) := dk_133 (dk_at dksX3_days_0 1 rfl rfl)
theorem dX3_days_2 : decode cX3_days 2 = .ok (.lconst 1, 1) := dk_10 (dk_at dksX3_days_0 2 rfl rfl)
theorem dX3_days_3 : decode cX3_days 3 = .ok (.ldc2_w 166, 3) := dk_20 0 166 (dk_at dksX3_days_0 3 rfl rfl)
theorem dX3_days_6 : decode cX3_days 6 = .ok (.invokestatic 48, 3) := dk_184 0 48 (dk_at dksX3_days_0 6 rfl rfl)
theorem dX3_days_9 : decode cX3_days 9 = .ok (.ifCond .ne 10, 3) := dk_154 0 10 (dk_at dksX3_days_0 9 rfl rfl)
theorem dX3_days_12 : decode cX3_days 12 = .ok (.aload_n 0, 1) := dk_42 (dk_at dksX3_days_0 12 rfl rfl)
theorem dX3_days_13 : decode cX3_days 13 = .ok (.ldc 45, 2) := dk_18 45 (dk_at dksX3_days_0 13 rfl rfl)
theorem dX3_days_15 : decode cX3_days 15 = .ok (.invokevirtual 74, 3) := dk_182 0 74 (dk_at dksX3_days_0 15 rfl rfl)
theorem dX3_days_18 : decode cX3_days 18 = .ok (.ireturn, 1) := dk_172 (dk_at dksX3_days_0 18 rfl rfl)
theorem dX3_days_19 : decode cX3_days 19 = .ok (.aload_n 0, 1) := dk_42 (dk_at dksX3_days_0 19 rfl rfl)
theorem dX3_days_20 : decode cX3_days 20 = .ok (.getfield 7, 3) := dk_180 0 7 (dk_at dksX3_days_0 20 rfl rfl)
theorem dX3_days_23 : decode cX3_days 23 = .ok (.iconst 1, 1) := dk_4 (dk_at dksX3_days_0 23 rfl rfl)
theorem dX3_days_24 : decode cX3_days 24 = .ok (.iaload, 1) := dk_46 (dk_at dksX3_days_1 0 rfl rfl)
theorem dX3_days_25 : decode cX3_days 25 = .ok (.iload_n 1, 1) := dk_27 (dk_at dksX3_days_1 1 rfl rfl)
theorem dX3_days_26 : decode cX3_days 26 = .ok (.iadd, 1) := dk_96 (dk_at dksX3_days_1 2 rfl rfl)
theorem dX3_days_27 : decode cX3_days 27 = .ok (.sipush 9999, 3) := dk_17 39 15 (dk_at dksX3_days_1 3 rfl rfl)
theorem dX3_days_30 : decode cX3_days 30 = .ok (.if_icmp .le 10, 3) := dk_164 0 10 (dk_at dksX3_days_1 6 rfl rfl)
theorem dX3_days_33 : decode cX3_days 33 = .ok (.aload_n 0, 1) := dk_42 (dk_at dksX3_days_1 9 rfl rfl)
theorem dX3_days_34 : decode cX3_days 34 = .ok (.ldc 134, 2) := dk_18 134 (dk_at dksX3_days_1 10 rfl rfl)
theorem dX3_days_36 : decode cX3_days 36 = .ok (.invokevirtual 74, 3) := dk_182 0 74 (dk_at dksX3_days_1 12 rfl rfl)
theorem dX3_days_39 : decode cX3_days 39 = .ok (.ireturn, 1) := dk_172 (dk_at dksX3_days_1 15 rfl rfl)
theorem dX3_days_40 : decode cX3_days 40 = .ok (.aload_n 0, 1) := dk_42 (dk_at dksX3_days_1 16 rfl rfl)
theorem dX3_days_41 : decode cX3_days 41 = .ok (.iload_n 1, 1) := dk_27 (dk_at dksX3_days_1 17 rfl rfl)
theorem dX3_days_42 : decode cX3_days 42 = .ok (.invokevirtual 168, 3) := dk_182 0 168 (dk_at dksX3_days_1 18 rfl rfl)
theorem dX3_days_45 : decode cX3_days 45 = .ok (.aload_n 0, 1) := dk_42 (dk_at dksX3_days_1 21 rfl rfl)
theorem dX3_days_46 : decode cX3_days 46 = .ok (.getfield 7, 3) := dk_180 0 7 (dk_at dksX3_days_2 0 rfl rfl)
theorem dX3_days_49 : decode cX3_days 49 = .ok (.iconst 0, 1) := dk_3 (dk_at dksX3_days_2 3 rfl rfl)
theorem dX3_days_50 : decode cX3_days 50 = .ok (.iaload, 1) := dk_46 (dk_at dksX3_days_2 4 rfl rfl)
theorem dX3_days_51 : decode cX3_days 51 = .ok (.ireturn, 1) := dk_172 (dk_at dksX3_days_2 5 rfl rfl)
abbrev cX3_daysGo : ByteArray := prog_17_method_50_code
def yX3_daysGo : MethodName := ⟨RX3, "daysGo", "(I)V"⟩
def dkwX3_daysGo_0 : List UInt8 := [3, 61, 28, 27, 162, 0, 13, 42, 182, 0, 163, 132, 2, 1, 167, 255, 244, 177]
abbrev dktX3_daysGo_0 : List UInt8 := dkwX3_daysGo_0 ++ []
theorem dksX3_daysGo_0 : cX3_daysGo.data.toList.drop 0 = dktX3_daysGo_0 := by decide +kernel
theorem dX3_daysGo_0 : decode cX3_daysGo 0 = .ok (.iconst 0, 1) := dk_3 (dk_at dksX3_daysGo_0 0 rfl rfl)
theorem dX3_daysGo_1 : decode cX3_daysGo 1 = .ok (.istore_n 2, 1) := dk_61 (dk_at dksX3_daysGo_0 1 rfl rfl)
theorem dX3_daysGo_2 : decode cX3_daysGo 2 = .ok (.iload_n 2, 1) := dk_28 (dk_at dksX3_daysGo_0 2 rfl rfl)
theorem dX3_daysGo_3 : decode cX3_daysGo 3 = .ok (.iload_n 1, 1) := dk_27 (dk_at dksX3_daysGo_0 3 rfl rfl)
theorem dX3_daysGo_4 : decode cX3_daysGo 4 = .ok (.if_icmp .ge 13, 3) := dk_162 0 13 (dk_at dksX3_daysGo_0 4 rfl rfl)
theorem dX3_daysGo_7 : decode cX3_daysGo 7 = .ok (.aload_n 0, 1) := dk_42 (dk_at dksX3_daysGo_0 7 rfl rfl)
theorem dX3_daysGo_8 : decode cX3_daysGo 8 = .ok (.invokevirtual 163, 3) := dk_182 0 163 (dk_at dksX3_daysGo_0 8 rfl rfl)
theorem dX3_daysGo_11 : decode cX3_daysGo 11 = .ok (.iinc 2 1, 3) := dk_132 2 1 (dk_at dksX3_daysGo_0 11 rfl rfl)
theorem dX3_daysGo_14 : decode cX3_daysGo 14 = .ok (.goto (-12), 3) := dk_167 255 244 (dk_at dksX3_daysGo_0 14 rfl rfl)
theorem dX3_daysGo_17 : decode cX3_daysGo 17 = .ok (.return_, 1) := dk_177 (dk_at dksX3_daysGo_0 17 rfl rfl)
abbrev cX3_day : ByteArray := prog_17_method_49_code
def yX3_day : MethodName := ⟨RX3, "day", "()V"⟩
def dkwX3_day_7 : List UInt8 := [79, 177]
abbrev dktX3_day_7 : List UInt8 := dkwX3_day_7 ++ []
def dkwX3_day_6 : List UInt8 := [184, 0, 56, 42, 27, 182, 0, 135, 79, 132, 1, 1, 167, 255, 205, 42, 180, 0, 7, 4, 92, 46, 4, 96]
abbrev dktX3_day_6 : List UInt8 := dkwX3_day_6 ++ dktX3_day_7
def dkwX3_day_5 : List UInt8 := [160, 0, 31, 42, 42, 27, 4, 182, 0, 78, 182, 0, 131, 154, 0, 18, 42, 180, 0, 7, 27, 7]
abbrev dktX3_day_5 : List UInt8 := dkwX3_day_5 ++ dktX3_day_6
def dkwX3_day_4 : List UInt8 := [167, 255, 242, 3, 60, 27, 42, 180, 0, 7, 3, 46, 162, 0, 47, 42, 27, 7, 182, 0, 78, 2]
abbrev dktX3_day_4 : List UInt8 := dkwX3_day_4 ++ dktX3_day_5
def dkwX3_day_3 : List UInt8 := [132, 1, 1, 167, 255, 219, 3, 60, 27, 16, 8, 162, 0, 14, 42, 27, 182, 0, 160, 132, 1, 1]
abbrev dktX3_day_3 : List UInt8 := dkwX3_day_3 ++ dktX3_day_4
def dkwX3_day_2 : List UInt8 := [180, 0, 7, 27, 6, 184, 0, 56, 42, 27, 6, 182, 0, 78, 4, 96, 17, 3, 231, 184, 0, 138, 79]
abbrev dktX3_day_2 : List UInt8 := dkwX3_day_2 ++ dktX3_day_3
def dkwX3_day_1 : List UInt8 := [182, 0, 156, 132, 1, 1, 167, 255, 228, 3, 60, 27, 42, 180, 0, 7, 3, 46, 162, 0, 33, 42]
abbrev dktX3_day_1 : List UInt8 := dkwX3_day_1 ++ dktX3_day_2
def dkwX3_day_0 : List UInt8 := [3, 60, 27, 42, 180, 0, 7, 3, 46, 162, 0, 24, 42, 27, 7, 182, 0, 78, 2, 159, 0, 8, 42, 27]
abbrev dktX3_day_0 : List UInt8 := dkwX3_day_0 ++ dktX3_day_1
theorem dksX3_day_0 : cX3_day.data.toList.drop 0 = dktX3_day_0 := by decide +kernel
theorem dksX3_day_1 : cX3_day.data.toList.drop 24 = dktX3_day_1 := dk_seg dksX3_day_0 24 rfl rfl
theorem dksX3_day_2 : cX3_day.data.toList.drop 46 = dktX3_day_2 := dk_seg dksX3_day_1 22 rfl rfl
theorem dksX3_day_3 : cX3_day.data.toList.drop 69 = dktX3_day_3 := dk_seg dksX3_day_2 23 rfl rfl
theorem dksX3_day_4 : cX3_day.data.toList.drop 91 = dktX3_day_4 := dk_seg dksX3_day_3 22 rfl rfl
theorem dksX3_day_5 : cX3_day.data.toList.drop 113 = dktX3_day_5 := dk_seg dksX3_day_4 22 rfl rfl
theorem dksX3_day_6 : cX3_day.data.toList.drop 135 = dktX3_day_6 := dk_seg dksX3_day_5 22 rfl rfl
theorem dksX3_day_7 : cX3_day.data.toList.drop 159 = dktX3_day_7 := dk_seg dksX3_day_6 24 rfl rfl
theorem dX3_day_0 : decode cX3_day 0 = .ok (.iconst 0, 1) := dk_3 (dk_at dksX3_day_0 0 rfl rfl)
theorem dX3_day_1 : decode cX3_day 1 = .ok (.istore_n 1, 1) := dk_60 (dk_at dksX3_day_0 1 rfl rfl)
theorem dX3_day_2 : decode cX3_day 2 = .ok (.iload_n 1, 1) := dk_27 (dk_at dksX3_day_0 2 rfl rfl)
theorem dX3_day_3 : decode cX3_day 3 = .ok (.aload_n 0, 1) := dk_42 (dk_at dksX3_day_0 3 rfl rfl)
theorem dX3_day_4 : decode cX3_day 4 = .ok (.getfield 7, 3) := dk_180 0 7 (dk_at dksX3_day_0 4 rfl rfl)
theorem dX3_day_7 : decode cX3_day 7 = .ok (.iconst 0, 1) := dk_3 (dk_at dksX3_day_0 7 rfl rfl)
theorem dX3_day_8 : decode cX3_day 8 = .ok (.iaload, 1) := dk_46 (dk_at dksX3_day_0 8 rfl rfl)
theorem dX3_day_9 : decode cX3_day 9 = .ok (.if_icmp .ge 24, 3) := dk_162 0 24 (dk_at dksX3_day_0 9 rfl rfl)
theorem dX3_day_12 : decode cX3_day 12 = .ok (.aload_n 0, 1) := dk_42 (dk_at dksX3_day_0 12 rfl rfl)
theorem dX3_day_13 : decode cX3_day 13 = .ok (.iload_n 1, 1) := dk_27 (dk_at dksX3_day_0 13 rfl rfl)
theorem dX3_day_14 : decode cX3_day 14 = .ok (.iconst 4, 1) := dk_7 (dk_at dksX3_day_0 14 rfl rfl)
theorem dX3_day_15 : decode cX3_day 15 = .ok (.invokevirtual 78, 3) := dk_182 0 78 (dk_at dksX3_day_0 15 rfl rfl)
theorem dX3_day_18 : decode cX3_day 18 = .ok (.iconst (-1), 1) := dk_2 (dk_at dksX3_day_0 18 rfl rfl)
theorem dX3_day_19 : decode cX3_day 19 = .ok (.if_icmp .eq 8, 3) := dk_159 0 8 (dk_at dksX3_day_0 19 rfl rfl)
theorem dX3_day_22 : decode cX3_day 22 = .ok (.aload_n 0, 1) := dk_42 (dk_at dksX3_day_0 22 rfl rfl)
theorem dX3_day_23 : decode cX3_day 23 = .ok (.iload_n 1, 1) := dk_27 (dk_at dksX3_day_0 23 rfl rfl)
theorem dX3_day_24 : decode cX3_day 24 = .ok (.invokevirtual 156, 3) := dk_182 0 156 (dk_at dksX3_day_1 0 rfl rfl)
theorem dX3_day_27 : decode cX3_day 27 = .ok (.iinc 1 1, 3) := dk_132 1 1 (dk_at dksX3_day_1 3 rfl rfl)
theorem dX3_day_30 : decode cX3_day 30 = .ok (.goto (-28), 3) := dk_167 255 228 (dk_at dksX3_day_1 6 rfl rfl)
theorem dX3_day_33 : decode cX3_day 33 = .ok (.iconst 0, 1) := dk_3 (dk_at dksX3_day_1 9 rfl rfl)
theorem dX3_day_34 : decode cX3_day 34 = .ok (.istore_n 1, 1) := dk_60 (dk_at dksX3_day_1 10 rfl rfl)
theorem dX3_day_35 : decode cX3_day 35 = .ok (.iload_n 1, 1) := dk_27 (dk_at dksX3_day_1 11 rfl rfl)
theorem dX3_day_36 : decode cX3_day 36 = .ok (.aload_n 0, 1) := dk_42 (dk_at dksX3_day_1 12 rfl rfl)
theorem dX3_day_37 : decode cX3_day 37 = .ok (.getfield 7, 3) := dk_180 0 7 (dk_at dksX3_day_1 13 rfl rfl)
theorem dX3_day_40 : decode cX3_day 40 = .ok (.iconst 0, 1) := dk_3 (dk_at dksX3_day_1 16 rfl rfl)
theorem dX3_day_41 : decode cX3_day 41 = .ok (.iaload, 1) := dk_46 (dk_at dksX3_day_1 17 rfl rfl)
theorem dX3_day_42 : decode cX3_day 42 = .ok (.if_icmp .ge 33, 3) := dk_162 0 33 (dk_at dksX3_day_1 18 rfl rfl)
theorem dX3_day_45 : decode cX3_day 45 = .ok (.aload_n 0, 1) := dk_42 (dk_at dksX3_day_1 21 rfl rfl)
theorem dX3_day_46 : decode cX3_day 46 = .ok (.getfield 7, 3) := dk_180 0 7 (dk_at dksX3_day_2 0 rfl rfl)
theorem dX3_day_49 : decode cX3_day 49 = .ok (.iload_n 1, 1) := dk_27 (dk_at dksX3_day_2 3 rfl rfl)
theorem dX3_day_50 : decode cX3_day 50 = .ok (.iconst 3, 1) := dk_6 (dk_at dksX3_day_2 4 rfl rfl)
theorem dX3_day_51 : decode cX3_day 51 = .ok (.invokestatic 56, 3) := dk_184 0 56 (dk_at dksX3_day_2 5 rfl rfl)
theorem dX3_day_54 : decode cX3_day 54 = .ok (.aload_n 0, 1) := dk_42 (dk_at dksX3_day_2 8 rfl rfl)
theorem dX3_day_55 : decode cX3_day 55 = .ok (.iload_n 1, 1) := dk_27 (dk_at dksX3_day_2 9 rfl rfl)
theorem dX3_day_56 : decode cX3_day 56 = .ok (.iconst 3, 1) := dk_6 (dk_at dksX3_day_2 10 rfl rfl)
theorem dX3_day_57 : decode cX3_day 57 = .ok (.invokevirtual 78, 3) := dk_182 0 78 (dk_at dksX3_day_2 11 rfl rfl)
theorem dX3_day_60 : decode cX3_day 60 = .ok (.iconst 1, 1) := dk_4 (dk_at dksX3_day_2 14 rfl rfl)
theorem dX3_day_61 : decode cX3_day 61 = .ok (.iadd, 1) := dk_96 (dk_at dksX3_day_2 15 rfl rfl)
theorem dX3_day_62 : decode cX3_day 62 = .ok (.sipush 999, 3) := dk_17 3 231 (dk_at dksX3_day_2 16 rfl rfl)
theorem dX3_day_65 : decode cX3_day 65 = .ok (.invokestatic 138, 3) := dk_184 0 138 (dk_at dksX3_day_2 19 rfl rfl)
theorem dX3_day_68 : decode cX3_day 68 = .ok (.iastore, 1) := dk_79 (dk_at dksX3_day_2 22 rfl rfl)
theorem dX3_day_69 : decode cX3_day 69 = .ok (.iinc 1 1, 3) := dk_132 1 1 (dk_at dksX3_day_3 0 rfl rfl)
theorem dX3_day_72 : decode cX3_day 72 = .ok (.goto (-37), 3) := dk_167 255 219 (dk_at dksX3_day_3 3 rfl rfl)
theorem dX3_day_75 : decode cX3_day 75 = .ok (.iconst 0, 1) := dk_3 (dk_at dksX3_day_3 6 rfl rfl)
theorem dX3_day_76 : decode cX3_day 76 = .ok (.istore_n 1, 1) := dk_60 (dk_at dksX3_day_3 7 rfl rfl)
theorem dX3_day_77 : decode cX3_day 77 = .ok (.iload_n 1, 1) := dk_27 (dk_at dksX3_day_3 8 rfl rfl)
theorem dX3_day_78 : decode cX3_day 78 = .ok (.bipush 8, 2) := dk_16 8 (dk_at dksX3_day_3 9 rfl rfl)
theorem dX3_day_80 : decode cX3_day 80 = .ok (.if_icmp .ge 14, 3) := dk_162 0 14 (dk_at dksX3_day_3 11 rfl rfl)
theorem dX3_day_83 : decode cX3_day 83 = .ok (.aload_n 0, 1) := dk_42 (dk_at dksX3_day_3 14 rfl rfl)
theorem dX3_day_84 : decode cX3_day 84 = .ok (.iload_n 1, 1) := dk_27 (dk_at dksX3_day_3 15 rfl rfl)
theorem dX3_day_85 : decode cX3_day 85 = .ok (.invokevirtual 160, 3) := dk_182 0 160 (dk_at dksX3_day_3 16 rfl rfl)
theorem dX3_day_88 : decode cX3_day 88 = .ok (.iinc 1 1, 3) := dk_132 1 1 (dk_at dksX3_day_3 19 rfl rfl)
theorem dX3_day_91 : decode cX3_day 91 = .ok (.goto (-14), 3) := dk_167 255 242 (dk_at dksX3_day_4 0 rfl rfl)
theorem dX3_day_94 : decode cX3_day 94 = .ok (.iconst 0, 1) := dk_3 (dk_at dksX3_day_4 3 rfl rfl)
theorem dX3_day_95 : decode cX3_day 95 = .ok (.istore_n 1, 1) := dk_60 (dk_at dksX3_day_4 4 rfl rfl)
theorem dX3_day_96 : decode cX3_day 96 = .ok (.iload_n 1, 1) := dk_27 (dk_at dksX3_day_4 5 rfl rfl)
theorem dX3_day_97 : decode cX3_day 97 = .ok (.aload_n 0, 1) := dk_42 (dk_at dksX3_day_4 6 rfl rfl)
theorem dX3_day_98 : decode cX3_day 98 = .ok (.getfield 7, 3) := dk_180 0 7 (dk_at dksX3_day_4 7 rfl rfl)
theorem dX3_day_101 : decode cX3_day 101 = .ok (.iconst 0, 1) := dk_3 (dk_at dksX3_day_4 10 rfl rfl)
theorem dX3_day_102 : decode cX3_day 102 = .ok (.iaload, 1) := dk_46 (dk_at dksX3_day_4 11 rfl rfl)
theorem dX3_day_103 : decode cX3_day 103 = .ok (.if_icmp .ge 47, 3) := dk_162 0 47 (dk_at dksX3_day_4 12 rfl rfl)
theorem dX3_day_106 : decode cX3_day 106 = .ok (.aload_n 0, 1) := dk_42 (dk_at dksX3_day_4 15 rfl rfl)
theorem dX3_day_107 : decode cX3_day 107 = .ok (.iload_n 1, 1) := dk_27 (dk_at dksX3_day_4 16 rfl rfl)
theorem dX3_day_108 : decode cX3_day 108 = .ok (.iconst 4, 1) := dk_7 (dk_at dksX3_day_4 17 rfl rfl)
theorem dX3_day_109 : decode cX3_day 109 = .ok (.invokevirtual 78, 3) := dk_182 0 78 (dk_at dksX3_day_4 18 rfl rfl)
theorem dX3_day_112 : decode cX3_day 112 = .ok (.iconst (-1), 1) := dk_2 (dk_at dksX3_day_4 21 rfl rfl)
theorem dX3_day_113 : decode cX3_day 113 = .ok (.if_icmp .ne 31, 3) := dk_160 0 31 (dk_at dksX3_day_5 0 rfl rfl)
theorem dX3_day_116 : decode cX3_day 116 = .ok (.aload_n 0, 1) := dk_42 (dk_at dksX3_day_5 3 rfl rfl)
theorem dX3_day_117 : decode cX3_day 117 = .ok (.aload_n 0, 1) := dk_42 (dk_at dksX3_day_5 4 rfl rfl)
theorem dX3_day_118 : decode cX3_day 118 = .ok (.iload_n 1, 1) := dk_27 (dk_at dksX3_day_5 5 rfl rfl)
theorem dX3_day_119 : decode cX3_day 119 = .ok (.iconst 1, 1) := dk_4 (dk_at dksX3_day_5 6 rfl rfl)
theorem dX3_day_120 : decode cX3_day 120 = .ok (.invokevirtual 78, 3) := dk_182 0 78 (dk_at dksX3_day_5 7 rfl rfl)
theorem dX3_day_123 : decode cX3_day 123 = .ok (.invokevirtual 131, 3) := dk_182 0 131 (dk_at dksX3_day_5 10 rfl rfl)
theorem dX3_day_126 : decode cX3_day 126 = .ok (.ifCond .ne 18, 3) := dk_154 0 18 (dk_at dksX3_day_5 13 rfl rfl)
theorem dX3_day_129 : decode cX3_day 129 = .ok (.aload_n 0, 1) := dk_42 (dk_at dksX3_day_5 16 rfl rfl)
theorem dX3_day_130 : decode cX3_day 130 = .ok (.getfield 7, 3) := dk_180 0 7 (dk_at dksX3_day_5 17 rfl rfl)
theorem dX3_day_133 : decode cX3_day 133 = .ok (.iload_n 1, 1) := dk_27 (dk_at dksX3_day_5 20 rfl rfl)
theorem dX3_day_134 : decode cX3_day 134 = .ok (.iconst 4, 1) := dk_7 (dk_at dksX3_day_5 21 rfl rfl)
theorem dX3_day_135 : decode cX3_day 135 = .ok (.invokestatic 56, 3) := dk_184 0 56 (dk_at dksX3_day_6 0 rfl rfl)
theorem dX3_day_138 : decode cX3_day 138 = .ok (.aload_n 0, 1) := dk_42 (dk_at dksX3_day_6 3 rfl rfl)
theorem dX3_day_139 : decode cX3_day 139 = .ok (.iload_n 1, 1) := dk_27 (dk_at dksX3_day_6 4 rfl rfl)
theorem dX3_day_140 : decode cX3_day 140 = .ok (.invokevirtual 135, 3) := dk_182 0 135 (dk_at dksX3_day_6 5 rfl rfl)
theorem dX3_day_143 : decode cX3_day 143 = .ok (.iastore, 1) := dk_79 (dk_at dksX3_day_6 8 rfl rfl)
theorem dX3_day_144 : decode cX3_day 144 = .ok (.iinc 1 1, 3) := dk_132 1 1 (dk_at dksX3_day_6 9 rfl rfl)
theorem dX3_day_147 : decode cX3_day 147 = .ok (.goto (-51), 3) := dk_167 255 205 (dk_at dksX3_day_6 12 rfl rfl)
theorem dX3_day_150 : decode cX3_day 150 = .ok (.aload_n 0, 1) := dk_42 (dk_at dksX3_day_6 15 rfl rfl)
theorem dX3_day_151 : decode cX3_day 151 = .ok (.getfield 7, 3) := dk_180 0 7 (dk_at dksX3_day_6 16 rfl rfl)
theorem dX3_day_154 : decode cX3_day 154 = .ok (.iconst 1, 1) := dk_4 (dk_at dksX3_day_6 19 rfl rfl)
theorem dX3_day_155 : decode cX3_day 155 = .ok (.dup2, 1) := dk_92 (dk_at dksX3_day_6 20 rfl rfl)
theorem dX3_day_156 : decode cX3_day 156 = .ok (.iaload, 1) := dk_46 (dk_at dksX3_day_6 21 rfl rfl)
theorem dX3_day_157 : decode cX3_day 157 = .ok (.iconst 1, 1) := dk_4 (dk_at dksX3_day_6 22 rfl rfl)
theorem dX3_day_158 : decode cX3_day 158 = .ok (.iadd, 1) := dk_96 (dk_at dksX3_day_6 23 rfl rfl)
theorem dX3_day_159 : decode cX3_day 159 = .ok (.iastore, 1) := dk_79 (dk_at dksX3_day_7 0 rfl rfl)
theorem dX3_day_160 : decode cX3_day 160 = .ok (.return_, 1) := dk_177 (dk_at dksX3_day_7 1 rfl rfl)
abbrev cX3_feeds : ByteArray := prog_17_method_45_code
def yX3_feeds : MethodName := ⟨RX3, "feeds", "(I)V"⟩
def dkwX3_feeds_3 : List UInt8 := [5, 182, 0, 78, 42, 27, 182, 0, 112, 96, 16, 99, 184, 0, 138, 79, 177]
abbrev dktX3_feeds_3 : List UInt8 := dkwX3_feeds_3 ++ []
def dkwX3_feeds_2 : List UInt8 := [180, 0, 7, 28, 92, 46, 42, 27, 182, 0, 81, 100, 79, 42, 180, 0, 7, 27, 5, 184, 0, 56, 42, 27]
abbrev dktX3_feeds_2 : List UInt8 := dkwX3_feeds_2 ++ dktX3_feeds_3
def dkwX3_feeds_1 : List UInt8 := [162, 0, 22, 42, 180, 0, 7, 28, 3, 79, 42, 180, 0, 7, 27, 7, 184, 0, 56, 2, 79, 177, 42]
abbrev dktX3_feeds_1 : List UInt8 := dkwX3_feeds_1 ++ dktX3_feeds_2
def dkwX3_feeds_0 : List UInt8 := [42, 27, 7, 182, 0, 78, 4, 184, 0, 41, 61, 42, 180, 0, 7, 28, 46, 42, 27, 182, 0, 81]
abbrev dktX3_feeds_0 : List UInt8 := dkwX3_feeds_0 ++ dktX3_feeds_1
theorem dksX3_feeds_0 : cX3_feeds.data.toList.drop 0 = dktX3_feeds_0 := by decide +kernel
theorem dksX3_feeds_1 : cX3_feeds.data.toList.drop 22 = dktX3_feeds_1 := dk_seg dksX3_feeds_0 22 rfl rfl
theorem dksX3_feeds_2 : cX3_feeds.data.toList.drop 45 = dktX3_feeds_2 := dk_seg dksX3_feeds_1 23 rfl rfl
theorem dksX3_feeds_3 : cX3_feeds.data.toList.drop 69 = dktX3_feeds_3 := dk_seg dksX3_feeds_2 24 rfl rfl
theorem dX3_feeds_0 : decode cX3_feeds 0 = .ok (.aload_n 0, 1) := dk_42 (dk_at dksX3_feeds_0 0 rfl rfl)
theorem dX3_feeds_1 : decode cX3_feeds 1 = .ok (.iload_n 1, 1) := dk_27 (dk_at dksX3_feeds_0 1 rfl rfl)
theorem dX3_feeds_2 : decode cX3_feeds 2 = .ok (.iconst 4, 1) := dk_7 (dk_at dksX3_feeds_0 2 rfl rfl)
theorem dX3_feeds_3 : decode cX3_feeds 3 = .ok (.invokevirtual 78, 3) := dk_182 0 78 (dk_at dksX3_feeds_0 3 rfl rfl)
theorem dX3_feeds_6 : decode cX3_feeds 6 = .ok (.iconst 1, 1) := dk_4 (dk_at dksX3_feeds_0 6 rfl rfl)
theorem dX3_feeds_7 : decode cX3_feeds 7 = .ok (.invokestatic 41, 3) := dk_184 0 41 (dk_at dksX3_feeds_0 7 rfl rfl)
theorem dX3_feeds_10 : decode cX3_feeds 10 = .ok (.istore_n 2, 1) := dk_61 (dk_at dksX3_feeds_0 10 rfl rfl)
theorem dX3_feeds_11 : decode cX3_feeds 11 = .ok (.aload_n 0, 1) := dk_42 (dk_at dksX3_feeds_0 11 rfl rfl)
theorem dX3_feeds_12 : decode cX3_feeds 12 = .ok (.getfield 7, 3) := dk_180 0 7 (dk_at dksX3_feeds_0 12 rfl rfl)
theorem dX3_feeds_15 : decode cX3_feeds 15 = .ok (.iload_n 2, 1) := dk_28 (dk_at dksX3_feeds_0 15 rfl rfl)
theorem dX3_feeds_16 : decode cX3_feeds 16 = .ok (.iaload, 1) := dk_46 (dk_at dksX3_feeds_0 16 rfl rfl)
theorem dX3_feeds_17 : decode cX3_feeds 17 = .ok (.aload_n 0, 1) := dk_42 (dk_at dksX3_feeds_0 17 rfl rfl)
theorem dX3_feeds_18 : decode cX3_feeds 18 = .ok (.iload_n 1, 1) := dk_27 (dk_at dksX3_feeds_0 18 rfl rfl)
theorem dX3_feeds_19 : decode cX3_feeds 19 = .ok (.invokevirtual 81, 3) := dk_182 0 81 (dk_at dksX3_feeds_0 19 rfl rfl)
theorem dX3_feeds_22 : decode cX3_feeds 22 = .ok (.if_icmp .ge 22, 3) := dk_162 0 22 (dk_at dksX3_feeds_1 0 rfl rfl)
theorem dX3_feeds_25 : decode cX3_feeds 25 = .ok (.aload_n 0, 1) := dk_42 (dk_at dksX3_feeds_1 3 rfl rfl)
theorem dX3_feeds_26 : decode cX3_feeds 26 = .ok (.getfield 7, 3) := dk_180 0 7 (dk_at dksX3_feeds_1 4 rfl rfl)
theorem dX3_feeds_29 : decode cX3_feeds 29 = .ok (.iload_n 2, 1) := dk_28 (dk_at dksX3_feeds_1 7 rfl rfl)
theorem dX3_feeds_30 : decode cX3_feeds 30 = .ok (.iconst 0, 1) := dk_3 (dk_at dksX3_feeds_1 8 rfl rfl)
theorem dX3_feeds_31 : decode cX3_feeds 31 = .ok (.iastore, 1) := dk_79 (dk_at dksX3_feeds_1 9 rfl rfl)
theorem dX3_feeds_32 : decode cX3_feeds 32 = .ok (.aload_n 0, 1) := dk_42 (dk_at dksX3_feeds_1 10 rfl rfl)
theorem dX3_feeds_33 : decode cX3_feeds 33 = .ok (.getfield 7, 3) := dk_180 0 7 (dk_at dksX3_feeds_1 11 rfl rfl)
theorem dX3_feeds_36 : decode cX3_feeds 36 = .ok (.iload_n 1, 1) := dk_27 (dk_at dksX3_feeds_1 14 rfl rfl)
theorem dX3_feeds_37 : decode cX3_feeds 37 = .ok (.iconst 4, 1) := dk_7 (dk_at dksX3_feeds_1 15 rfl rfl)
theorem dX3_feeds_38 : decode cX3_feeds 38 = .ok (.invokestatic 56, 3) := dk_184 0 56 (dk_at dksX3_feeds_1 16 rfl rfl)
theorem dX3_feeds_41 : decode cX3_feeds 41 = .ok (.iconst (-1), 1) := dk_2 (dk_at dksX3_feeds_1 19 rfl rfl)
theorem dX3_feeds_42 : decode cX3_feeds 42 = .ok (.iastore, 1) := dk_79 (dk_at dksX3_feeds_1 20 rfl rfl)
theorem dX3_feeds_43 : decode cX3_feeds 43 = .ok (.return_, 1) := dk_177 (dk_at dksX3_feeds_1 21 rfl rfl)
theorem dX3_feeds_44 : decode cX3_feeds 44 = .ok (.aload_n 0, 1) := dk_42 (dk_at dksX3_feeds_1 22 rfl rfl)
theorem dX3_feeds_45 : decode cX3_feeds 45 = .ok (.getfield 7, 3) := dk_180 0 7 (dk_at dksX3_feeds_2 0 rfl rfl)
theorem dX3_feeds_48 : decode cX3_feeds 48 = .ok (.iload_n 2, 1) := dk_28 (dk_at dksX3_feeds_2 3 rfl rfl)
theorem dX3_feeds_49 : decode cX3_feeds 49 = .ok (.dup2, 1) := dk_92 (dk_at dksX3_feeds_2 4 rfl rfl)
theorem dX3_feeds_50 : decode cX3_feeds 50 = .ok (.iaload, 1) := dk_46 (dk_at dksX3_feeds_2 5 rfl rfl)
theorem dX3_feeds_51 : decode cX3_feeds 51 = .ok (.aload_n 0, 1) := dk_42 (dk_at dksX3_feeds_2 6 rfl rfl)
theorem dX3_feeds_52 : decode cX3_feeds 52 = .ok (.iload_n 1, 1) := dk_27 (dk_at dksX3_feeds_2 7 rfl rfl)
theorem dX3_feeds_53 : decode cX3_feeds 53 = .ok (.invokevirtual 81, 3) := dk_182 0 81 (dk_at dksX3_feeds_2 8 rfl rfl)
theorem dX3_feeds_56 : decode cX3_feeds 56 = .ok (.isub, 1) := dk_100 (dk_at dksX3_feeds_2 11 rfl rfl)
theorem dX3_feeds_57 : decode cX3_feeds 57 = .ok (.iastore, 1) := dk_79 (dk_at dksX3_feeds_2 12 rfl rfl)
theorem dX3_feeds_58 : decode cX3_feeds 58 = .ok (.aload_n 0, 1) := dk_42 (dk_at dksX3_feeds_2 13 rfl rfl)
theorem dX3_feeds_59 : decode cX3_feeds 59 = .ok (.getfield 7, 3) := dk_180 0 7 (dk_at dksX3_feeds_2 14 rfl rfl)
theorem dX3_feeds_62 : decode cX3_feeds 62 = .ok (.iload_n 1, 1) := dk_27 (dk_at dksX3_feeds_2 17 rfl rfl)
theorem dX3_feeds_63 : decode cX3_feeds 63 = .ok (.iconst 2, 1) := dk_5 (dk_at dksX3_feeds_2 18 rfl rfl)
theorem dX3_feeds_64 : decode cX3_feeds 64 = .ok (.invokestatic 56, 3) := dk_184 0 56 (dk_at dksX3_feeds_2 19 rfl rfl)
theorem dX3_feeds_67 : decode cX3_feeds 67 = .ok (.aload_n 0, 1) := dk_42 (dk_at dksX3_feeds_2 22 rfl rfl)
theorem dX3_feeds_68 : decode cX3_feeds 68 = .ok (.iload_n 1, 1) := dk_27 (dk_at dksX3_feeds_2 23 rfl rfl)
theorem dX3_feeds_69 : decode cX3_feeds 69 = .ok (.iconst 2, 1) := dk_5 (dk_at dksX3_feeds_3 0 rfl rfl)
theorem dX3_feeds_70 : decode cX3_feeds 70 = .ok (.invokevirtual 78, 3) := dk_182 0 78 (dk_at dksX3_feeds_3 1 rfl rfl)
theorem dX3_feeds_73 : decode cX3_feeds 73 = .ok (.aload_n 0, 1) := dk_42 (dk_at dksX3_feeds_3 4 rfl rfl)
theorem dX3_feeds_74 : decode cX3_feeds 74 = .ok (.iload_n 1, 1) := dk_27 (dk_at dksX3_feeds_3 5 rfl rfl)
theorem dX3_feeds_75 : decode cX3_feeds 75 = .ok (.invokevirtual 112, 3) := dk_182 0 112 (dk_at dksX3_feeds_3 6 rfl rfl)
theorem dX3_feeds_78 : decode cX3_feeds 78 = .ok (.iadd, 1) := dk_96 (dk_at dksX3_feeds_3 9 rfl rfl)
theorem dX3_feeds_79 : decode cX3_feeds 79 = .ok (.bipush 99, 2) := dk_16 99 (dk_at dksX3_feeds_3 10 rfl rfl)
theorem dX3_feeds_81 : decode cX3_feeds 81 = .ok (.invokestatic 138, 3) := dk_184 0 138 (dk_at dksX3_feeds_3 12 rfl rfl)
theorem dX3_feeds_84 : decode cX3_feeds 84 = .ok (.iastore, 1) := dk_79 (dk_at dksX3_feeds_3 15 rfl rfl)
theorem dX3_feeds_85 : decode cX3_feeds 85 = .ok (.return_, 1) := dk_177 (dk_at dksX3_feeds_3 16 rfl rfl)
abbrev cX3_makesThird : ByteArray := prog_17_method_48_code
def yX3_makesThird : MethodName := ⟨RX3, "makesThird", "(I)V"⟩
def dkwX3_makesThird_5 : List UInt8 := [42, 3, 28, 182, 0, 103, 54, 6, 42, 180, 0, 7, 21, 6, 5, 184, 0, 56, 21, 4, 5, 108, 79, 177]
abbrev dktX3_makesThird_5 : List UInt8 := dkwX3_makesThird_5 ++ []
def dkwX3_makesThird_4 : List UInt8 := [160, 0, 18, 21, 4, 42, 21, 6, 5, 182, 0, 78, 96, 54, 4, 132, 5, 1, 132, 6, 1, 167, 255, 211]
abbrev dktX3_makesThird_4 : List UInt8 := dkwX3_makesThird_4 ++ dktX3_makesThird_5
def dkwX3_makesThird_3 : List UInt8 := [42, 180, 0, 7, 3, 46, 162, 0, 40, 21, 5, 5, 162, 0, 34, 29, 21, 6, 122, 4, 126, 4]
abbrev dktX3_makesThird_3 : List UInt8 := dkwX3_makesThird_3 ++ dktX3_makesThird_4
def dkwX3_makesThird_2 : List UInt8 := [16, 10, 160, 0, 4, 177, 42, 27, 28, 182, 0, 150, 62, 3, 54, 4, 3, 54, 5, 3, 54, 6, 21, 6]
abbrev dktX3_makesThird_2 : List UInt8 := dkwX3_makesThird_2 ++ dktX3_makesThird_3
def dkwX3_makesThird_1 : List UInt8 := [167, 255, 234, 28, 16, 16, 159, 0, 22, 42, 28, 182, 0, 153, 154, 0, 14, 42, 180, 0, 7, 3, 46]
abbrev dktX3_makesThird_1 : List UInt8 := dkwX3_makesThird_1 ++ dktX3_makesThird_2
def dkwX3_makesThird_0 : List UInt8 := [3, 61, 28, 16, 16, 162, 0, 22, 42, 27, 28, 182, 0, 150, 184, 0, 122, 5, 162, 0, 9, 132, 2, 1]
abbrev dktX3_makesThird_0 : List UInt8 := dkwX3_makesThird_0 ++ dktX3_makesThird_1
theorem dksX3_makesThird_0 : cX3_makesThird.data.toList.drop 0 = dktX3_makesThird_0 := by decide +kernel
theorem dksX3_makesThird_1 : cX3_makesThird.data.toList.drop 24 = dktX3_makesThird_1 := dk_seg dksX3_makesThird_0 24 rfl rfl
theorem dksX3_makesThird_2 : cX3_makesThird.data.toList.drop 47 = dktX3_makesThird_2 := dk_seg dksX3_makesThird_1 23 rfl rfl
theorem dksX3_makesThird_3 : cX3_makesThird.data.toList.drop 71 = dktX3_makesThird_3 := dk_seg dksX3_makesThird_2 24 rfl rfl
theorem dksX3_makesThird_4 : cX3_makesThird.data.toList.drop 93 = dktX3_makesThird_4 := dk_seg dksX3_makesThird_3 22 rfl rfl
theorem dksX3_makesThird_5 : cX3_makesThird.data.toList.drop 117 = dktX3_makesThird_5 := dk_seg dksX3_makesThird_4 24 rfl rfl
theorem dX3_makesThird_0 : decode cX3_makesThird 0 = .ok (.iconst 0, 1) := dk_3 (dk_at dksX3_makesThird_0 0 rfl rfl)
theorem dX3_makesThird_1 : decode cX3_makesThird 1 = .ok (.istore_n 2, 1) := dk_61 (dk_at dksX3_makesThird_0 1 rfl rfl)
theorem dX3_makesThird_2 : decode cX3_makesThird 2 = .ok (.iload_n 2, 1) := dk_28 (dk_at dksX3_makesThird_0 2 rfl rfl)
theorem dX3_makesThird_3 : decode cX3_makesThird 3 = .ok (.bipush 16, 2) := dk_16 16 (dk_at dksX3_makesThird_0 3 rfl rfl)
theorem dX3_makesThird_5 : decode cX3_makesThird 5 = .ok (.if_icmp .ge 22, 3) := dk_162 0 22 (dk_at dksX3_makesThird_0 5 rfl rfl)
theorem dX3_makesThird_8 : decode cX3_makesThird 8 = .ok (.aload_n 0, 1) := dk_42 (dk_at dksX3_makesThird_0 8 rfl rfl)
theorem dX3_makesThird_9 : decode cX3_makesThird 9 = .ok (.iload_n 1, 1) := dk_27 (dk_at dksX3_makesThird_0 9 rfl rfl)
theorem dX3_makesThird_10 : decode cX3_makesThird 10 = .ok (.iload_n 2, 1) := dk_28 (dk_at dksX3_makesThird_0 10 rfl rfl)
theorem dX3_makesThird_11 : decode cX3_makesThird 11 = .ok (.invokevirtual 150, 3) := dk_182 0 150 (dk_at dksX3_makesThird_0 11 rfl rfl)
theorem dX3_makesThird_14 : decode cX3_makesThird 14 = .ok (.invokestatic 122, 3) := dk_184 0 122 (dk_at dksX3_makesThird_0 14 rfl rfl)
theorem dX3_makesThird_17 : decode cX3_makesThird 17 = .ok (.iconst 2, 1) := dk_5 (dk_at dksX3_makesThird_0 17 rfl rfl)
theorem dX3_makesThird_18 : decode cX3_makesThird 18 = .ok (.if_icmp .ge 9, 3) := dk_162 0 9 (dk_at dksX3_makesThird_0 18 rfl rfl)
theorem dX3_makesThird_21 : decode cX3_makesThird 21 = .ok (.iinc 2 1, 3) := dk_132 2 1 (dk_at dksX3_makesThird_0 21 rfl rfl)
theorem dX3_makesThird_24 : decode cX3_makesThird 24 = .ok (.goto (-22), 3) := dk_167 255 234 (dk_at dksX3_makesThird_1 0 rfl rfl)
theorem dX3_makesThird_27 : decode cX3_makesThird 27 = .ok (.iload_n 2, 1) := dk_28 (dk_at dksX3_makesThird_1 3 rfl rfl)
theorem dX3_makesThird_28 : decode cX3_makesThird 28 = .ok (.bipush 16, 2) := dk_16 16 (dk_at dksX3_makesThird_1 4 rfl rfl)
theorem dX3_makesThird_30 : decode cX3_makesThird 30 = .ok (.if_icmp .eq 22, 3) := dk_159 0 22 (dk_at dksX3_makesThird_1 6 rfl rfl)
theorem dX3_makesThird_33 : decode cX3_makesThird 33 = .ok (.aload_n 0, 1) := dk_42 (dk_at dksX3_makesThird_1 9 rfl rfl)
theorem dX3_makesThird_34 : decode cX3_makesThird 34 = .ok (.iload_n 2, 1) := dk_28 (dk_at dksX3_makesThird_1 10 rfl rfl)
theorem dX3_makesThird_35 : decode cX3_makesThird 35 = .ok (.invokevirtual 153, 3) := dk_182 0 153 (dk_at dksX3_makesThird_1 11 rfl rfl)
theorem dX3_makesThird_38 : decode cX3_makesThird 38 = .ok (.ifCond .ne 14, 3) := dk_154 0 14 (dk_at dksX3_makesThird_1 14 rfl rfl)
theorem dX3_makesThird_41 : decode cX3_makesThird 41 = .ok (.aload_n 0, 1) := dk_42 (dk_at dksX3_makesThird_1 17 rfl rfl)
theorem dX3_makesThird_42 : decode cX3_makesThird 42 = .ok (.getfield 7, 3) := dk_180 0 7 (dk_at dksX3_makesThird_1 18 rfl rfl)
theorem dX3_makesThird_45 : decode cX3_makesThird 45 = .ok (.iconst 0, 1) := dk_3 (dk_at dksX3_makesThird_1 21 rfl rfl)
theorem dX3_makesThird_46 : decode cX3_makesThird 46 = .ok (.iaload, 1) := dk_46 (dk_at dksX3_makesThird_1 22 rfl rfl)
theorem dX3_makesThird_47 : decode cX3_makesThird 47 = .ok (.bipush 10, 2) := dk_16 10 (dk_at dksX3_makesThird_2 0 rfl rfl)
theorem dX3_makesThird_49 : decode cX3_makesThird 49 = .ok (.if_icmp .ne 4, 3) := dk_160 0 4 (dk_at dksX3_makesThird_2 2 rfl rfl)
theorem dX3_makesThird_52 : decode cX3_makesThird 52 = .ok (.return_, 1) := dk_177 (dk_at dksX3_makesThird_2 5 rfl rfl)
theorem dX3_makesThird_53 : decode cX3_makesThird 53 = .ok (.aload_n 0, 1) := dk_42 (dk_at dksX3_makesThird_2 6 rfl rfl)
theorem dX3_makesThird_54 : decode cX3_makesThird 54 = .ok (.iload_n 1, 1) := dk_27 (dk_at dksX3_makesThird_2 7 rfl rfl)
theorem dX3_makesThird_55 : decode cX3_makesThird 55 = .ok (.iload_n 2, 1) := dk_28 (dk_at dksX3_makesThird_2 8 rfl rfl)
theorem dX3_makesThird_56 : decode cX3_makesThird 56 = .ok (.invokevirtual 150, 3) := dk_182 0 150 (dk_at dksX3_makesThird_2 9 rfl rfl)
theorem dX3_makesThird_59 : decode cX3_makesThird 59 = .ok (.istore_n 3, 1) := dk_62 (dk_at dksX3_makesThird_2 12 rfl rfl)
theorem dX3_makesThird_60 : decode cX3_makesThird 60 = .ok (.iconst 0, 1) := dk_3 (dk_at dksX3_makesThird_2 13 rfl rfl)
theorem dX3_makesThird_61 : decode cX3_makesThird 61 = .ok (.istore 4, 2) := dk_54 4 (dk_at dksX3_makesThird_2 14 rfl rfl)
theorem dX3_makesThird_63 : decode cX3_makesThird 63 = .ok (.iconst 0, 1) := dk_3 (dk_at dksX3_makesThird_2 16 rfl rfl)
theorem dX3_makesThird_64 : decode cX3_makesThird 64 = .ok (.istore 5, 2) := dk_54 5 (dk_at dksX3_makesThird_2 17 rfl rfl)
theorem dX3_makesThird_66 : decode cX3_makesThird 66 = .ok (.iconst 0, 1) := dk_3 (dk_at dksX3_makesThird_2 19 rfl rfl)
theorem dX3_makesThird_67 : decode cX3_makesThird 67 = .ok (.istore 6, 2) := dk_54 6 (dk_at dksX3_makesThird_2 20 rfl rfl)
theorem dX3_makesThird_69 : decode cX3_makesThird 69 = .ok (.iload 6, 2) := dk_21 6 (dk_at dksX3_makesThird_2 22 rfl rfl)
theorem dX3_makesThird_71 : decode cX3_makesThird 71 = .ok (.aload_n 0, 1) := dk_42 (dk_at dksX3_makesThird_3 0 rfl rfl)
theorem dX3_makesThird_72 : decode cX3_makesThird 72 = .ok (.getfield 7, 3) := dk_180 0 7 (dk_at dksX3_makesThird_3 1 rfl rfl)
theorem dX3_makesThird_75 : decode cX3_makesThird 75 = .ok (.iconst 0, 1) := dk_3 (dk_at dksX3_makesThird_3 4 rfl rfl)
theorem dX3_makesThird_76 : decode cX3_makesThird 76 = .ok (.iaload, 1) := dk_46 (dk_at dksX3_makesThird_3 5 rfl rfl)
theorem dX3_makesThird_77 : decode cX3_makesThird 77 = .ok (.if_icmp .ge 40, 3) := dk_162 0 40 (dk_at dksX3_makesThird_3 6 rfl rfl)
theorem dX3_makesThird_80 : decode cX3_makesThird 80 = .ok (.iload 5, 2) := dk_21 5 (dk_at dksX3_makesThird_3 9 rfl rfl)
theorem dX3_makesThird_82 : decode cX3_makesThird 82 = .ok (.iconst 2, 1) := dk_5 (dk_at dksX3_makesThird_3 11 rfl rfl)
theorem dX3_makesThird_83 : decode cX3_makesThird 83 = .ok (.if_icmp .ge 34, 3) := dk_162 0 34 (dk_at dksX3_makesThird_3 12 rfl rfl)
theorem dX3_makesThird_86 : decode cX3_makesThird 86 = .ok (.iload_n 3, 1) := dk_29 (dk_at dksX3_makesThird_3 15 rfl rfl)
theorem dX3_makesThird_87 : decode cX3_makesThird 87 = .ok (.iload 6, 2) := dk_21 6 (dk_at dksX3_makesThird_3 16 rfl rfl)
theorem dX3_makesThird_89 : decode cX3_makesThird 89 = .ok (.ishr, 1) := dk_122 (dk_at dksX3_makesThird_3 18 rfl rfl)
theorem dX3_makesThird_90 : decode cX3_makesThird 90 = .ok (.iconst 1, 1) := dk_4 (dk_at dksX3_makesThird_3 19 rfl rfl)
theorem dX3_makesThird_91 : decode cX3_makesThird 91 = .ok (.iand, 1) := dk_126 (dk_at dksX3_makesThird_3 20 rfl rfl)
theorem dX3_makesThird_92 : decode cX3_makesThird 92 = .ok (.iconst 1, 1) := dk_4 (dk_at dksX3_makesThird_3 21 rfl rfl)
theorem dX3_makesThird_93 : decode cX3_makesThird 93 = .ok (.if_icmp .ne 18, 3) := dk_160 0 18 (dk_at dksX3_makesThird_4 0 rfl rfl)
theorem dX3_makesThird_96 : decode cX3_makesThird 96 = .ok (.iload 4, 2) := dk_21 4 (dk_at dksX3_makesThird_4 3 rfl rfl)
theorem dX3_makesThird_98 : decode cX3_makesThird 98 = .ok (.aload_n 0, 1) := dk_42 (dk_at dksX3_makesThird_4 5 rfl rfl)
theorem dX3_makesThird_99 : decode cX3_makesThird 99 = .ok (.iload 6, 2) := dk_21 6 (dk_at dksX3_makesThird_4 6 rfl rfl)
theorem dX3_makesThird_101 : decode cX3_makesThird 101 = .ok (.iconst 2, 1) := dk_5 (dk_at dksX3_makesThird_4 8 rfl rfl)
theorem dX3_makesThird_102 : decode cX3_makesThird 102 = .ok (.invokevirtual 78, 3) := dk_182 0 78 (dk_at dksX3_makesThird_4 9 rfl rfl)
theorem dX3_makesThird_105 : decode cX3_makesThird 105 = .ok (.iadd, 1) := dk_96 (dk_at dksX3_makesThird_4 12 rfl rfl)
theorem dX3_makesThird_106 : decode cX3_makesThird 106 = .ok (.istore 4, 2) := dk_54 4 (dk_at dksX3_makesThird_4 13 rfl rfl)
theorem dX3_makesThird_108 : decode cX3_makesThird 108 = .ok (.iinc 5 1, 3) := dk_132 5 1 (dk_at dksX3_makesThird_4 15 rfl rfl)
theorem dX3_makesThird_111 : decode cX3_makesThird 111 = .ok (.iinc 6 1, 3) := dk_132 6 1 (dk_at dksX3_makesThird_4 18 rfl rfl)
theorem dX3_makesThird_114 : decode cX3_makesThird 114 = .ok (.goto (-45), 3) := dk_167 255 211 (dk_at dksX3_makesThird_4 21 rfl rfl)
theorem dX3_makesThird_117 : decode cX3_makesThird 117 = .ok (.aload_n 0, 1) := dk_42 (dk_at dksX3_makesThird_5 0 rfl rfl)
theorem dX3_makesThird_118 : decode cX3_makesThird 118 = .ok (.iconst 0, 1) := dk_3 (dk_at dksX3_makesThird_5 1 rfl rfl)
theorem dX3_makesThird_119 : decode cX3_makesThird 119 = .ok (.iload_n 2, 1) := dk_28 (dk_at dksX3_makesThird_5 2 rfl rfl)
theorem dX3_makesThird_120 : decode cX3_makesThird 120 = .ok (.invokevirtual 103, 3) := dk_182 0 103 (dk_at dksX3_makesThird_5 3 rfl rfl)
theorem dX3_makesThird_123 : decode cX3_makesThird 123 = .ok (.istore 6, 2) := dk_54 6 (dk_at dksX3_makesThird_5 6 rfl rfl)
theorem dX3_makesThird_125 : decode cX3_makesThird 125 = .ok (.aload_n 0, 1) := dk_42 (dk_at dksX3_makesThird_5 8 rfl rfl)
theorem dX3_makesThird_126 : decode cX3_makesThird 126 = .ok (.getfield 7, 3) := dk_180 0 7 (dk_at dksX3_makesThird_5 9 rfl rfl)
theorem dX3_makesThird_129 : decode cX3_makesThird 129 = .ok (.iload 6, 2) := dk_21 6 (dk_at dksX3_makesThird_5 12 rfl rfl)
theorem dX3_makesThird_131 : decode cX3_makesThird 131 = .ok (.iconst 2, 1) := dk_5 (dk_at dksX3_makesThird_5 14 rfl rfl)
theorem dX3_makesThird_132 : decode cX3_makesThird 132 = .ok (.invokestatic 56, 3) := dk_184 0 56 (dk_at dksX3_makesThird_5 15 rfl rfl)
theorem dX3_makesThird_135 : decode cX3_makesThird 135 = .ok (.iload 4, 2) := dk_21 4 (dk_at dksX3_makesThird_5 18 rfl rfl)
theorem dX3_makesThird_137 : decode cX3_makesThird 137 = .ok (.iconst 2, 1) := dk_5 (dk_at dksX3_makesThird_5 20 rfl rfl)
theorem dX3_makesThird_138 : decode cX3_makesThird 138 = .ok (.idiv, 1) := dk_108 (dk_at dksX3_makesThird_5 21 rfl rfl)
theorem dX3_makesThird_139 : decode cX3_makesThird 139 = .ok (.iastore, 1) := dk_79 (dk_at dksX3_makesThird_5 22 rfl rfl)
theorem dX3_makesThird_140 : decode cX3_makesThird 140 = .ok (.return_, 1) := dk_177 (dk_at dksX3_makesThird_5 23 rfl rfl)
abbrev cX3_lodgersOf : ByteArray := prog_17_method_47_code
def yX3_lodgersOf : MethodName := ⟨RX3, "lodgersOf", "(II)I"⟩
def dkwX3_lodgersOf_2 : List UInt8 := [62, 132, 4, 1, 167, 255, 209, 29, 172]
abbrev dktX3_lodgersOf_2 : List UInt8 := dkwX3_lodgersOf_2 ++ []
def dkwX3_lodgersOf_1 : List UInt8 := [27, 160, 0, 21, 42, 21, 4, 4, 182, 0, 78, 28, 160, 0, 10, 4, 21, 4, 120, 167, 0, 4, 3, 128]
abbrev dktX3_lodgersOf_1 : List UInt8 := dkwX3_lodgersOf_1 ++ dktX3_lodgersOf_2
def dkwX3_lodgersOf_0 : List UInt8 := [3, 62, 3, 54, 4, 21, 4, 42, 180, 0, 7, 3, 46, 162, 0, 42, 29, 42, 21, 4, 7, 182, 0, 78]
abbrev dktX3_lodgersOf_0 : List UInt8 := dkwX3_lodgersOf_0 ++ dktX3_lodgersOf_1
theorem dksX3_lodgersOf_0 : cX3_lodgersOf.data.toList.drop 0 = dktX3_lodgersOf_0 := by decide +kernel
theorem dksX3_lodgersOf_1 : cX3_lodgersOf.data.toList.drop 24 = dktX3_lodgersOf_1 := dk_seg dksX3_lodgersOf_0 24 rfl rfl
theorem dksX3_lodgersOf_2 : cX3_lodgersOf.data.toList.drop 48 = dktX3_lodgersOf_2 := dk_seg dksX3_lodgersOf_1 24 rfl rfl
theorem dX3_lodgersOf_0 : decode cX3_lodgersOf 0 = .ok (.iconst 0, 1) := dk_3 (dk_at dksX3_lodgersOf_0 0 rfl rfl)
theorem dX3_lodgersOf_1 : decode cX3_lodgersOf 1 = .ok (.istore_n 3, 1) := dk_62 (dk_at dksX3_lodgersOf_0 1 rfl rfl)
theorem dX3_lodgersOf_2 : decode cX3_lodgersOf 2 = .ok (.iconst 0, 1) := dk_3 (dk_at dksX3_lodgersOf_0 2 rfl rfl)
theorem dX3_lodgersOf_3 : decode cX3_lodgersOf 3 = .ok (.istore 4, 2) := dk_54 4 (dk_at dksX3_lodgersOf_0 3 rfl rfl)
theorem dX3_lodgersOf_5 : decode cX3_lodgersOf 5 = .ok (.iload 4, 2) := dk_21 4 (dk_at dksX3_lodgersOf_0 5 rfl rfl)
theorem dX3_lodgersOf_7 : decode cX3_lodgersOf 7 = .ok (.aload_n 0, 1) := dk_42 (dk_at dksX3_lodgersOf_0 7 rfl rfl)
theorem dX3_lodgersOf_8 : decode cX3_lodgersOf 8 = .ok (.getfield 7, 3) := dk_180 0 7 (dk_at dksX3_lodgersOf_0 8 rfl rfl)
theorem dX3_lodgersOf_11 : decode cX3_lodgersOf 11 = .ok (.iconst 0, 1) := dk_3 (dk_at dksX3_lodgersOf_0 11 rfl rfl)
theorem dX3_lodgersOf_12 : decode cX3_lodgersOf 12 = .ok (.iaload, 1) := dk_46 (dk_at dksX3_lodgersOf_0 12 rfl rfl)
theorem dX3_lodgersOf_13 : decode cX3_lodgersOf 13 = .ok (.if_icmp .ge 42, 3) := dk_162 0 42 (dk_at dksX3_lodgersOf_0 13 rfl rfl)
theorem dX3_lodgersOf_16 : decode cX3_lodgersOf 16 = .ok (.iload_n 3, 1) := dk_29 (dk_at dksX3_lodgersOf_0 16 rfl rfl)
theorem dX3_lodgersOf_17 : decode cX3_lodgersOf 17 = .ok (.aload_n 0, 1) := dk_42 (dk_at dksX3_lodgersOf_0 17 rfl rfl)
theorem dX3_lodgersOf_18 : decode cX3_lodgersOf 18 = .ok (.iload 4, 2) := dk_21 4 (dk_at dksX3_lodgersOf_0 18 rfl rfl)
theorem dX3_lodgersOf_20 : decode cX3_lodgersOf 20 = .ok (.iconst 4, 1) := dk_7 (dk_at dksX3_lodgersOf_0 20 rfl rfl)
theorem dX3_lodgersOf_21 : decode cX3_lodgersOf 21 = .ok (.invokevirtual 78, 3) := dk_182 0 78 (dk_at dksX3_lodgersOf_0 21 rfl rfl)
theorem dX3_lodgersOf_24 : decode cX3_lodgersOf 24 = .ok (.iload_n 1, 1) := dk_27 (dk_at dksX3_lodgersOf_1 0 rfl rfl)
theorem dX3_lodgersOf_25 : decode cX3_lodgersOf 25 = .ok (.if_icmp .ne 21, 3) := dk_160 0 21 (dk_at dksX3_lodgersOf_1 1 rfl rfl)
theorem dX3_lodgersOf_28 : decode cX3_lodgersOf 28 = .ok (.aload_n 0, 1) := dk_42 (dk_at dksX3_lodgersOf_1 4 rfl rfl)
theorem dX3_lodgersOf_29 : decode cX3_lodgersOf 29 = .ok (.iload 4, 2) := dk_21 4 (dk_at dksX3_lodgersOf_1 5 rfl rfl)
theorem dX3_lodgersOf_31 : decode cX3_lodgersOf 31 = .ok (.iconst 1, 1) := dk_4 (dk_at dksX3_lodgersOf_1 7 rfl rfl)
theorem dX3_lodgersOf_32 : decode cX3_lodgersOf 32 = .ok (.invokevirtual 78, 3) := dk_182 0 78 (dk_at dksX3_lodgersOf_1 8 rfl rfl)
theorem dX3_lodgersOf_35 : decode cX3_lodgersOf 35 = .ok (.iload_n 2, 1) := dk_28 (dk_at dksX3_lodgersOf_1 11 rfl rfl)
theorem dX3_lodgersOf_36 : decode cX3_lodgersOf 36 = .ok (.if_icmp .ne 10, 3) := dk_160 0 10 (dk_at dksX3_lodgersOf_1 12 rfl rfl)
theorem dX3_lodgersOf_39 : decode cX3_lodgersOf 39 = .ok (.iconst 1, 1) := dk_4 (dk_at dksX3_lodgersOf_1 15 rfl rfl)
theorem dX3_lodgersOf_40 : decode cX3_lodgersOf 40 = .ok (.iload 4, 2) := dk_21 4 (dk_at dksX3_lodgersOf_1 16 rfl rfl)
theorem dX3_lodgersOf_42 : decode cX3_lodgersOf 42 = .ok (.ishl, 1) := dk_120 (dk_at dksX3_lodgersOf_1 18 rfl rfl)
theorem dX3_lodgersOf_43 : decode cX3_lodgersOf 43 = .ok (.goto 4, 3) := dk_167 0 4 (dk_at dksX3_lodgersOf_1 19 rfl rfl)
theorem dX3_lodgersOf_46 : decode cX3_lodgersOf 46 = .ok (.iconst 0, 1) := dk_3 (dk_at dksX3_lodgersOf_1 22 rfl rfl)
theorem dX3_lodgersOf_47 : decode cX3_lodgersOf 47 = .ok (.ior, 1) := dk_128 (dk_at dksX3_lodgersOf_1 23 rfl rfl)
theorem dX3_lodgersOf_48 : decode cX3_lodgersOf 48 = .ok (.istore_n 3, 1) := dk_62 (dk_at dksX3_lodgersOf_2 0 rfl rfl)
theorem dX3_lodgersOf_49 : decode cX3_lodgersOf 49 = .ok (.iinc 4 1, 3) := dk_132 4 1 (dk_at dksX3_lodgersOf_2 1 rfl rfl)
theorem dX3_lodgersOf_52 : decode cX3_lodgersOf 52 = .ok (.goto (-47), 3) := dk_167 255 209 (dk_at dksX3_lodgersOf_2 4 rfl rfl)
theorem dX3_lodgersOf_55 : decode cX3_lodgersOf 55 = .ok (.iload_n 3, 1) := dk_29 (dk_at dksX3_lodgersOf_2 7 rfl rfl)
theorem dX3_lodgersOf_56 : decode cX3_lodgersOf 56 = .ok (.ireturn, 1) := dk_172 (dk_at dksX3_lodgersOf_2 8 rfl rfl)
abbrev cX3_isOnRoad : ByteArray := prog_17_method_46_code
def yX3_isOnRoad : MethodName := ⟨RX3, "isOnRoad", "(I)Z"⟩
def dkwX3_isOnRoad_2 : List UInt8 := [167, 255, 213, 28, 172]
abbrev dktX3_isOnRoad_2 : List UInt8 := dkwX3_isOnRoad_2 ++ []
def dkwX3_isOnRoad_1 : List UInt8 := [27, 160, 0, 17, 42, 29, 7, 182, 0, 78, 2, 160, 0, 7, 4, 167, 0, 4, 3, 61, 132, 3, 1]
abbrev dktX3_isOnRoad_1 : List UInt8 := dkwX3_isOnRoad_1 ++ dktX3_isOnRoad_2
def dkwX3_isOnRoad_0 : List UInt8 := [3, 61, 3, 62, 29, 42, 180, 0, 7, 3, 46, 162, 0, 39, 28, 154, 0, 23, 42, 29, 4, 182, 0, 78]
abbrev dktX3_isOnRoad_0 : List UInt8 := dkwX3_isOnRoad_0 ++ dktX3_isOnRoad_1
theorem dksX3_isOnRoad_0 : cX3_isOnRoad.data.toList.drop 0 = dktX3_isOnRoad_0 := by decide +kernel
theorem dksX3_isOnRoad_1 : cX3_isOnRoad.data.toList.drop 24 = dktX3_isOnRoad_1 := dk_seg dksX3_isOnRoad_0 24 rfl rfl
theorem dksX3_isOnRoad_2 : cX3_isOnRoad.data.toList.drop 47 = dktX3_isOnRoad_2 := dk_seg dksX3_isOnRoad_1 23 rfl rfl
theorem dX3_isOnRoad_0 : decode cX3_isOnRoad 0 = .ok (.iconst 0, 1) := dk_3 (dk_at dksX3_isOnRoad_0 0 rfl rfl)
theorem dX3_isOnRoad_1 : decode cX3_isOnRoad 1 = .ok (.istore_n 2, 1) := dk_61 (dk_at dksX3_isOnRoad_0 1 rfl rfl)
theorem dX3_isOnRoad_2 : decode cX3_isOnRoad 2 = .ok (.iconst 0, 1) := dk_3 (dk_at dksX3_isOnRoad_0 2 rfl rfl)
theorem dX3_isOnRoad_3 : decode cX3_isOnRoad 3 = .ok (.istore_n 3, 1) := dk_62 (dk_at dksX3_isOnRoad_0 3 rfl rfl)
theorem dX3_isOnRoad_4 : decode cX3_isOnRoad 4 = .ok (.iload_n 3, 1) := dk_29 (dk_at dksX3_isOnRoad_0 4 rfl rfl)
theorem dX3_isOnRoad_5 : decode cX3_isOnRoad 5 = .ok (.aload_n 0, 1) := dk_42 (dk_at dksX3_isOnRoad_0 5 rfl rfl)
theorem dX3_isOnRoad_6 : decode cX3_isOnRoad 6 = .ok (.getfield 7, 3) := dk_180 0 7 (dk_at dksX3_isOnRoad_0 6 rfl rfl)
theorem dX3_isOnRoad_9 : decode cX3_isOnRoad 9 = .ok (.iconst 0, 1) := dk_3 (dk_at dksX3_isOnRoad_0 9 rfl rfl)
theorem dX3_isOnRoad_10 : decode cX3_isOnRoad 10 = .ok (.iaload, 1) := dk_46 (dk_at dksX3_isOnRoad_0 10 rfl rfl)
theorem dX3_isOnRoad_11 : decode cX3_isOnRoad 11 = .ok (.if_icmp .ge 39, 3) := dk_162 0 39 (dk_at dksX3_isOnRoad_0 11 rfl rfl)
theorem dX3_isOnRoad_14 : decode cX3_isOnRoad 14 = .ok (.iload_n 2, 1) := dk_28 (dk_at dksX3_isOnRoad_0 14 rfl rfl)
theorem dX3_isOnRoad_15 : decode cX3_isOnRoad 15 = .ok (.ifCond .ne 23, 3) := dk_154 0 23 (dk_at dksX3_isOnRoad_0 15 rfl rfl)
theorem dX3_isOnRoad_18 : decode cX3_isOnRoad 18 = .ok (.aload_n 0, 1) := dk_42 (dk_at dksX3_isOnRoad_0 18 rfl rfl)
theorem dX3_isOnRoad_19 : decode cX3_isOnRoad 19 = .ok (.iload_n 3, 1) := dk_29 (dk_at dksX3_isOnRoad_0 19 rfl rfl)
theorem dX3_isOnRoad_20 : decode cX3_isOnRoad 20 = .ok (.iconst 1, 1) := dk_4 (dk_at dksX3_isOnRoad_0 20 rfl rfl)
theorem dX3_isOnRoad_21 : decode cX3_isOnRoad 21 = .ok (.invokevirtual 78, 3) := dk_182 0 78 (dk_at dksX3_isOnRoad_0 21 rfl rfl)
theorem dX3_isOnRoad_24 : decode cX3_isOnRoad 24 = .ok (.iload_n 1, 1) := dk_27 (dk_at dksX3_isOnRoad_1 0 rfl rfl)
theorem dX3_isOnRoad_25 : decode cX3_isOnRoad 25 = .ok (.if_icmp .ne 17, 3) := dk_160 0 17 (dk_at dksX3_isOnRoad_1 1 rfl rfl)
theorem dX3_isOnRoad_28 : decode cX3_isOnRoad 28 = .ok (.aload_n 0, 1) := dk_42 (dk_at dksX3_isOnRoad_1 4 rfl rfl)
theorem dX3_isOnRoad_29 : decode cX3_isOnRoad 29 = .ok (.iload_n 3, 1) := dk_29 (dk_at dksX3_isOnRoad_1 5 rfl rfl)
theorem dX3_isOnRoad_30 : decode cX3_isOnRoad 30 = .ok (.iconst 4, 1) := dk_7 (dk_at dksX3_isOnRoad_1 6 rfl rfl)
theorem dX3_isOnRoad_31 : decode cX3_isOnRoad 31 = .ok (.invokevirtual 78, 3) := dk_182 0 78 (dk_at dksX3_isOnRoad_1 7 rfl rfl)
theorem dX3_isOnRoad_34 : decode cX3_isOnRoad 34 = .ok (.iconst (-1), 1) := dk_2 (dk_at dksX3_isOnRoad_1 10 rfl rfl)
theorem dX3_isOnRoad_35 : decode cX3_isOnRoad 35 = .ok (.if_icmp .ne 7, 3) := dk_160 0 7 (dk_at dksX3_isOnRoad_1 11 rfl rfl)
theorem dX3_isOnRoad_38 : decode cX3_isOnRoad 38 = .ok (.iconst 1, 1) := dk_4 (dk_at dksX3_isOnRoad_1 14 rfl rfl)
theorem dX3_isOnRoad_39 : decode cX3_isOnRoad 39 = .ok (.goto 4, 3) := dk_167 0 4 (dk_at dksX3_isOnRoad_1 15 rfl rfl)
theorem dX3_isOnRoad_42 : decode cX3_isOnRoad 42 = .ok (.iconst 0, 1) := dk_3 (dk_at dksX3_isOnRoad_1 18 rfl rfl)
theorem dX3_isOnRoad_43 : decode cX3_isOnRoad 43 = .ok (.istore_n 2, 1) := dk_61 (dk_at dksX3_isOnRoad_1 19 rfl rfl)
theorem dX3_isOnRoad_44 : decode cX3_isOnRoad 44 = .ok (.iinc 3 1, 3) := dk_132 3 1 (dk_at dksX3_isOnRoad_1 20 rfl rfl)
theorem dX3_isOnRoad_47 : decode cX3_isOnRoad 47 = .ok (.goto (-43), 3) := dk_167 255 213 (dk_at dksX3_isOnRoad_2 0 rfl rfl)
theorem dX3_isOnRoad_50 : decode cX3_isOnRoad 50 = .ok (.iload_n 2, 1) := dk_28 (dk_at dksX3_isOnRoad_2 3 rfl rfl)
theorem dX3_isOnRoad_51 : decode cX3_isOnRoad 51 = .ok (.ireturn, 1) := dk_172 (dk_at dksX3_isOnRoad_2 4 rfl rfl)
abbrev cX3_now : ByteArray := prog_17_method_56_code
def yX3_now : MethodName := ⟨RX3, "now", "(I)I"⟩
def dkwX3_now_3 : List UInt8 := [172, 42, 182, 0, 175, 172, 42, 182, 0, 178, 172, 42, 182, 0, 181, 172, 42, 18, 45, 182, 0, 74, 172]
abbrev dktX3_now_3 : List UInt8 := dkwX3_now_3 ++ []
def dkwX3_now_2 : List UInt8 := [42, 180, 0, 7, 4, 46, 172, 42, 180, 0, 7, 5, 46, 172, 42, 2, 182, 0, 87, 172, 42, 182, 0, 171]
abbrev dktX3_now_2 : List UInt8 := dkwX3_now_2 ++ dktX3_now_3
def dkwX3_now_1 : List UInt8 := [170, 0, 0, 0, 0, 0, 83, 0, 0, 0, 0, 0, 0, 0, 6, 0, 0, 0, 43, 0, 0, 0, 50, 0, 0, 0, 57, 0, 0, 0, 63, 0, 0, 0, 68, 0, 0, 0, 73, 0, 0, 0, 78]
abbrev dktX3_now_1 : List UInt8 := dkwX3_now_1 ++ dktX3_now_2
def dkwX3_now_0 : List UInt8 := [27]
abbrev dktX3_now_0 : List UInt8 := dkwX3_now_0 ++ dktX3_now_1
theorem dksX3_now_0 : cX3_now.data.toList.drop 0 = dktX3_now_0 := by decide +kernel
theorem dksX3_now_1 : cX3_now.data.toList.drop 1 = dktX3_now_1 := dk_seg dksX3_now_0 1 rfl rfl
theorem dksX3_now_2 : cX3_now.data.toList.drop 44 = dktX3_now_2 := dk_seg dksX3_now_1 43 rfl rfl
theorem dksX3_now_3 : cX3_now.data.toList.drop 68 = dktX3_now_3 := dk_seg dksX3_now_2 24 rfl rfl
theorem dX3_now_0 : decode cX3_now 0 = .ok (.iload_n 1, 1) := dk_27 (dk_at dksX3_now_0 0 rfl rfl)
theorem dX3_now_1 : decode cX3_now 1 = .ok (.tableswitch 83 0 6 #[43, 50, 57, 63, 68, 73, 78], 43) := by decide +kernel
theorem dX3_now_44 : decode cX3_now 44 = .ok (.aload_n 0, 1) := dk_42 (dk_at dksX3_now_2 0 rfl rfl)
theorem dX3_now_45 : decode cX3_now 45 = .ok (.getfield 7, 3) := dk_180 0 7 (dk_at dksX3_now_2 1 rfl rfl)
theorem dX3_now_48 : decode cX3_now 48 = .ok (.iconst 1, 1) := dk_4 (dk_at dksX3_now_2 4 rfl rfl)
theorem dX3_now_49 : decode cX3_now 49 = .ok (.iaload, 1) := dk_46 (dk_at dksX3_now_2 5 rfl rfl)
theorem dX3_now_50 : decode cX3_now 50 = .ok (.ireturn, 1) := dk_172 (dk_at dksX3_now_2 6 rfl rfl)
theorem dX3_now_51 : decode cX3_now 51 = .ok (.aload_n 0, 1) := dk_42 (dk_at dksX3_now_2 7 rfl rfl)
theorem dX3_now_52 : decode cX3_now 52 = .ok (.getfield 7, 3) := dk_180 0 7 (dk_at dksX3_now_2 8 rfl rfl)
theorem dX3_now_55 : decode cX3_now 55 = .ok (.iconst 2, 1) := dk_5 (dk_at dksX3_now_2 11 rfl rfl)
theorem dX3_now_56 : decode cX3_now 56 = .ok (.iaload, 1) := dk_46 (dk_at dksX3_now_2 12 rfl rfl)
theorem dX3_now_57 : decode cX3_now 57 = .ok (.ireturn, 1) := dk_172 (dk_at dksX3_now_2 13 rfl rfl)
theorem dX3_now_58 : decode cX3_now 58 = .ok (.aload_n 0, 1) := dk_42 (dk_at dksX3_now_2 14 rfl rfl)
theorem dX3_now_59 : decode cX3_now 59 = .ok (.iconst (-1), 1) := dk_2 (dk_at dksX3_now_2 15 rfl rfl)
theorem dX3_now_60 : decode cX3_now 60 = .ok (.invokevirtual 87, 3) := dk_182 0 87 (dk_at dksX3_now_2 16 rfl rfl)
theorem dX3_now_63 : decode cX3_now 63 = .ok (.ireturn, 1) := dk_172 (dk_at dksX3_now_2 19 rfl rfl)
theorem dX3_now_64 : decode cX3_now 64 = .ok (.aload_n 0, 1) := dk_42 (dk_at dksX3_now_2 20 rfl rfl)
theorem dX3_now_65 : decode cX3_now 65 = .ok (.invokevirtual 171, 3) := dk_182 0 171 (dk_at dksX3_now_2 21 rfl rfl)
theorem dX3_now_68 : decode cX3_now 68 = .ok (.ireturn, 1) := dk_172 (dk_at dksX3_now_3 0 rfl rfl)
theorem dX3_now_69 : decode cX3_now 69 = .ok (.aload_n 0, 1) := dk_42 (dk_at dksX3_now_3 1 rfl rfl)
theorem dX3_now_70 : decode cX3_now 70 = .ok (.invokevirtual 175, 3) := dk_182 0 175 (dk_at dksX3_now_3 2 rfl rfl)
theorem dX3_now_73 : decode cX3_now 73 = .ok (.ireturn, 1) := dk_172 (dk_at dksX3_now_3 5 rfl rfl)
theorem dX3_now_74 : decode cX3_now 74 = .ok (.aload_n 0, 1) := dk_42 (dk_at dksX3_now_3 6 rfl rfl)
theorem dX3_now_75 : decode cX3_now 75 = .ok (.invokevirtual 178, 3) := dk_182 0 178 (dk_at dksX3_now_3 7 rfl rfl)
theorem dX3_now_78 : decode cX3_now 78 = .ok (.ireturn, 1) := dk_172 (dk_at dksX3_now_3 10 rfl rfl)
theorem dX3_now_79 : decode cX3_now 79 = .ok (.aload_n 0, 1) := dk_42 (dk_at dksX3_now_3 11 rfl rfl)
theorem dX3_now_80 : decode cX3_now 80 = .ok (.invokevirtual 181, 3) := dk_182 0 181 (dk_at dksX3_now_3 12 rfl rfl)
theorem dX3_now_83 : decode cX3_now 83 = .ok (.ireturn, 1) := dk_172 (dk_at dksX3_now_3 15 rfl rfl)
theorem dX3_now_84 : decode cX3_now 84 = .ok (.aload_n 0, 1) := dk_42 (dk_at dksX3_now_3 16 rfl rfl)
theorem dX3_now_85 : decode cX3_now 85 = .ok (.ldc 45, 2) := dk_18 45 (dk_at dksX3_now_3 17 rfl rfl)
theorem dX3_now_87 : decode cX3_now 87 = .ok (.invokevirtual 74, 3) := dk_182 0 74 (dk_at dksX3_now_3 19 rfl rfl)
theorem dX3_now_90 : decode cX3_now 90 = .ok (.ireturn, 1) := dk_172 (dk_at dksX3_now_3 22 rfl rfl)
abbrev cX3_bulks : ByteArray := prog_17_method_53_code
def yX3_bulks : MethodName := ⟨RX3, "bulks", "()I"⟩
def dkwX3_bulks_1 : List UInt8 := [132, 2, 1, 167, 255, 234, 27, 172]
abbrev dktX3_bulks_1 : List UInt8 := dkwX3_bulks_1 ++ []
def dkwX3_bulks_0 : List UInt8 := [3, 60, 3, 61, 28, 42, 180, 0, 7, 3, 46, 162, 0, 18, 27, 42, 28, 5, 182, 0, 78, 96, 60]
abbrev dktX3_bulks_0 : List UInt8 := dkwX3_bulks_0 ++ dktX3_bulks_1
theorem dksX3_bulks_0 : cX3_bulks.data.toList.drop 0 = dktX3_bulks_0 := by decide +kernel
theorem dksX3_bulks_1 : cX3_bulks.data.toList.drop 23 = dktX3_bulks_1 := dk_seg dksX3_bulks_0 23 rfl rfl
theorem dX3_bulks_0 : decode cX3_bulks 0 = .ok (.iconst 0, 1) := dk_3 (dk_at dksX3_bulks_0 0 rfl rfl)
theorem dX3_bulks_1 : decode cX3_bulks 1 = .ok (.istore_n 1, 1) := dk_60 (dk_at dksX3_bulks_0 1 rfl rfl)
theorem dX3_bulks_2 : decode cX3_bulks 2 = .ok (.iconst 0, 1) := dk_3 (dk_at dksX3_bulks_0 2 rfl rfl)
theorem dX3_bulks_3 : decode cX3_bulks 3 = .ok (.istore_n 2, 1) := dk_61 (dk_at dksX3_bulks_0 3 rfl rfl)
theorem dX3_bulks_4 : decode cX3_bulks 4 = .ok (.iload_n 2, 1) := dk_28 (dk_at dksX3_bulks_0 4 rfl rfl)
theorem dX3_bulks_5 : decode cX3_bulks 5 = .ok (.aload_n 0, 1) := dk_42 (dk_at dksX3_bulks_0 5 rfl rfl)
theorem dX3_bulks_6 : decode cX3_bulks 6 = .ok (.getfield 7, 3) := dk_180 0 7 (dk_at dksX3_bulks_0 6 rfl rfl)
theorem dX3_bulks_9 : decode cX3_bulks 9 = .ok (.iconst 0, 1) := dk_3 (dk_at dksX3_bulks_0 9 rfl rfl)
theorem dX3_bulks_10 : decode cX3_bulks 10 = .ok (.iaload, 1) := dk_46 (dk_at dksX3_bulks_0 10 rfl rfl)
theorem dX3_bulks_11 : decode cX3_bulks 11 = .ok (.if_icmp .ge 18, 3) := dk_162 0 18 (dk_at dksX3_bulks_0 11 rfl rfl)
theorem dX3_bulks_14 : decode cX3_bulks 14 = .ok (.iload_n 1, 1) := dk_27 (dk_at dksX3_bulks_0 14 rfl rfl)
theorem dX3_bulks_15 : decode cX3_bulks 15 = .ok (.aload_n 0, 1) := dk_42 (dk_at dksX3_bulks_0 15 rfl rfl)
theorem dX3_bulks_16 : decode cX3_bulks 16 = .ok (.iload_n 2, 1) := dk_28 (dk_at dksX3_bulks_0 16 rfl rfl)
theorem dX3_bulks_17 : decode cX3_bulks 17 = .ok (.iconst 2, 1) := dk_5 (dk_at dksX3_bulks_0 17 rfl rfl)
theorem dX3_bulks_18 : decode cX3_bulks 18 = .ok (.invokevirtual 78, 3) := dk_182 0 78 (dk_at dksX3_bulks_0 18 rfl rfl)
theorem dX3_bulks_21 : decode cX3_bulks 21 = .ok (.iadd, 1) := dk_96 (dk_at dksX3_bulks_0 21 rfl rfl)
theorem dX3_bulks_22 : decode cX3_bulks 22 = .ok (.istore_n 1, 1) := dk_60 (dk_at dksX3_bulks_0 22 rfl rfl)
theorem dX3_bulks_23 : decode cX3_bulks 23 = .ok (.iinc 2 1, 3) := dk_132 2 1 (dk_at dksX3_bulks_1 0 rfl rfl)
theorem dX3_bulks_26 : decode cX3_bulks 26 = .ok (.goto (-22), 3) := dk_167 255 234 (dk_at dksX3_bulks_1 3 rfl rfl)
theorem dX3_bulks_29 : decode cX3_bulks 29 = .ok (.iload_n 1, 1) := dk_27 (dk_at dksX3_bulks_1 6 rfl rfl)
theorem dX3_bulks_30 : decode cX3_bulks 30 = .ok (.ireturn, 1) := dk_172 (dk_at dksX3_bulks_1 7 rfl rfl)
abbrev cX3_larders : ByteArray := prog_17_method_52_code
def yX3_larders : MethodName := ⟨RX3, "larders", "()I"⟩
def dkwX3_larders_1 : List UInt8 := [167, 255, 238, 27, 172]
abbrev dktX3_larders_1 : List UInt8 := dkwX3_larders_1 ++ []
def dkwX3_larders_0 : List UInt8 := [3, 60, 3, 61, 28, 16, 8, 162, 0, 18, 27, 42, 28, 4, 182, 0, 84, 96, 60, 132, 2, 1]
abbrev dktX3_larders_0 : List UInt8 := dkwX3_larders_0 ++ dktX3_larders_1
theorem dksX3_larders_0 : cX3_larders.data.toList.drop 0 = dktX3_larders_0 := by decide +kernel
theorem dksX3_larders_1 : cX3_larders.data.toList.drop 22 = dktX3_larders_1 := dk_seg dksX3_larders_0 22 rfl rfl
theorem dX3_larders_0 : decode cX3_larders 0 = .ok (.iconst 0, 1) := dk_3 (dk_at dksX3_larders_0 0 rfl rfl)
theorem dX3_larders_1 : decode cX3_larders 1 = .ok (.istore_n 1, 1) := dk_60 (dk_at dksX3_larders_0 1 rfl rfl)
theorem dX3_larders_2 : decode cX3_larders 2 = .ok (.iconst 0, 1) := dk_3 (dk_at dksX3_larders_0 2 rfl rfl)
theorem dX3_larders_3 : decode cX3_larders 3 = .ok (.istore_n 2, 1) := dk_61 (dk_at dksX3_larders_0 3 rfl rfl)
theorem dX3_larders_4 : decode cX3_larders 4 = .ok (.iload_n 2, 1) := dk_28 (dk_at dksX3_larders_0 4 rfl rfl)
theorem dX3_larders_5 : decode cX3_larders 5 = .ok (.bipush 8, 2) := dk_16 8 (dk_at dksX3_larders_0 5 rfl rfl)
theorem dX3_larders_7 : decode cX3_larders 7 = .ok (.if_icmp .ge 18, 3) := dk_162 0 18 (dk_at dksX3_larders_0 7 rfl rfl)
theorem dX3_larders_10 : decode cX3_larders 10 = .ok (.iload_n 1, 1) := dk_27 (dk_at dksX3_larders_0 10 rfl rfl)
theorem dX3_larders_11 : decode cX3_larders 11 = .ok (.aload_n 0, 1) := dk_42 (dk_at dksX3_larders_0 11 rfl rfl)
theorem dX3_larders_12 : decode cX3_larders 12 = .ok (.iload_n 2, 1) := dk_28 (dk_at dksX3_larders_0 12 rfl rfl)
theorem dX3_larders_13 : decode cX3_larders 13 = .ok (.iconst 1, 1) := dk_4 (dk_at dksX3_larders_0 13 rfl rfl)
theorem dX3_larders_14 : decode cX3_larders 14 = .ok (.invokevirtual 84, 3) := dk_182 0 84 (dk_at dksX3_larders_0 14 rfl rfl)
theorem dX3_larders_17 : decode cX3_larders 17 = .ok (.iadd, 1) := dk_96 (dk_at dksX3_larders_0 17 rfl rfl)
theorem dX3_larders_18 : decode cX3_larders 18 = .ok (.istore_n 1, 1) := dk_60 (dk_at dksX3_larders_0 18 rfl rfl)
theorem dX3_larders_19 : decode cX3_larders 19 = .ok (.iinc 2 1, 3) := dk_132 2 1 (dk_at dksX3_larders_0 19 rfl rfl)
theorem dX3_larders_22 : decode cX3_larders 22 = .ok (.goto (-18), 3) := dk_167 255 238 (dk_at dksX3_larders_1 0 rfl rfl)
theorem dX3_larders_25 : decode cX3_larders 25 = .ok (.iload_n 1, 1) := dk_27 (dk_at dksX3_larders_1 3 rfl rfl)
theorem dX3_larders_26 : decode cX3_larders 26 = .ok (.ireturn, 1) := dk_172 (dk_at dksX3_larders_1 4 rfl rfl)
abbrev cX3_freeBeds : ByteArray := prog_17_method_54_code
def yX3_freeBeds : MethodName := ⟨RX3, "freeBeds", "()I"⟩
def dkwX3_freeBeds_2 : List UInt8 := [27, 172]
abbrev dktX3_freeBeds_2 : List UInt8 := dkwX3_freeBeds_2 ++ []
def dkwX3_freeBeds_1 : List UInt8 := [182, 0, 84, 42, 28, 182, 0, 87, 184, 0, 122, 100, 167, 0, 4, 3, 96, 60, 132, 2, 1, 167, 255, 217]
abbrev dktX3_freeBeds_1 : List UInt8 := dkwX3_freeBeds_1 ++ dktX3_freeBeds_2
def dkwX3_freeBeds_0 : List UInt8 := [3, 60, 3, 61, 28, 16, 8, 162, 0, 39, 27, 42, 28, 182, 0, 125, 153, 0, 21, 42, 28, 3]
abbrev dktX3_freeBeds_0 : List UInt8 := dkwX3_freeBeds_0 ++ dktX3_freeBeds_1
theorem dksX3_freeBeds_0 : cX3_freeBeds.data.toList.drop 0 = dktX3_freeBeds_0 := by decide +kernel
theorem dksX3_freeBeds_1 : cX3_freeBeds.data.toList.drop 22 = dktX3_freeBeds_1 := dk_seg dksX3_freeBeds_0 22 rfl rfl
theorem dksX3_freeBeds_2 : cX3_freeBeds.data.toList.drop 46 = dktX3_freeBeds_2 := dk_seg dksX3_freeBeds_1 24 rfl rfl
theorem dX3_freeBeds_0 : decode cX3_freeBeds 0 = .ok (.iconst 0, 1) := dk_3 (dk_at dksX3_freeBeds_0 0 rfl rfl)
theorem dX3_freeBeds_1 : decode cX3_freeBeds 1 = .ok (.istore_n 1, 1) := dk_60 (dk_at dksX3_freeBeds_0 1 rfl rfl)
theorem dX3_freeBeds_2 : decode cX3_freeBeds 2 = .ok (.iconst 0, 1) := dk_3 (dk_at dksX3_freeBeds_0 2 rfl rfl)
theorem dX3_freeBeds_3 : decode cX3_freeBeds 3 = .ok (.istore_n 2, 1) := dk_61 (dk_at dksX3_freeBeds_0 3 rfl rfl)
theorem dX3_freeBeds_4 : decode cX3_freeBeds 4 = .ok (.iload_n 2, 1) := dk_28 (dk_at dksX3_freeBeds_0 4 rfl rfl)
theorem dX3_freeBeds_5 : decode cX3_freeBeds 5 = .ok (.bipush 8, 2) := dk_16 8 (dk_at dksX3_freeBeds_0 5 rfl rfl)
theorem dX3_freeBeds_7 : decode cX3_freeBeds 7 = .ok (.if_icmp .ge 39, 3) := dk_162 0 39 (dk_at dksX3_freeBeds_0 7 rfl rfl)
theorem dX3_freeBeds_10 : decode cX3_freeBeds 10 = .ok (.iload_n 1, 1) := dk_27 (dk_at dksX3_freeBeds_0 10 rfl rfl)
theorem dX3_freeBeds_11 : decode cX3_freeBeds 11 = .ok (.aload_n 0, 1) := dk_42 (dk_at dksX3_freeBeds_0 11 rfl rfl)
theorem dX3_freeBeds_12 : decode cX3_freeBeds 12 = .ok (.iload_n 2, 1) := dk_28 (dk_at dksX3_freeBeds_0 12 rfl rfl)
theorem dX3_freeBeds_13 : decode cX3_freeBeds 13 = .ok (.invokevirtual 125, 3) := dk_182 0 125 (dk_at dksX3_freeBeds_0 13 rfl rfl)
theorem dX3_freeBeds_16 : decode cX3_freeBeds 16 = .ok (.ifCond .eq 21, 3) := dk_153 0 21 (dk_at dksX3_freeBeds_0 16 rfl rfl)
theorem dX3_freeBeds_19 : decode cX3_freeBeds 19 = .ok (.aload_n 0, 1) := dk_42 (dk_at dksX3_freeBeds_0 19 rfl rfl)
theorem dX3_freeBeds_20 : decode cX3_freeBeds 20 = .ok (.iload_n 2, 1) := dk_28 (dk_at dksX3_freeBeds_0 20 rfl rfl)
theorem dX3_freeBeds_21 : decode cX3_freeBeds 21 = .ok (.iconst 0, 1) := dk_3 (dk_at dksX3_freeBeds_0 21 rfl rfl)
theorem dX3_freeBeds_22 : decode cX3_freeBeds 22 = .ok (.invokevirtual 84, 3) := dk_182 0 84 (dk_at dksX3_freeBeds_1 0 rfl rfl)
theorem dX3_freeBeds_25 : decode cX3_freeBeds 25 = .ok (.aload_n 0, 1) := dk_42 (dk_at dksX3_freeBeds_1 3 rfl rfl)
theorem dX3_freeBeds_26 : decode cX3_freeBeds 26 = .ok (.iload_n 2, 1) := dk_28 (dk_at dksX3_freeBeds_1 4 rfl rfl)
theorem dX3_freeBeds_27 : decode cX3_freeBeds 27 = .ok (.invokevirtual 87, 3) := dk_182 0 87 (dk_at dksX3_freeBeds_1 5 rfl rfl)
theorem dX3_freeBeds_30 : decode cX3_freeBeds 30 = .ok (.invokestatic 122, 3) := dk_184 0 122 (dk_at dksX3_freeBeds_1 8 rfl rfl)
theorem dX3_freeBeds_33 : decode cX3_freeBeds 33 = .ok (.isub, 1) := dk_100 (dk_at dksX3_freeBeds_1 11 rfl rfl)
theorem dX3_freeBeds_34 : decode cX3_freeBeds 34 = .ok (.goto 4, 3) := dk_167 0 4 (dk_at dksX3_freeBeds_1 12 rfl rfl)
theorem dX3_freeBeds_37 : decode cX3_freeBeds 37 = .ok (.iconst 0, 1) := dk_3 (dk_at dksX3_freeBeds_1 15 rfl rfl)
theorem dX3_freeBeds_38 : decode cX3_freeBeds 38 = .ok (.iadd, 1) := dk_96 (dk_at dksX3_freeBeds_1 16 rfl rfl)
theorem dX3_freeBeds_39 : decode cX3_freeBeds 39 = .ok (.istore_n 1, 1) := dk_60 (dk_at dksX3_freeBeds_1 17 rfl rfl)
theorem dX3_freeBeds_40 : decode cX3_freeBeds 40 = .ok (.iinc 2 1, 3) := dk_132 2 1 (dk_at dksX3_freeBeds_1 18 rfl rfl)
theorem dX3_freeBeds_43 : decode cX3_freeBeds 43 = .ok (.goto (-39), 3) := dk_167 255 217 (dk_at dksX3_freeBeds_1 21 rfl rfl)
theorem dX3_freeBeds_46 : decode cX3_freeBeds 46 = .ok (.iload_n 1, 1) := dk_27 (dk_at dksX3_freeBeds_2 0 rfl rfl)
theorem dX3_freeBeds_47 : decode cX3_freeBeds 47 = .ok (.ireturn, 1) := dk_172 (dk_at dksX3_freeBeds_2 1 rfl rfl)
abbrev cX3_eaten : ByteArray := prog_17_method_55_code
def yX3_eaten : MethodName := ⟨RX3, "eaten", "()I"⟩
def dkwX3_eaten_1 : List UInt8 := [27, 172]
abbrev dktX3_eaten_1 : List UInt8 := dkwX3_eaten_1 ++ []
def dkwX3_eaten_0 : List UInt8 := [3, 60, 3, 61, 28, 16, 8, 162, 0, 17, 27, 42, 28, 182, 0, 93, 96, 60, 132, 2, 1, 167, 255, 239]
abbrev dktX3_eaten_0 : List UInt8 := dkwX3_eaten_0 ++ dktX3_eaten_1
theorem dksX3_eaten_0 : cX3_eaten.data.toList.drop 0 = dktX3_eaten_0 := by decide +kernel
theorem dksX3_eaten_1 : cX3_eaten.data.toList.drop 24 = dktX3_eaten_1 := dk_seg dksX3_eaten_0 24 rfl rfl
theorem dX3_eaten_0 : decode cX3_eaten 0 = .ok (.iconst 0, 1) := dk_3 (dk_at dksX3_eaten_0 0 rfl rfl)
theorem dX3_eaten_1 : decode cX3_eaten 1 = .ok (.istore_n 1, 1) := dk_60 (dk_at dksX3_eaten_0 1 rfl rfl)
theorem dX3_eaten_2 : decode cX3_eaten 2 = .ok (.iconst 0, 1) := dk_3 (dk_at dksX3_eaten_0 2 rfl rfl)
theorem dX3_eaten_3 : decode cX3_eaten 3 = .ok (.istore_n 2, 1) := dk_61 (dk_at dksX3_eaten_0 3 rfl rfl)
theorem dX3_eaten_4 : decode cX3_eaten 4 = .ok (.iload_n 2, 1) := dk_28 (dk_at dksX3_eaten_0 4 rfl rfl)
theorem dX3_eaten_5 : decode cX3_eaten 5 = .ok (.bipush 8, 2) := dk_16 8 (dk_at dksX3_eaten_0 5 rfl rfl)
theorem dX3_eaten_7 : decode cX3_eaten 7 = .ok (.if_icmp .ge 17, 3) := dk_162 0 17 (dk_at dksX3_eaten_0 7 rfl rfl)
theorem dX3_eaten_10 : decode cX3_eaten 10 = .ok (.iload_n 1, 1) := dk_27 (dk_at dksX3_eaten_0 10 rfl rfl)
theorem dX3_eaten_11 : decode cX3_eaten 11 = .ok (.aload_n 0, 1) := dk_42 (dk_at dksX3_eaten_0 11 rfl rfl)
theorem dX3_eaten_12 : decode cX3_eaten 12 = .ok (.iload_n 2, 1) := dk_28 (dk_at dksX3_eaten_0 12 rfl rfl)
theorem dX3_eaten_13 : decode cX3_eaten 13 = .ok (.invokevirtual 93, 3) := dk_182 0 93 (dk_at dksX3_eaten_0 13 rfl rfl)
theorem dX3_eaten_16 : decode cX3_eaten 16 = .ok (.iadd, 1) := dk_96 (dk_at dksX3_eaten_0 16 rfl rfl)
theorem dX3_eaten_17 : decode cX3_eaten 17 = .ok (.istore_n 1, 1) := dk_60 (dk_at dksX3_eaten_0 17 rfl rfl)
theorem dX3_eaten_18 : decode cX3_eaten 18 = .ok (.iinc 2 1, 3) := dk_132 2 1 (dk_at dksX3_eaten_0 18 rfl rfl)
theorem dX3_eaten_21 : decode cX3_eaten 21 = .ok (.goto (-17), 3) := dk_167 255 239 (dk_at dksX3_eaten_0 21 rfl rfl)
theorem dX3_eaten_24 : decode cX3_eaten 24 = .ok (.iload_n 1, 1) := dk_27 (dk_at dksX3_eaten_1 0 rfl rfl)
theorem dX3_eaten_25 : decode cX3_eaten 25 = .ok (.ireturn, 1) := dk_172 (dk_at dksX3_eaten_1 1 rfl rfl)
abbrev cX3_on : ByteArray := prog_17_method_59_code
def yX3_on : MethodName := ⟨RX3, "on", "(III)I"⟩
def dkwX3_on_2 : List UInt8 := [28, 182, 0, 193, 172]
abbrev dktX3_on_2 : List UInt8 := dkwX3_on_2 ++ []
def dkwX3_on_1 : List UInt8 := [154, 0, 10, 42, 18, 45, 182, 0, 74, 172, 42, 27, 29, 154, 0, 7, 7, 167, 0, 4, 5, 184, 0, 56]
abbrev dktX3_on_1 : List UInt8 := dkwX3_on_1 ++ dktX3_on_2
def dkwX3_on_0 : List UInt8 := [42, 27, 182, 0, 106, 153, 0, 20, 28, 184, 0, 190, 153, 0, 13, 29, 133, 9, 10, 184, 0, 48]
abbrev dktX3_on_0 : List UInt8 := dkwX3_on_0 ++ dktX3_on_1
theorem dksX3_on_0 : cX3_on.data.toList.drop 0 = dktX3_on_0 := by decide +kernel
theorem dksX3_on_1 : cX3_on.data.toList.drop 22 = dktX3_on_1 := dk_seg dksX3_on_0 22 rfl rfl
theorem dksX3_on_2 : cX3_on.data.toList.drop 46 = dktX3_on_2 := dk_seg dksX3_on_1 24 rfl rfl
theorem dX3_on_0 : decode cX3_on 0 = .ok (.aload_n 0, 1) := dk_42 (dk_at dksX3_on_0 0 rfl rfl)
theorem dX3_on_1 : decode cX3_on 1 = .ok (.iload_n 1, 1) := dk_27 (dk_at dksX3_on_0 1 rfl rfl)
theorem dX3_on_2 : decode cX3_on 2 = .ok (.invokevirtual 106, 3) := dk_182 0 106 (dk_at dksX3_on_0 2 rfl rfl)
theorem dX3_on_5 : decode cX3_on 5 = .ok (.ifCond .eq 20, 3) := dk_153 0 20 (dk_at dksX3_on_0 5 rfl rfl)
theorem dX3_on_8 : decode cX3_on 8 = .ok (.iload_n 2, 1) := dk_28 (dk_at dksX3_on_0 8 rfl rfl)
theorem dX3_on_9 : decode cX3_on 9 = .ok (.invokestatic 190, 3) := dk_184 0 190 (dk_at dksX3_on_0 9 rfl rfl)
theorem dX3_on_12 : decode cX3_on 12 = .ok (.ifCond .eq 13, 3) := dk_153 0 13 (dk_at dksX3_on_0 12 rfl rfl)
theorem dX3_on_15 : decode cX3_on 15 = .ok (.iload_n 3, 1) := dk_29 (dk_at dksX3_on_0 15 rfl rfl)
theorem dX3_on_16 : decode cX3_on 16 = .ok (.i2l, 1) := dk_133 (dk_at dksX3_on_0 16 rfl rfl)
theorem dX3_on_17 : decode cX3_on 17 = .ok (.lconst 0, 1) := dk_9 (dk_at dksX3_on_0 17 rfl rfl)
theorem dX3_on_18 : decode cX3_on 18 = .ok (.lconst 1, 1) := dk_10 (dk_at dksX3_on_0 18 rfl rfl)
theorem dX3_on_19 : decode cX3_on 19 = .ok (.invokestatic 48, 3) := dk_184 0 48 (dk_at dksX3_on_0 19 rfl rfl)
theorem dX3_on_22 : decode cX3_on 22 = .ok (.ifCond .ne 10, 3) := dk_154 0 10 (dk_at dksX3_on_1 0 rfl rfl)
theorem dX3_on_25 : decode cX3_on 25 = .ok (.aload_n 0, 1) := dk_42 (dk_at dksX3_on_1 3 rfl rfl)
theorem dX3_on_26 : decode cX3_on 26 = .ok (.ldc 45, 2) := dk_18 45 (dk_at dksX3_on_1 4 rfl rfl)
theorem dX3_on_28 : decode cX3_on 28 = .ok (.invokevirtual 74, 3) := dk_182 0 74 (dk_at dksX3_on_1 6 rfl rfl)
theorem dX3_on_31 : decode cX3_on 31 = .ok (.ireturn, 1) := dk_172 (dk_at dksX3_on_1 9 rfl rfl)
theorem dX3_on_32 : decode cX3_on 32 = .ok (.aload_n 0, 1) := dk_42 (dk_at dksX3_on_1 10 rfl rfl)
theorem dX3_on_33 : decode cX3_on 33 = .ok (.iload_n 1, 1) := dk_27 (dk_at dksX3_on_1 11 rfl rfl)
theorem dX3_on_34 : decode cX3_on 34 = .ok (.iload_n 3, 1) := dk_29 (dk_at dksX3_on_1 12 rfl rfl)
theorem dX3_on_35 : decode cX3_on 35 = .ok (.ifCond .ne 7, 3) := dk_154 0 7 (dk_at dksX3_on_1 13 rfl rfl)
theorem dX3_on_38 : decode cX3_on 38 = .ok (.iconst 4, 1) := dk_7 (dk_at dksX3_on_1 16 rfl rfl)
theorem dX3_on_39 : decode cX3_on 39 = .ok (.goto 4, 3) := dk_167 0 4 (dk_at dksX3_on_1 17 rfl rfl)
theorem dX3_on_42 : decode cX3_on 42 = .ok (.iconst 2, 1) := dk_5 (dk_at dksX3_on_1 20 rfl rfl)
theorem dX3_on_43 : decode cX3_on 43 = .ok (.invokestatic 56, 3) := dk_184 0 56 (dk_at dksX3_on_1 21 rfl rfl)
theorem dX3_on_46 : decode cX3_on 46 = .ok (.iload_n 2, 1) := dk_28 (dk_at dksX3_on_2 0 rfl rfl)
theorem dX3_on_47 : decode cX3_on 47 = .ok (.invokevirtual 193, 3) := dk_182 0 193 (dk_at dksX3_on_2 1 rfl rfl)
theorem dX3_on_50 : decode cX3_on 50 = .ok (.ireturn, 1) := dk_172 (dk_at dksX3_on_2 4 rfl rfl)
abbrev cX3_isAhead : ByteArray := prog_17_method_57_code
def yX3_isAhead : MethodName := ⟨RX3, "isAhead", "(I)Z"⟩
def dkwX3_isAhead_0 : List UInt8 := [26, 133, 9, 20, 0, 166, 184, 0, 48, 172]
abbrev dktX3_isAhead_0 : List UInt8 := dkwX3_isAhead_0 ++ []
theorem dksX3_isAhead_0 : cX3_isAhead.data.toList.drop 0 = dktX3_isAhead_0 := by decide +kernel
theorem dX3_isAhead_0 : decode cX3_isAhead 0 = .ok (.iload_n 0, 1) := dk_26 (dk_at dksX3_isAhead_0 0 rfl rfl)
theorem dX3_isAhead_1 : decode cX3_isAhead 1 = .ok (.i2l, 1) := dk_133 (dk_at dksX3_isAhead_0 1 rfl rfl)
theorem dX3_isAhead_2 : decode cX3_isAhead 2 = .ok (.lconst 0, 1) := dk_9 (dk_at dksX3_isAhead_0 2 rfl rfl)
theorem dX3_isAhead_3 : decode cX3_isAhead 3 = .ok (.ldc2_w 166, 3) := dk_20 0 166 (dk_at dksX3_isAhead_0 3 rfl rfl)
theorem dX3_isAhead_6 : decode cX3_isAhead 6 = .ok (.invokestatic 48, 3) := dk_184 0 48 (dk_at dksX3_isAhead_0 6 rfl rfl)
theorem dX3_isAhead_9 : decode cX3_isAhead 9 = .ok (.ireturn, 1) := dk_172 (dk_at dksX3_isAhead_0 9 rfl rfl)
abbrev cX3_behind : ByteArray := prog_17_method_58_code
def yX3_behind : MethodName := ⟨RX3, "behind", "(II)I"⟩
def dkwX3_behind_0 : List UInt8 := [42, 182, 0, 184, 42, 28, 182, 0, 168, 42, 42, 180, 0, 7, 27, 46, 182, 0, 187, 172]
abbrev dktX3_behind_0 : List UInt8 := dkwX3_behind_0 ++ []
theorem dksX3_behind_0 : cX3_behind.data.toList.drop 0 = dktX3_behind_0 := by decide +kernel
theorem dX3_behind_0 : decode cX3_behind 0 = .ok (.aload_n 0, 1) := dk_42 (dk_at dksX3_behind_0 0 rfl rfl)
theorem dX3_behind_1 : decode cX3_behind 1 = .ok (.invokevirtual 184, 3) := dk_182 0 184 (dk_at dksX3_behind_0 1 rfl rfl)
theorem dX3_behind_4 : decode cX3_behind 4 = .ok (.aload_n 0, 1) := dk_42 (dk_at dksX3_behind_0 4 rfl rfl)
theorem dX3_behind_5 : decode cX3_behind 5 = .ok (.iload_n 2, 1) := dk_28 (dk_at dksX3_behind_0 5 rfl rfl)
theorem dX3_behind_6 : decode cX3_behind 6 = .ok (.invokevirtual 168, 3) := dk_182 0 168 (dk_at dksX3_behind_0 6 rfl rfl)
theorem dX3_behind_9 : decode cX3_behind 9 = .ok (.aload_n 0, 1) := dk_42 (dk_at dksX3_behind_0 9 rfl rfl)
theorem dX3_behind_10 : decode cX3_behind 10 = .ok (.aload_n 0, 1) := dk_42 (dk_at dksX3_behind_0 10 rfl rfl)
theorem dX3_behind_11 : decode cX3_behind 11 = .ok (.getfield 7, 3) := dk_180 0 7 (dk_at dksX3_behind_0 11 rfl rfl)
theorem dX3_behind_14 : decode cX3_behind 14 = .ok (.iload_n 1, 1) := dk_27 (dk_at dksX3_behind_0 14 rfl rfl)
theorem dX3_behind_15 : decode cX3_behind 15 = .ok (.iaload, 1) := dk_46 (dk_at dksX3_behind_0 15 rfl rfl)
theorem dX3_behind_16 : decode cX3_behind 16 = .ok (.invokevirtual 187, 3) := dk_182 0 187 (dk_at dksX3_behind_0 16 rfl rfl)
theorem dX3_behind_19 : decode cX3_behind 19 = .ok (.ireturn, 1) := dk_172 (dk_at dksX3_behind_0 19 rfl rfl)
abbrev cX3_laysAside : ByteArray := prog_17_method_6_code
def yX3_laysAside : MethodName := ⟨RX3, "laysAside", "()V"⟩
def dkwX3_laysAside_1 : List UInt8 := [167, 255, 235, 177]
abbrev dktX3_laysAside_1 : List UInt8 := dkwX3_laysAside_1 ++ []
def dkwX3_laysAside_0 : List UInt8 := [3, 60, 27, 16, 77, 162, 0, 21, 42, 180, 0, 19, 27, 42, 180, 0, 7, 27, 46, 79, 132, 1, 1]
abbrev dktX3_laysAside_0 : List UInt8 := dkwX3_laysAside_0 ++ dktX3_laysAside_1
theorem dksX3_laysAside_0 : cX3_laysAside.data.toList.drop 0 = dktX3_laysAside_0 := by decide +kernel
theorem dksX3_laysAside_1 : cX3_laysAside.data.toList.drop 23 = dktX3_laysAside_1 := dk_seg dksX3_laysAside_0 23 rfl rfl
theorem dX3_laysAside_0 : decode cX3_laysAside 0 = .ok (.iconst 0, 1) := dk_3 (dk_at dksX3_laysAside_0 0 rfl rfl)
theorem dX3_laysAside_1 : decode cX3_laysAside 1 = .ok (.istore_n 1, 1) := dk_60 (dk_at dksX3_laysAside_0 1 rfl rfl)
theorem dX3_laysAside_2 : decode cX3_laysAside 2 = .ok (.iload_n 1, 1) := dk_27 (dk_at dksX3_laysAside_0 2 rfl rfl)
theorem dX3_laysAside_3 : decode cX3_laysAside 3 = .ok (.bipush 77, 2) := dk_16 77 (dk_at dksX3_laysAside_0 3 rfl rfl)
theorem dX3_laysAside_5 : decode cX3_laysAside 5 = .ok (.if_icmp .ge 21, 3) := dk_162 0 21 (dk_at dksX3_laysAside_0 5 rfl rfl)
theorem dX3_laysAside_8 : decode cX3_laysAside 8 = .ok (.aload_n 0, 1) := dk_42 (dk_at dksX3_laysAside_0 8 rfl rfl)
theorem dX3_laysAside_9 : decode cX3_laysAside 9 = .ok (.getfield 19, 3) := dk_180 0 19 (dk_at dksX3_laysAside_0 9 rfl rfl)
theorem dX3_laysAside_12 : decode cX3_laysAside 12 = .ok (.iload_n 1, 1) := dk_27 (dk_at dksX3_laysAside_0 12 rfl rfl)
theorem dX3_laysAside_13 : decode cX3_laysAside 13 = .ok (.aload_n 0, 1) := dk_42 (dk_at dksX3_laysAside_0 13 rfl rfl)
theorem dX3_laysAside_14 : decode cX3_laysAside 14 = .ok (.getfield 7, 3) := dk_180 0 7 (dk_at dksX3_laysAside_0 14 rfl rfl)
theorem dX3_laysAside_17 : decode cX3_laysAside 17 = .ok (.iload_n 1, 1) := dk_27 (dk_at dksX3_laysAside_0 17 rfl rfl)
theorem dX3_laysAside_18 : decode cX3_laysAside 18 = .ok (.iaload, 1) := dk_46 (dk_at dksX3_laysAside_0 18 rfl rfl)
theorem dX3_laysAside_19 : decode cX3_laysAside 19 = .ok (.iastore, 1) := dk_79 (dk_at dksX3_laysAside_0 19 rfl rfl)
theorem dX3_laysAside_20 : decode cX3_laysAside 20 = .ok (.iinc 1 1, 3) := dk_132 1 1 (dk_at dksX3_laysAside_0 20 rfl rfl)
theorem dX3_laysAside_23 : decode cX3_laysAside 23 = .ok (.goto (-21), 3) := dk_167 255 235 (dk_at dksX3_laysAside_1 0 rfl rfl)
theorem dX3_laysAside_26 : decode cX3_laysAside 26 = .ok (.return_, 1) := dk_177 (dk_at dksX3_laysAside_1 3 rfl rfl)
abbrev cX3_takesBack : ByteArray := prog_17_method_7_code
def yX3_takesBack : MethodName := ⟨RX3, "takesBack", "(I)I"⟩
def dkwX3_takesBack_1 : List UInt8 := [167, 255, 235, 27, 172]
abbrev dktX3_takesBack_1 : List UInt8 := dkwX3_takesBack_1 ++ []
def dkwX3_takesBack_0 : List UInt8 := [3, 61, 28, 16, 77, 162, 0, 21, 42, 180, 0, 7, 28, 42, 180, 0, 19, 28, 46, 79, 132, 2, 1]
abbrev dktX3_takesBack_0 : List UInt8 := dkwX3_takesBack_0 ++ dktX3_takesBack_1
theorem dksX3_takesBack_0 : cX3_takesBack.data.toList.drop 0 = dktX3_takesBack_0 := by decide +kernel
theorem dksX3_takesBack_1 : cX3_takesBack.data.toList.drop 23 = dktX3_takesBack_1 := dk_seg dksX3_takesBack_0 23 rfl rfl
theorem dX3_takesBack_0 : decode cX3_takesBack 0 = .ok (.iconst 0, 1) := dk_3 (dk_at dksX3_takesBack_0 0 rfl rfl)
theorem dX3_takesBack_1 : decode cX3_takesBack 1 = .ok (.istore_n 2, 1) := dk_61 (dk_at dksX3_takesBack_0 1 rfl rfl)
theorem dX3_takesBack_2 : decode cX3_takesBack 2 = .ok (.iload_n 2, 1) := dk_28 (dk_at dksX3_takesBack_0 2 rfl rfl)
theorem dX3_takesBack_3 : decode cX3_takesBack 3 = .ok (.bipush 77, 2) := dk_16 77 (dk_at dksX3_takesBack_0 3 rfl rfl)
theorem dX3_takesBack_5 : decode cX3_takesBack 5 = .ok (.if_icmp .ge 21, 3) := dk_162 0 21 (dk_at dksX3_takesBack_0 5 rfl rfl)
theorem dX3_takesBack_8 : decode cX3_takesBack 8 = .ok (.aload_n 0, 1) := dk_42 (dk_at dksX3_takesBack_0 8 rfl rfl)
theorem dX3_takesBack_9 : decode cX3_takesBack 9 = .ok (.getfield 7, 3) := dk_180 0 7 (dk_at dksX3_takesBack_0 9 rfl rfl)
theorem dX3_takesBack_12 : decode cX3_takesBack 12 = .ok (.iload_n 2, 1) := dk_28 (dk_at dksX3_takesBack_0 12 rfl rfl)
theorem dX3_takesBack_13 : decode cX3_takesBack 13 = .ok (.aload_n 0, 1) := dk_42 (dk_at dksX3_takesBack_0 13 rfl rfl)
theorem dX3_takesBack_14 : decode cX3_takesBack 14 = .ok (.getfield 19, 3) := dk_180 0 19 (dk_at dksX3_takesBack_0 14 rfl rfl)
theorem dX3_takesBack_17 : decode cX3_takesBack 17 = .ok (.iload_n 2, 1) := dk_28 (dk_at dksX3_takesBack_0 17 rfl rfl)
theorem dX3_takesBack_18 : decode cX3_takesBack 18 = .ok (.iaload, 1) := dk_46 (dk_at dksX3_takesBack_0 18 rfl rfl)
theorem dX3_takesBack_19 : decode cX3_takesBack 19 = .ok (.iastore, 1) := dk_79 (dk_at dksX3_takesBack_0 19 rfl rfl)
theorem dX3_takesBack_20 : decode cX3_takesBack 20 = .ok (.iinc 2 1, 3) := dk_132 2 1 (dk_at dksX3_takesBack_0 20 rfl rfl)
theorem dX3_takesBack_23 : decode cX3_takesBack 23 = .ok (.goto (-21), 3) := dk_167 255 235 (dk_at dksX3_takesBack_1 0 rfl rfl)
theorem dX3_takesBack_26 : decode cX3_takesBack 26 = .ok (.iload_n 1, 1) := dk_27 (dk_at dksX3_takesBack_1 3 rfl rfl)
theorem dX3_takesBack_27 : decode cX3_takesBack 27 = .ok (.ireturn, 1) := dk_172 (dk_at dksX3_takesBack_1 4 rfl rfl)
abbrev cX3_larder : ByteArray := prog_17_method_60_code
def yX3_larder : MethodName := ⟨RX3, "larder", "(II)I"⟩
def dkwX3_larder_1 : List UInt8 := [167, 0, 9, 42, 18, 45, 182, 0, 74, 172]
abbrev dktX3_larder_1 : List UInt8 := dkwX3_larder_1 ++ []
def dkwX3_larder_0 : List UInt8 := [27, 184, 0, 67, 153, 0, 23, 28, 184, 0, 190, 153, 0, 16, 42, 27, 4, 184, 0, 41, 28, 182, 0, 193]
abbrev dktX3_larder_0 : List UInt8 := dkwX3_larder_0 ++ dktX3_larder_1
theorem dksX3_larder_0 : cX3_larder.data.toList.drop 0 = dktX3_larder_0 := by decide +kernel
theorem dksX3_larder_1 : cX3_larder.data.toList.drop 24 = dktX3_larder_1 := dk_seg dksX3_larder_0 24 rfl rfl
theorem dX3_larder_0 : decode cX3_larder 0 = .ok (.iload_n 1, 1) := dk_27 (dk_at dksX3_larder_0 0 rfl rfl)
theorem dX3_larder_1 : decode cX3_larder 1 = .ok (.invokestatic 67, 3) := dk_184 0 67 (dk_at dksX3_larder_0 1 rfl rfl)
theorem dX3_larder_4 : decode cX3_larder 4 = .ok (.ifCond .eq 23, 3) := dk_153 0 23 (dk_at dksX3_larder_0 4 rfl rfl)
theorem dX3_larder_7 : decode cX3_larder 7 = .ok (.iload_n 2, 1) := dk_28 (dk_at dksX3_larder_0 7 rfl rfl)
theorem dX3_larder_8 : decode cX3_larder 8 = .ok (.invokestatic 190, 3) := dk_184 0 190 (dk_at dksX3_larder_0 8 rfl rfl)
theorem dX3_larder_11 : decode cX3_larder 11 = .ok (.ifCond .eq 16, 3) := dk_153 0 16 (dk_at dksX3_larder_0 11 rfl rfl)
theorem dX3_larder_14 : decode cX3_larder 14 = .ok (.aload_n 0, 1) := dk_42 (dk_at dksX3_larder_0 14 rfl rfl)
theorem dX3_larder_15 : decode cX3_larder 15 = .ok (.iload_n 1, 1) := dk_27 (dk_at dksX3_larder_0 15 rfl rfl)
theorem dX3_larder_16 : decode cX3_larder 16 = .ok (.iconst 1, 1) := dk_4 (dk_at dksX3_larder_0 16 rfl rfl)
theorem dX3_larder_17 : decode cX3_larder 17 = .ok (.invokestatic 41, 3) := dk_184 0 41 (dk_at dksX3_larder_0 17 rfl rfl)
theorem dX3_larder_20 : decode cX3_larder 20 = .ok (.iload_n 2, 1) := dk_28 (dk_at dksX3_larder_0 20 rfl rfl)
theorem dX3_larder_21 : decode cX3_larder 21 = .ok (.invokevirtual 193, 3) := dk_182 0 193 (dk_at dksX3_larder_0 21 rfl rfl)
theorem dX3_larder_24 : decode cX3_larder 24 = .ok (.goto 9, 3) := dk_167 0 9 (dk_at dksX3_larder_1 0 rfl rfl)
theorem dX3_larder_27 : decode cX3_larder 27 = .ok (.aload_n 0, 1) := dk_42 (dk_at dksX3_larder_1 3 rfl rfl)
theorem dX3_larder_28 : decode cX3_larder 28 = .ok (.ldc 45, 2) := dk_18 45 (dk_at dksX3_larder_1 4 rfl rfl)
theorem dX3_larder_30 : decode cX3_larder 30 = .ok (.invokevirtual 74, 3) := dk_182 0 74 (dk_at dksX3_larder_1 6 rfl rfl)
theorem dX3_larder_33 : decode cX3_larder 33 = .ok (.ireturn, 1) := dk_172 (dk_at dksX3_larder_1 9 rfl rfl)
abbrev cX3_empty : ByteArray := prog_17_method_62_code
def yX3_empty : MethodName := ⟨RX3, "empty", "(I)I"⟩
def dkwX3_empty_1 : List UInt8 := [182, 0, 74, 172]
abbrev dktX3_empty_1 : List UInt8 := dkwX3_empty_1 ++ []
def dkwX3_empty_0 : List UInt8 := [27, 184, 0, 67, 153, 0, 16, 42, 27, 4, 184, 0, 41, 3, 182, 0, 197, 167, 0, 9, 42, 18, 45]
abbrev dktX3_empty_0 : List UInt8 := dkwX3_empty_0 ++ dktX3_empty_1
theorem dksX3_empty_0 : cX3_empty.data.toList.drop 0 = dktX3_empty_0 := by decide +kernel
theorem dksX3_empty_1 : cX3_empty.data.toList.drop 23 = dktX3_empty_1 := dk_seg dksX3_empty_0 23 rfl rfl
theorem dX3_empty_0 : decode cX3_empty 0 = .ok (.iload_n 1, 1) := dk_27 (dk_at dksX3_empty_0 0 rfl rfl)
theorem dX3_empty_1 : decode cX3_empty 1 = .ok (.invokestatic 67, 3) := dk_184 0 67 (dk_at dksX3_empty_0 1 rfl rfl)
theorem dX3_empty_4 : decode cX3_empty 4 = .ok (.ifCond .eq 16, 3) := dk_153 0 16 (dk_at dksX3_empty_0 4 rfl rfl)
theorem dX3_empty_7 : decode cX3_empty 7 = .ok (.aload_n 0, 1) := dk_42 (dk_at dksX3_empty_0 7 rfl rfl)
theorem dX3_empty_8 : decode cX3_empty 8 = .ok (.iload_n 1, 1) := dk_27 (dk_at dksX3_empty_0 8 rfl rfl)
theorem dX3_empty_9 : decode cX3_empty 9 = .ok (.iconst 1, 1) := dk_4 (dk_at dksX3_empty_0 9 rfl rfl)
theorem dX3_empty_10 : decode cX3_empty 10 = .ok (.invokestatic 41, 3) := dk_184 0 41 (dk_at dksX3_empty_0 10 rfl rfl)
theorem dX3_empty_13 : decode cX3_empty 13 = .ok (.iconst 0, 1) := dk_3 (dk_at dksX3_empty_0 13 rfl rfl)
theorem dX3_empty_14 : decode cX3_empty 14 = .ok (.invokevirtual 197, 3) := dk_182 0 197 (dk_at dksX3_empty_0 14 rfl rfl)
theorem dX3_empty_17 : decode cX3_empty 17 = .ok (.goto 9, 3) := dk_167 0 9 (dk_at dksX3_empty_0 17 rfl rfl)
theorem dX3_empty_20 : decode cX3_empty 20 = .ok (.aload_n 0, 1) := dk_42 (dk_at dksX3_empty_0 20 rfl rfl)
theorem dX3_empty_21 : decode cX3_empty 21 = .ok (.ldc 45, 2) := dk_18 45 (dk_at dksX3_empty_0 21 rfl rfl)
theorem dX3_empty_23 : decode cX3_empty 23 = .ok (.invokevirtual 74, 3) := dk_182 0 74 (dk_at dksX3_empty_1 0 rfl rfl)
theorem dX3_empty_26 : decode cX3_empty 26 = .ok (.ireturn, 1) := dk_172 (dk_at dksX3_empty_1 3 rfl rfl)
abbrev cX3_firstAs : ByteArray := prog_17_method_61_code
def yX3_firstAs : MethodName := ⟨RX3, "firstAs", "(II)I"⟩
def dkwX3_firstAs_2 : List UInt8 := [18, 196, 182, 0, 74, 167, 0, 5, 21, 4, 172]
abbrev dktX3_firstAs_2 : List UInt8 := dkwX3_firstAs_2 ++ []
def dkwX3_firstAs_1 : List UInt8 := [182, 0, 163, 132, 3, 1, 167, 255, 233, 42, 29, 182, 0, 187, 54, 4, 21, 4, 16, 60, 164, 0, 12, 42]
abbrev dktX3_firstAs_1 : List UInt8 := dkwX3_firstAs_1 ++ dktX3_firstAs_2
def dkwX3_firstAs_0 : List UInt8 := [42, 182, 0, 184, 3, 62, 29, 16, 60, 163, 0, 23, 42, 180, 0, 7, 27, 46, 28, 159, 0, 13, 42]
abbrev dktX3_firstAs_0 : List UInt8 := dkwX3_firstAs_0 ++ dktX3_firstAs_1
theorem dksX3_firstAs_0 : cX3_firstAs.data.toList.drop 0 = dktX3_firstAs_0 := by decide +kernel
theorem dksX3_firstAs_1 : cX3_firstAs.data.toList.drop 23 = dktX3_firstAs_1 := dk_seg dksX3_firstAs_0 23 rfl rfl
theorem dksX3_firstAs_2 : cX3_firstAs.data.toList.drop 47 = dktX3_firstAs_2 := dk_seg dksX3_firstAs_1 24 rfl rfl
theorem dX3_firstAs_0 : decode cX3_firstAs 0 = .ok (.aload_n 0, 1) := dk_42 (dk_at dksX3_firstAs_0 0 rfl rfl)
theorem dX3_firstAs_1 : decode cX3_firstAs 1 = .ok (.invokevirtual 184, 3) := dk_182 0 184 (dk_at dksX3_firstAs_0 1 rfl rfl)
theorem dX3_firstAs_4 : decode cX3_firstAs 4 = .ok (.iconst 0, 1) := dk_3 (dk_at dksX3_firstAs_0 4 rfl rfl)
theorem dX3_firstAs_5 : decode cX3_firstAs 5 = .ok (.istore_n 3, 1) := dk_62 (dk_at dksX3_firstAs_0 5 rfl rfl)
theorem dX3_firstAs_6 : decode cX3_firstAs 6 = .ok (.iload_n 3, 1) := dk_29 (dk_at dksX3_firstAs_0 6 rfl rfl)
theorem dX3_firstAs_7 : decode cX3_firstAs 7 = .ok (.bipush 60, 2) := dk_16 60 (dk_at dksX3_firstAs_0 7 rfl rfl)
theorem dX3_firstAs_9 : decode cX3_firstAs 9 = .ok (.if_icmp .gt 23, 3) := dk_163 0 23 (dk_at dksX3_firstAs_0 9 rfl rfl)
theorem dX3_firstAs_12 : decode cX3_firstAs 12 = .ok (.aload_n 0, 1) := dk_42 (dk_at dksX3_firstAs_0 12 rfl rfl)
theorem dX3_firstAs_13 : decode cX3_firstAs 13 = .ok (.getfield 7, 3) := dk_180 0 7 (dk_at dksX3_firstAs_0 13 rfl rfl)
theorem dX3_firstAs_16 : decode cX3_firstAs 16 = .ok (.iload_n 1, 1) := dk_27 (dk_at dksX3_firstAs_0 16 rfl rfl)
theorem dX3_firstAs_17 : decode cX3_firstAs 17 = .ok (.iaload, 1) := dk_46 (dk_at dksX3_firstAs_0 17 rfl rfl)
theorem dX3_firstAs_18 : decode cX3_firstAs 18 = .ok (.iload_n 2, 1) := dk_28 (dk_at dksX3_firstAs_0 18 rfl rfl)
theorem dX3_firstAs_19 : decode cX3_firstAs 19 = .ok (.if_icmp .eq 13, 3) := dk_159 0 13 (dk_at dksX3_firstAs_0 19 rfl rfl)
theorem dX3_firstAs_22 : decode cX3_firstAs 22 = .ok (.aload_n 0, 1) := dk_42 (dk_at dksX3_firstAs_0 22 rfl rfl)
theorem dX3_firstAs_23 : decode cX3_firstAs 23 = .ok (.invokevirtual 163, 3) := dk_182 0 163 (dk_at dksX3_firstAs_1 0 rfl rfl)
theorem dX3_firstAs_26 : decode cX3_firstAs 26 = .ok (.iinc 3 1, 3) := dk_132 3 1 (dk_at dksX3_firstAs_1 3 rfl rfl)
theorem dX3_firstAs_29 : decode cX3_firstAs 29 = .ok (.goto (-23), 3) := dk_167 255 233 (dk_at dksX3_firstAs_1 6 rfl rfl)
theorem dX3_firstAs_32 : decode cX3_firstAs 32 = .ok (.aload_n 0, 1) := dk_42 (dk_at dksX3_firstAs_1 9 rfl rfl)
theorem dX3_firstAs_33 : decode cX3_firstAs 33 = .ok (.iload_n 3, 1) := dk_29 (dk_at dksX3_firstAs_1 10 rfl rfl)
theorem dX3_firstAs_34 : decode cX3_firstAs 34 = .ok (.invokevirtual 187, 3) := dk_182 0 187 (dk_at dksX3_firstAs_1 11 rfl rfl)
theorem dX3_firstAs_37 : decode cX3_firstAs 37 = .ok (.istore 4, 2) := dk_54 4 (dk_at dksX3_firstAs_1 14 rfl rfl)
theorem dX3_firstAs_39 : decode cX3_firstAs 39 = .ok (.iload 4, 2) := dk_21 4 (dk_at dksX3_firstAs_1 16 rfl rfl)
theorem dX3_firstAs_41 : decode cX3_firstAs 41 = .ok (.bipush 60, 2) := dk_16 60 (dk_at dksX3_firstAs_1 18 rfl rfl)
theorem dX3_firstAs_43 : decode cX3_firstAs 43 = .ok (.if_icmp .le 12, 3) := dk_164 0 12 (dk_at dksX3_firstAs_1 20 rfl rfl)
theorem dX3_firstAs_46 : decode cX3_firstAs 46 = .ok (.aload_n 0, 1) := dk_42 (dk_at dksX3_firstAs_1 23 rfl rfl)
theorem dX3_firstAs_47 : decode cX3_firstAs 47 = .ok (.ldc 196, 2) := dk_18 196 (dk_at dksX3_firstAs_2 0 rfl rfl)
theorem dX3_firstAs_49 : decode cX3_firstAs 49 = .ok (.invokevirtual 74, 3) := dk_182 0 74 (dk_at dksX3_firstAs_2 2 rfl rfl)
theorem dX3_firstAs_52 : decode cX3_firstAs 52 = .ok (.goto 5, 3) := dk_167 0 5 (dk_at dksX3_firstAs_2 5 rfl rfl)
theorem dX3_firstAs_55 : decode cX3_firstAs 55 = .ok (.iload 4, 2) := dk_21 4 (dk_at dksX3_firstAs_2 8 rfl rfl)
theorem dX3_firstAs_57 : decode cX3_firstAs 57 = .ok (.ireturn, 1) := dk_172 (dk_at dksX3_firstAs_2 10 rfl rfl)
abbrev cX3_many : ByteArray := prog_17_method_63_code
def yX3_many : MethodName := ⟨RX3, "many", "(I)I"⟩
def dkwX3_many_0 : List UInt8 := [27, 184, 0, 190, 153, 0, 12, 42, 3, 27, 182, 0, 193, 167, 0, 9, 42, 18, 45, 182, 0, 74, 172]
abbrev dktX3_many_0 : List UInt8 := dkwX3_many_0 ++ []
theorem dksX3_many_0 : cX3_many.data.toList.drop 0 = dktX3_many_0 := by decide +kernel
theorem dX3_many_0 : decode cX3_many 0 = .ok (.iload_n 1, 1) := dk_27 (dk_at dksX3_many_0 0 rfl rfl)
theorem dX3_many_1 : decode cX3_many 1 = .ok (.invokestatic 190, 3) := dk_184 0 190 (dk_at dksX3_many_0 1 rfl rfl)
theorem dX3_many_4 : decode cX3_many 4 = .ok (.ifCond .eq 12, 3) := dk_153 0 12 (dk_at dksX3_many_0 4 rfl rfl)
theorem dX3_many_7 : decode cX3_many 7 = .ok (.aload_n 0, 1) := dk_42 (dk_at dksX3_many_0 7 rfl rfl)
theorem dX3_many_8 : decode cX3_many 8 = .ok (.iconst 0, 1) := dk_3 (dk_at dksX3_many_0 8 rfl rfl)
theorem dX3_many_9 : decode cX3_many 9 = .ok (.iload_n 1, 1) := dk_27 (dk_at dksX3_many_0 9 rfl rfl)
theorem dX3_many_10 : decode cX3_many 10 = .ok (.invokevirtual 193, 3) := dk_182 0 193 (dk_at dksX3_many_0 10 rfl rfl)
theorem dX3_many_13 : decode cX3_many 13 = .ok (.goto 9, 3) := dk_167 0 9 (dk_at dksX3_many_0 13 rfl rfl)
theorem dX3_many_16 : decode cX3_many 16 = .ok (.aload_n 0, 1) := dk_42 (dk_at dksX3_many_0 16 rfl rfl)
theorem dX3_many_17 : decode cX3_many 17 = .ok (.ldc 45, 2) := dk_18 45 (dk_at dksX3_many_0 17 rfl rfl)
theorem dX3_many_19 : decode cX3_many 19 = .ok (.invokevirtual 74, 3) := dk_182 0 74 (dk_at dksX3_many_0 19 rfl rfl)
theorem dX3_many_22 : decode cX3_many 22 = .ok (.ireturn, 1) := dk_172 (dk_at dksX3_many_0 22 rfl rfl)
abbrev cX3_out : ByteArray := prog_17_method_64_code
def yX3_out : MethodName := ⟨RX3, "out", "(I)I"⟩
def dkwX3_out_1 : List UInt8 := [182, 0, 74, 172]
abbrev dktX3_out_1 : List UInt8 := dkwX3_out_1 ++ []
def dkwX3_out_0 : List UInt8 := [42, 27, 182, 0, 106, 153, 0, 16, 42, 27, 7, 184, 0, 56, 2, 182, 0, 197, 167, 0, 9, 42, 18, 45]
abbrev dktX3_out_0 : List UInt8 := dkwX3_out_0 ++ dktX3_out_1
theorem dksX3_out_0 : cX3_out.data.toList.drop 0 = dktX3_out_0 := by decide +kernel
theorem dksX3_out_1 : cX3_out.data.toList.drop 24 = dktX3_out_1 := dk_seg dksX3_out_0 24 rfl rfl
theorem dX3_out_0 : decode cX3_out 0 = .ok (.aload_n 0, 1) := dk_42 (dk_at dksX3_out_0 0 rfl rfl)
theorem dX3_out_1 : decode cX3_out 1 = .ok (.iload_n 1, 1) := dk_27 (dk_at dksX3_out_0 1 rfl rfl)
theorem dX3_out_2 : decode cX3_out 2 = .ok (.invokevirtual 106, 3) := dk_182 0 106 (dk_at dksX3_out_0 2 rfl rfl)
theorem dX3_out_5 : decode cX3_out 5 = .ok (.ifCond .eq 16, 3) := dk_153 0 16 (dk_at dksX3_out_0 5 rfl rfl)
theorem dX3_out_8 : decode cX3_out 8 = .ok (.aload_n 0, 1) := dk_42 (dk_at dksX3_out_0 8 rfl rfl)
theorem dX3_out_9 : decode cX3_out 9 = .ok (.iload_n 1, 1) := dk_27 (dk_at dksX3_out_0 9 rfl rfl)
theorem dX3_out_10 : decode cX3_out 10 = .ok (.iconst 4, 1) := dk_7 (dk_at dksX3_out_0 10 rfl rfl)
theorem dX3_out_11 : decode cX3_out 11 = .ok (.invokestatic 56, 3) := dk_184 0 56 (dk_at dksX3_out_0 11 rfl rfl)
theorem dX3_out_14 : decode cX3_out 14 = .ok (.iconst (-1), 1) := dk_2 (dk_at dksX3_out_0 14 rfl rfl)
theorem dX3_out_15 : decode cX3_out 15 = .ok (.invokevirtual 197, 3) := dk_182 0 197 (dk_at dksX3_out_0 15 rfl rfl)
theorem dX3_out_18 : decode cX3_out 18 = .ok (.goto 9, 3) := dk_167 0 9 (dk_at dksX3_out_0 18 rfl rfl)
theorem dX3_out_21 : decode cX3_out 21 = .ok (.aload_n 0, 1) := dk_42 (dk_at dksX3_out_0 21 rfl rfl)
theorem dX3_out_22 : decode cX3_out 22 = .ok (.ldc 45, 2) := dk_18 45 (dk_at dksX3_out_0 22 rfl rfl)
theorem dX3_out_24 : decode cX3_out 24 = .ok (.invokevirtual 74, 3) := dk_182 0 74 (dk_at dksX3_out_1 0 rfl rfl)
theorem dX3_out_27 : decode cX3_out 27 = .ok (.ireturn, 1) := dk_172 (dk_at dksX3_out_1 3 rfl rfl)
abbrev cX3_fewest : ByteArray := prog_17_method_66_code
def yX3_fewest : MethodName := ⟨RX3, "fewest", "(II)I"⟩
def dkwX3_fewest_4 : List UInt8 := [167, 0, 5, 21, 4, 172]
abbrev dktX3_fewest_4 : List UInt8 := dkwX3_fewest_4 ++ []
def dkwX3_fewest_3 : List UInt8 := [167, 255, 231, 42, 29, 182, 0, 187, 54, 4, 21, 4, 16, 40, 164, 0, 12, 42, 18, 196, 182, 0, 74]
abbrev dktX3_fewest_3 : List UInt8 := dkwX3_fewest_3 ++ dktX3_fewest_4
def dkwX3_fewest_2 : List UInt8 := [163, 0, 25, 42, 27, 7, 182, 0, 78, 28, 159, 0, 15, 42, 27, 4, 182, 0, 143, 132, 3, 1]
abbrev dktX3_fewest_2 : List UInt8 := dkwX3_fewest_2 ++ dktX3_fewest_3
def dkwX3_fewest_1 : List UInt8 := [182, 0, 200, 153, 0, 10, 42, 18, 134, 182, 0, 74, 172, 42, 182, 0, 184, 3, 62, 29, 16, 40]
abbrev dktX3_fewest_1 : List UInt8 := dkwX3_fewest_1 ++ dktX3_fewest_2
def dkwX3_fewest_0 : List UInt8 := [42, 27, 182, 0, 106, 153, 0, 10, 28, 184, 0, 67, 154, 0, 10, 42, 18, 45, 182, 0, 74, 172, 42, 27]
abbrev dktX3_fewest_0 : List UInt8 := dkwX3_fewest_0 ++ dktX3_fewest_1
theorem dksX3_fewest_0 : cX3_fewest.data.toList.drop 0 = dktX3_fewest_0 := by decide +kernel
theorem dksX3_fewest_1 : cX3_fewest.data.toList.drop 24 = dktX3_fewest_1 := dk_seg dksX3_fewest_0 24 rfl rfl
theorem dksX3_fewest_2 : cX3_fewest.data.toList.drop 46 = dktX3_fewest_2 := dk_seg dksX3_fewest_1 22 rfl rfl
theorem dksX3_fewest_3 : cX3_fewest.data.toList.drop 68 = dktX3_fewest_3 := dk_seg dksX3_fewest_2 22 rfl rfl
theorem dksX3_fewest_4 : cX3_fewest.data.toList.drop 91 = dktX3_fewest_4 := dk_seg dksX3_fewest_3 23 rfl rfl
theorem dX3_fewest_0 : decode cX3_fewest 0 = .ok (.aload_n 0, 1) := dk_42 (dk_at dksX3_fewest_0 0 rfl rfl)
theorem dX3_fewest_1 : decode cX3_fewest 1 = .ok (.iload_n 1, 1) := dk_27 (dk_at dksX3_fewest_0 1 rfl rfl)
theorem dX3_fewest_2 : decode cX3_fewest 2 = .ok (.invokevirtual 106, 3) := dk_182 0 106 (dk_at dksX3_fewest_0 2 rfl rfl)
theorem dX3_fewest_5 : decode cX3_fewest 5 = .ok (.ifCond .eq 10, 3) := dk_153 0 10 (dk_at dksX3_fewest_0 5 rfl rfl)
theorem dX3_fewest_8 : decode cX3_fewest 8 = .ok (.iload_n 2, 1) := dk_28 (dk_at dksX3_fewest_0 8 rfl rfl)
theorem dX3_fewest_9 : decode cX3_fewest 9 = .ok (.invokestatic 67, 3) := dk_184 0 67 (dk_at dksX3_fewest_0 9 rfl rfl)
theorem dX3_fewest_12 : decode cX3_fewest 12 = .ok (.ifCond .ne 10, 3) := dk_154 0 10 (dk_at dksX3_fewest_0 12 rfl rfl)
theorem dX3_fewest_15 : decode cX3_fewest 15 = .ok (.aload_n 0, 1) := dk_42 (dk_at dksX3_fewest_0 15 rfl rfl)
theorem dX3_fewest_16 : decode cX3_fewest 16 = .ok (.ldc 45, 2) := dk_18 45 (dk_at dksX3_fewest_0 16 rfl rfl)
theorem dX3_fewest_18 : decode cX3_fewest 18 = .ok (.invokevirtual 74, 3) := dk_182 0 74 (dk_at dksX3_fewest_0 18 rfl rfl)
theorem dX3_fewest_21 : decode cX3_fewest 21 = .ok (.ireturn, 1) := dk_172 (dk_at dksX3_fewest_0 21 rfl rfl)
theorem dX3_fewest_22 : decode cX3_fewest 22 = .ok (.aload_n 0, 1) := dk_42 (dk_at dksX3_fewest_0 22 rfl rfl)
theorem dX3_fewest_23 : decode cX3_fewest 23 = .ok (.iload_n 1, 1) := dk_27 (dk_at dksX3_fewest_0 23 rfl rfl)
theorem dX3_fewest_24 : decode cX3_fewest 24 = .ok (.invokevirtual 200, 3) := dk_182 0 200 (dk_at dksX3_fewest_1 0 rfl rfl)
theorem dX3_fewest_27 : decode cX3_fewest 27 = .ok (.ifCond .eq 10, 3) := dk_153 0 10 (dk_at dksX3_fewest_1 3 rfl rfl)
theorem dX3_fewest_30 : decode cX3_fewest 30 = .ok (.aload_n 0, 1) := dk_42 (dk_at dksX3_fewest_1 6 rfl rfl)
theorem dX3_fewest_31 : decode cX3_fewest 31 = .ok (.ldc 134, 2) := dk_18 134 (dk_at dksX3_fewest_1 7 rfl rfl)
theorem dX3_fewest_33 : decode cX3_fewest 33 = .ok (.invokevirtual 74, 3) := dk_182 0 74 (dk_at dksX3_fewest_1 9 rfl rfl)
theorem dX3_fewest_36 : decode cX3_fewest 36 = .ok (.ireturn, 1) := dk_172 (dk_at dksX3_fewest_1 12 rfl rfl)
theorem dX3_fewest_37 : decode cX3_fewest 37 = .ok (.aload_n 0, 1) := dk_42 (dk_at dksX3_fewest_1 13 rfl rfl)
theorem dX3_fewest_38 : decode cX3_fewest 38 = .ok (.invokevirtual 184, 3) := dk_182 0 184 (dk_at dksX3_fewest_1 14 rfl rfl)
theorem dX3_fewest_41 : decode cX3_fewest 41 = .ok (.iconst 0, 1) := dk_3 (dk_at dksX3_fewest_1 17 rfl rfl)
theorem dX3_fewest_42 : decode cX3_fewest 42 = .ok (.istore_n 3, 1) := dk_62 (dk_at dksX3_fewest_1 18 rfl rfl)
theorem dX3_fewest_43 : decode cX3_fewest 43 = .ok (.iload_n 3, 1) := dk_29 (dk_at dksX3_fewest_1 19 rfl rfl)
theorem dX3_fewest_44 : decode cX3_fewest 44 = .ok (.bipush 40, 2) := dk_16 40 (dk_at dksX3_fewest_1 20 rfl rfl)
theorem dX3_fewest_46 : decode cX3_fewest 46 = .ok (.if_icmp .gt 25, 3) := dk_163 0 25 (dk_at dksX3_fewest_2 0 rfl rfl)
theorem dX3_fewest_49 : decode cX3_fewest 49 = .ok (.aload_n 0, 1) := dk_42 (dk_at dksX3_fewest_2 3 rfl rfl)
theorem dX3_fewest_50 : decode cX3_fewest 50 = .ok (.iload_n 1, 1) := dk_27 (dk_at dksX3_fewest_2 4 rfl rfl)
theorem dX3_fewest_51 : decode cX3_fewest 51 = .ok (.iconst 4, 1) := dk_7 (dk_at dksX3_fewest_2 5 rfl rfl)
theorem dX3_fewest_52 : decode cX3_fewest 52 = .ok (.invokevirtual 78, 3) := dk_182 0 78 (dk_at dksX3_fewest_2 6 rfl rfl)
theorem dX3_fewest_55 : decode cX3_fewest 55 = .ok (.iload_n 2, 1) := dk_28 (dk_at dksX3_fewest_2 9 rfl rfl)
theorem dX3_fewest_56 : decode cX3_fewest 56 = .ok (.if_icmp .eq 15, 3) := dk_159 0 15 (dk_at dksX3_fewest_2 10 rfl rfl)
theorem dX3_fewest_59 : decode cX3_fewest 59 = .ok (.aload_n 0, 1) := dk_42 (dk_at dksX3_fewest_2 13 rfl rfl)
theorem dX3_fewest_60 : decode cX3_fewest 60 = .ok (.iload_n 1, 1) := dk_27 (dk_at dksX3_fewest_2 14 rfl rfl)
theorem dX3_fewest_61 : decode cX3_fewest 61 = .ok (.iconst 1, 1) := dk_4 (dk_at dksX3_fewest_2 15 rfl rfl)
theorem dX3_fewest_62 : decode cX3_fewest 62 = .ok (.invokevirtual 143, 3) := dk_182 0 143 (dk_at dksX3_fewest_2 16 rfl rfl)
theorem dX3_fewest_65 : decode cX3_fewest 65 = .ok (.iinc 3 1, 3) := dk_132 3 1 (dk_at dksX3_fewest_2 19 rfl rfl)
theorem dX3_fewest_68 : decode cX3_fewest 68 = .ok (.goto (-25), 3) := dk_167 255 231 (dk_at dksX3_fewest_3 0 rfl rfl)
theorem dX3_fewest_71 : decode cX3_fewest 71 = .ok (.aload_n 0, 1) := dk_42 (dk_at dksX3_fewest_3 3 rfl rfl)
theorem dX3_fewest_72 : decode cX3_fewest 72 = .ok (.iload_n 3, 1) := dk_29 (dk_at dksX3_fewest_3 4 rfl rfl)
theorem dX3_fewest_73 : decode cX3_fewest 73 = .ok (.invokevirtual 187, 3) := dk_182 0 187 (dk_at dksX3_fewest_3 5 rfl rfl)
theorem dX3_fewest_76 : decode cX3_fewest 76 = .ok (.istore 4, 2) := dk_54 4 (dk_at dksX3_fewest_3 8 rfl rfl)
theorem dX3_fewest_78 : decode cX3_fewest 78 = .ok (.iload 4, 2) := dk_21 4 (dk_at dksX3_fewest_3 10 rfl rfl)
theorem dX3_fewest_80 : decode cX3_fewest 80 = .ok (.bipush 40, 2) := dk_16 40 (dk_at dksX3_fewest_3 12 rfl rfl)
theorem dX3_fewest_82 : decode cX3_fewest 82 = .ok (.if_icmp .le 12, 3) := dk_164 0 12 (dk_at dksX3_fewest_3 14 rfl rfl)
theorem dX3_fewest_85 : decode cX3_fewest 85 = .ok (.aload_n 0, 1) := dk_42 (dk_at dksX3_fewest_3 17 rfl rfl)
theorem dX3_fewest_86 : decode cX3_fewest 86 = .ok (.ldc 196, 2) := dk_18 196 (dk_at dksX3_fewest_3 18 rfl rfl)
theorem dX3_fewest_88 : decode cX3_fewest 88 = .ok (.invokevirtual 74, 3) := dk_182 0 74 (dk_at dksX3_fewest_3 20 rfl rfl)
theorem dX3_fewest_91 : decode cX3_fewest 91 = .ok (.goto 5, 3) := dk_167 0 5 (dk_at dksX3_fewest_4 0 rfl rfl)
theorem dX3_fewest_94 : decode cX3_fewest 94 = .ok (.iload 4, 2) := dk_21 4 (dk_at dksX3_fewest_4 3 rfl rfl)
theorem dX3_fewest_96 : decode cX3_fewest 96 = .ok (.ireturn, 1) := dk_172 (dk_at dksX3_fewest_4 5 rfl rfl)
abbrev cX3_wrongLodger : ByteArray := prog_17_method_65_code
def yX3_wrongLodger : MethodName := ⟨RX3, "wrongLodger", "(I)I"⟩
def dkwX3_wrongLodger_0 : List UInt8 := [42, 27, 7, 182, 0, 78, 2, 160, 0, 8, 18, 134, 167, 0, 4, 3, 172]
abbrev dktX3_wrongLodger_0 : List UInt8 := dkwX3_wrongLodger_0 ++ []
theorem dksX3_wrongLodger_0 : cX3_wrongLodger.data.toList.drop 0 = dktX3_wrongLodger_0 := by decide +kernel
theorem dX3_wrongLodger_0 : decode cX3_wrongLodger 0 = .ok (.aload_n 0, 1) := dk_42 (dk_at dksX3_wrongLodger_0 0 rfl rfl)
theorem dX3_wrongLodger_1 : decode cX3_wrongLodger 1 = .ok (.iload_n 1, 1) := dk_27 (dk_at dksX3_wrongLodger_0 1 rfl rfl)
theorem dX3_wrongLodger_2 : decode cX3_wrongLodger 2 = .ok (.iconst 4, 1) := dk_7 (dk_at dksX3_wrongLodger_0 2 rfl rfl)
theorem dX3_wrongLodger_3 : decode cX3_wrongLodger 3 = .ok (.invokevirtual 78, 3) := dk_182 0 78 (dk_at dksX3_wrongLodger_0 3 rfl rfl)
theorem dX3_wrongLodger_6 : decode cX3_wrongLodger 6 = .ok (.iconst (-1), 1) := dk_2 (dk_at dksX3_wrongLodger_0 6 rfl rfl)
theorem dX3_wrongLodger_7 : decode cX3_wrongLodger 7 = .ok (.if_icmp .ne 8, 3) := dk_160 0 8 (dk_at dksX3_wrongLodger_0 7 rfl rfl)
theorem dX3_wrongLodger_10 : decode cX3_wrongLodger 10 = .ok (.ldc 134, 2) := dk_18 134 (dk_at dksX3_wrongLodger_0 10 rfl rfl)
theorem dX3_wrongLodger_12 : decode cX3_wrongLodger 12 = .ok (.goto 4, 3) := dk_167 0 4 (dk_at dksX3_wrongLodger_0 12 rfl rfl)
theorem dX3_wrongLodger_15 : decode cX3_wrongLodger 15 = .ok (.iconst 0, 1) := dk_3 (dk_at dksX3_wrongLodger_0 15 rfl rfl)
theorem dX3_wrongLodger_16 : decode cX3_wrongLodger 16 = .ok (.ireturn, 1) := dk_172 (dk_at dksX3_wrongLodger_0 16 rfl rfl)
abbrev cX3_least : ByteArray := prog_17_method_67_code
def yX3_least : MethodName := ⟨RX3, "least", "(I)I"⟩
def dkwX3_least_4 : List UInt8 := [18, 196, 182, 0, 74, 167, 0, 4, 29, 172]
abbrev dktX3_least_4 : List UInt8 := dkwX3_least_4 ++ []
def dkwX3_least_3 : List UInt8 := [159, 0, 8, 21, 4, 167, 0, 4, 2, 182, 0, 187, 62, 132, 4, 1, 167, 255, 214, 29, 156, 0, 12, 42]
abbrev dktX3_least_3 : List UInt8 := dkwX3_least_3 ++ dktX3_least_4
def dkwX3_least_2 : List UInt8 := [16, 20, 163, 0, 41, 29, 156, 0, 37, 42, 27, 21, 4, 182, 0, 143, 42, 42, 27, 7, 182, 0, 78, 28]
abbrev dktX3_least_2 : List UInt8 := dkwX3_least_2 ++ dktX3_least_3
def dkwX3_least_1 : List UInt8 := [18, 134, 182, 0, 74, 172, 42, 27, 7, 182, 0, 78, 61, 42, 182, 0, 184, 2, 62, 4, 54, 4, 21, 4]
abbrev dktX3_least_1 : List UInt8 := dkwX3_least_1 ++ dktX3_least_2
def dkwX3_least_0 : List UInt8 := [42, 27, 182, 0, 106, 154, 0, 10, 42, 18, 45, 182, 0, 74, 172, 42, 27, 182, 0, 200, 153, 0, 10, 42]
abbrev dktX3_least_0 : List UInt8 := dkwX3_least_0 ++ dktX3_least_1
theorem dksX3_least_0 : cX3_least.data.toList.drop 0 = dktX3_least_0 := by decide +kernel
theorem dksX3_least_1 : cX3_least.data.toList.drop 24 = dktX3_least_1 := dk_seg dksX3_least_0 24 rfl rfl
theorem dksX3_least_2 : cX3_least.data.toList.drop 48 = dktX3_least_2 := dk_seg dksX3_least_1 24 rfl rfl
theorem dksX3_least_3 : cX3_least.data.toList.drop 72 = dktX3_least_3 := dk_seg dksX3_least_2 24 rfl rfl
theorem dksX3_least_4 : cX3_least.data.toList.drop 96 = dktX3_least_4 := dk_seg dksX3_least_3 24 rfl rfl
theorem dX3_least_0 : decode cX3_least 0 = .ok (.aload_n 0, 1) := dk_42 (dk_at dksX3_least_0 0 rfl rfl)
theorem dX3_least_1 : decode cX3_least 1 = .ok (.iload_n 1, 1) := dk_27 (dk_at dksX3_least_0 1 rfl rfl)
theorem dX3_least_2 : decode cX3_least 2 = .ok (.invokevirtual 106, 3) := dk_182 0 106 (dk_at dksX3_least_0 2 rfl rfl)
theorem dX3_least_5 : decode cX3_least 5 = .ok (.ifCond .ne 10, 3) := dk_154 0 10 (dk_at dksX3_least_0 5 rfl rfl)
theorem dX3_least_8 : decode cX3_least 8 = .ok (.aload_n 0, 1) := dk_42 (dk_at dksX3_least_0 8 rfl rfl)
theorem dX3_least_9 : decode cX3_least 9 = .ok (.ldc 45, 2) := dk_18 45 (dk_at dksX3_least_0 9 rfl rfl)
theorem dX3_least_11 : decode cX3_least 11 = .ok (.invokevirtual 74, 3) := dk_182 0 74 (dk_at dksX3_least_0 11 rfl rfl)
theorem dX3_least_14 : decode cX3_least 14 = .ok (.ireturn, 1) := dk_172 (dk_at dksX3_least_0 14 rfl rfl)
theorem dX3_least_15 : decode cX3_least 15 = .ok (.aload_n 0, 1) := dk_42 (dk_at dksX3_least_0 15 rfl rfl)
theorem dX3_least_16 : decode cX3_least 16 = .ok (.iload_n 1, 1) := dk_27 (dk_at dksX3_least_0 16 rfl rfl)
theorem dX3_least_17 : decode cX3_least 17 = .ok (.invokevirtual 200, 3) := dk_182 0 200 (dk_at dksX3_least_0 17 rfl rfl)
theorem dX3_least_20 : decode cX3_least 20 = .ok (.ifCond .eq 10, 3) := dk_153 0 10 (dk_at dksX3_least_0 20 rfl rfl)
theorem dX3_least_23 : decode cX3_least 23 = .ok (.aload_n 0, 1) := dk_42 (dk_at dksX3_least_0 23 rfl rfl)
theorem dX3_least_24 : decode cX3_least 24 = .ok (.ldc 134, 2) := dk_18 134 (dk_at dksX3_least_1 0 rfl rfl)
theorem dX3_least_26 : decode cX3_least 26 = .ok (.invokevirtual 74, 3) := dk_182 0 74 (dk_at dksX3_least_1 2 rfl rfl)
theorem dX3_least_29 : decode cX3_least 29 = .ok (.ireturn, 1) := dk_172 (dk_at dksX3_least_1 5 rfl rfl)
theorem dX3_least_30 : decode cX3_least 30 = .ok (.aload_n 0, 1) := dk_42 (dk_at dksX3_least_1 6 rfl rfl)
theorem dX3_least_31 : decode cX3_least 31 = .ok (.iload_n 1, 1) := dk_27 (dk_at dksX3_least_1 7 rfl rfl)
theorem dX3_least_32 : decode cX3_least 32 = .ok (.iconst 4, 1) := dk_7 (dk_at dksX3_least_1 8 rfl rfl)
theorem dX3_least_33 : decode cX3_least 33 = .ok (.invokevirtual 78, 3) := dk_182 0 78 (dk_at dksX3_least_1 9 rfl rfl)
theorem dX3_least_36 : decode cX3_least 36 = .ok (.istore_n 2, 1) := dk_61 (dk_at dksX3_least_1 12 rfl rfl)
theorem dX3_least_37 : decode cX3_least 37 = .ok (.aload_n 0, 1) := dk_42 (dk_at dksX3_least_1 13 rfl rfl)
theorem dX3_least_38 : decode cX3_least 38 = .ok (.invokevirtual 184, 3) := dk_182 0 184 (dk_at dksX3_least_1 14 rfl rfl)
theorem dX3_least_41 : decode cX3_least 41 = .ok (.iconst (-1), 1) := dk_2 (dk_at dksX3_least_1 17 rfl rfl)
theorem dX3_least_42 : decode cX3_least 42 = .ok (.istore_n 3, 1) := dk_62 (dk_at dksX3_least_1 18 rfl rfl)
theorem dX3_least_43 : decode cX3_least 43 = .ok (.iconst 1, 1) := dk_4 (dk_at dksX3_least_1 19 rfl rfl)
theorem dX3_least_44 : decode cX3_least 44 = .ok (.istore 4, 2) := dk_54 4 (dk_at dksX3_least_1 20 rfl rfl)
theorem dX3_least_46 : decode cX3_least 46 = .ok (.iload 4, 2) := dk_21 4 (dk_at dksX3_least_1 22 rfl rfl)
theorem dX3_least_48 : decode cX3_least 48 = .ok (.bipush 20, 2) := dk_16 20 (dk_at dksX3_least_2 0 rfl rfl)
theorem dX3_least_50 : decode cX3_least 50 = .ok (.if_icmp .gt 41, 3) := dk_163 0 41 (dk_at dksX3_least_2 2 rfl rfl)
theorem dX3_least_53 : decode cX3_least 53 = .ok (.iload_n 3, 1) := dk_29 (dk_at dksX3_least_2 5 rfl rfl)
theorem dX3_least_54 : decode cX3_least 54 = .ok (.ifCond .ge 37, 3) := dk_156 0 37 (dk_at dksX3_least_2 6 rfl rfl)
theorem dX3_least_57 : decode cX3_least 57 = .ok (.aload_n 0, 1) := dk_42 (dk_at dksX3_least_2 9 rfl rfl)
theorem dX3_least_58 : decode cX3_least 58 = .ok (.iload_n 1, 1) := dk_27 (dk_at dksX3_least_2 10 rfl rfl)
theorem dX3_least_59 : decode cX3_least 59 = .ok (.iload 4, 2) := dk_21 4 (dk_at dksX3_least_2 11 rfl rfl)
theorem dX3_least_61 : decode cX3_least 61 = .ok (.invokevirtual 143, 3) := dk_182 0 143 (dk_at dksX3_least_2 13 rfl rfl)
theorem dX3_least_64 : decode cX3_least 64 = .ok (.aload_n 0, 1) := dk_42 (dk_at dksX3_least_2 16 rfl rfl)
theorem dX3_least_65 : decode cX3_least 65 = .ok (.aload_n 0, 1) := dk_42 (dk_at dksX3_least_2 17 rfl rfl)
theorem dX3_least_66 : decode cX3_least 66 = .ok (.iload_n 1, 1) := dk_27 (dk_at dksX3_least_2 18 rfl rfl)
theorem dX3_least_67 : decode cX3_least 67 = .ok (.iconst 4, 1) := dk_7 (dk_at dksX3_least_2 19 rfl rfl)
theorem dX3_least_68 : decode cX3_least 68 = .ok (.invokevirtual 78, 3) := dk_182 0 78 (dk_at dksX3_least_2 20 rfl rfl)
theorem dX3_least_71 : decode cX3_least 71 = .ok (.iload_n 2, 1) := dk_28 (dk_at dksX3_least_2 23 rfl rfl)
theorem dX3_least_72 : decode cX3_least 72 = .ok (.if_icmp .eq 8, 3) := dk_159 0 8 (dk_at dksX3_least_3 0 rfl rfl)
theorem dX3_least_75 : decode cX3_least 75 = .ok (.iload 4, 2) := dk_21 4 (dk_at dksX3_least_3 3 rfl rfl)
theorem dX3_least_77 : decode cX3_least 77 = .ok (.goto 4, 3) := dk_167 0 4 (dk_at dksX3_least_3 5 rfl rfl)
theorem dX3_least_80 : decode cX3_least 80 = .ok (.iconst (-1), 1) := dk_2 (dk_at dksX3_least_3 8 rfl rfl)
theorem dX3_least_81 : decode cX3_least 81 = .ok (.invokevirtual 187, 3) := dk_182 0 187 (dk_at dksX3_least_3 9 rfl rfl)
theorem dX3_least_84 : decode cX3_least 84 = .ok (.istore_n 3, 1) := dk_62 (dk_at dksX3_least_3 12 rfl rfl)
theorem dX3_least_85 : decode cX3_least 85 = .ok (.iinc 4 1, 3) := dk_132 4 1 (dk_at dksX3_least_3 13 rfl rfl)
theorem dX3_least_88 : decode cX3_least 88 = .ok (.goto (-42), 3) := dk_167 255 214 (dk_at dksX3_least_3 16 rfl rfl)
theorem dX3_least_91 : decode cX3_least 91 = .ok (.iload_n 3, 1) := dk_29 (dk_at dksX3_least_3 19 rfl rfl)
theorem dX3_least_92 : decode cX3_least 92 = .ok (.ifCond .ge 12, 3) := dk_156 0 12 (dk_at dksX3_least_3 20 rfl rfl)
theorem dX3_least_95 : decode cX3_least 95 = .ok (.aload_n 0, 1) := dk_42 (dk_at dksX3_least_3 23 rfl rfl)
theorem dX3_least_96 : decode cX3_least 96 = .ok (.ldc 196, 2) := dk_18 196 (dk_at dksX3_least_4 0 rfl rfl)
theorem dX3_least_98 : decode cX3_least 98 = .ok (.invokevirtual 74, 3) := dk_182 0 74 (dk_at dksX3_least_4 2 rfl rfl)
theorem dX3_least_101 : decode cX3_least 101 = .ok (.goto 4, 3) := dk_167 0 4 (dk_at dksX3_least_4 5 rfl rfl)
theorem dX3_least_104 : decode cX3_least 104 = .ok (.iload_n 3, 1) := dk_29 (dk_at dksX3_least_4 8 rfl rfl)
theorem dX3_least_105 : decode cX3_least 105 = .ok (.ireturn, 1) := dk_172 (dk_at dksX3_least_4 9 rfl rfl)
abbrev cX3_best : ByteArray := prog_17_method_69_code
def yX3_best : MethodName := ⟨RX3, "best", "(I)I"⟩
def dkwX3_best_3 : List UInt8 := [164, 0, 8, 21, 6, 167, 0, 4, 29, 62, 132, 4, 1, 167, 255, 197, 28, 172]
abbrev dktX3_best_3 : List UInt8 := dkwX3_best_3 ++ []
def dkwX3_best_2 : List UInt8 := [182, 0, 175, 182, 0, 187, 54, 6, 21, 6, 29, 164, 0, 8, 21, 4, 167, 0, 4, 28, 61, 21, 6, 29]
abbrev dktX3_best_2 : List UInt8 := dkwX3_best_2 ++ dktX3_best_3
def dkwX3_best_1 : List UInt8 := [54, 4, 21, 4, 16, 16, 162, 0, 58, 42, 21, 4, 182, 0, 147, 54, 5, 42, 27, 182, 0, 168, 42, 42]
abbrev dktX3_best_1 : List UInt8 := dkwX3_best_1 ++ dktX3_best_2
def dkwX3_best_0 : List UInt8 := [27, 184, 0, 203, 154, 0, 10, 42, 18, 45, 182, 0, 74, 172, 3, 61, 2, 62, 42, 182, 0, 184, 3]
abbrev dktX3_best_0 : List UInt8 := dkwX3_best_0 ++ dktX3_best_1
theorem dksX3_best_0 : cX3_best.data.toList.drop 0 = dktX3_best_0 := by decide +kernel
theorem dksX3_best_1 : cX3_best.data.toList.drop 23 = dktX3_best_1 := dk_seg dksX3_best_0 23 rfl rfl
theorem dksX3_best_2 : cX3_best.data.toList.drop 47 = dktX3_best_2 := dk_seg dksX3_best_1 24 rfl rfl
theorem dksX3_best_3 : cX3_best.data.toList.drop 71 = dktX3_best_3 := dk_seg dksX3_best_2 24 rfl rfl
theorem dX3_best_0 : decode cX3_best 0 = .ok (.iload_n 1, 1) := dk_27 (dk_at dksX3_best_0 0 rfl rfl)
theorem dX3_best_1 : decode cX3_best 1 = .ok (.invokestatic 203, 3) := dk_184 0 203 (dk_at dksX3_best_0 1 rfl rfl)
theorem dX3_best_4 : decode cX3_best 4 = .ok (.ifCond .ne 10, 3) := dk_154 0 10 (dk_at dksX3_best_0 4 rfl rfl)
theorem dX3_best_7 : decode cX3_best 7 = .ok (.aload_n 0, 1) := dk_42 (dk_at dksX3_best_0 7 rfl rfl)
theorem dX3_best_8 : decode cX3_best 8 = .ok (.ldc 45, 2) := dk_18 45 (dk_at dksX3_best_0 8 rfl rfl)
theorem dX3_best_10 : decode cX3_best 10 = .ok (.invokevirtual 74, 3) := dk_182 0 74 (dk_at dksX3_best_0 10 rfl rfl)
theorem dX3_best_13 : decode cX3_best 13 = .ok (.ireturn, 1) := dk_172 (dk_at dksX3_best_0 13 rfl rfl)
theorem dX3_best_14 : decode cX3_best 14 = .ok (.iconst 0, 1) := dk_3 (dk_at dksX3_best_0 14 rfl rfl)
theorem dX3_best_15 : decode cX3_best 15 = .ok (.istore_n 2, 1) := dk_61 (dk_at dksX3_best_0 15 rfl rfl)
theorem dX3_best_16 : decode cX3_best 16 = .ok (.iconst (-1), 1) := dk_2 (dk_at dksX3_best_0 16 rfl rfl)
theorem dX3_best_17 : decode cX3_best 17 = .ok (.istore_n 3, 1) := dk_62 (dk_at dksX3_best_0 17 rfl rfl)
theorem dX3_best_18 : decode cX3_best 18 = .ok (.aload_n 0, 1) := dk_42 (dk_at dksX3_best_0 18 rfl rfl)
theorem dX3_best_19 : decode cX3_best 19 = .ok (.invokevirtual 184, 3) := dk_182 0 184 (dk_at dksX3_best_0 19 rfl rfl)
theorem dX3_best_22 : decode cX3_best 22 = .ok (.iconst 0, 1) := dk_3 (dk_at dksX3_best_0 22 rfl rfl)
theorem dX3_best_23 : decode cX3_best 23 = .ok (.istore 4, 2) := dk_54 4 (dk_at dksX3_best_1 0 rfl rfl)
theorem dX3_best_25 : decode cX3_best 25 = .ok (.iload 4, 2) := dk_21 4 (dk_at dksX3_best_1 2 rfl rfl)
theorem dX3_best_27 : decode cX3_best 27 = .ok (.bipush 16, 2) := dk_16 16 (dk_at dksX3_best_1 4 rfl rfl)
theorem dX3_best_29 : decode cX3_best 29 = .ok (.if_icmp .ge 58, 3) := dk_162 0 58 (dk_at dksX3_best_1 6 rfl rfl)
theorem dX3_best_32 : decode cX3_best 32 = .ok (.aload_n 0, 1) := dk_42 (dk_at dksX3_best_1 9 rfl rfl)
theorem dX3_best_33 : decode cX3_best 33 = .ok (.iload 4, 2) := dk_21 4 (dk_at dksX3_best_1 10 rfl rfl)
theorem dX3_best_35 : decode cX3_best 35 = .ok (.invokevirtual 147, 3) := dk_182 0 147 (dk_at dksX3_best_1 12 rfl rfl)
theorem dX3_best_38 : decode cX3_best 38 = .ok (.istore 5, 2) := dk_54 5 (dk_at dksX3_best_1 15 rfl rfl)
theorem dX3_best_40 : decode cX3_best 40 = .ok (.aload_n 0, 1) := dk_42 (dk_at dksX3_best_1 17 rfl rfl)
theorem dX3_best_41 : decode cX3_best 41 = .ok (.iload_n 1, 1) := dk_27 (dk_at dksX3_best_1 18 rfl rfl)
theorem dX3_best_42 : decode cX3_best 42 = .ok (.invokevirtual 168, 3) := dk_182 0 168 (dk_at dksX3_best_1 19 rfl rfl)
theorem dX3_best_45 : decode cX3_best 45 = .ok (.aload_n 0, 1) := dk_42 (dk_at dksX3_best_1 22 rfl rfl)
theorem dX3_best_46 : decode cX3_best 46 = .ok (.aload_n 0, 1) := dk_42 (dk_at dksX3_best_1 23 rfl rfl)
theorem dX3_best_47 : decode cX3_best 47 = .ok (.invokevirtual 175, 3) := dk_182 0 175 (dk_at dksX3_best_2 0 rfl rfl)
theorem dX3_best_50 : decode cX3_best 50 = .ok (.invokevirtual 187, 3) := dk_182 0 187 (dk_at dksX3_best_2 3 rfl rfl)
theorem dX3_best_53 : decode cX3_best 53 = .ok (.istore 6, 2) := dk_54 6 (dk_at dksX3_best_2 6 rfl rfl)
theorem dX3_best_55 : decode cX3_best 55 = .ok (.iload 6, 2) := dk_21 6 (dk_at dksX3_best_2 8 rfl rfl)
theorem dX3_best_57 : decode cX3_best 57 = .ok (.iload_n 3, 1) := dk_29 (dk_at dksX3_best_2 10 rfl rfl)
theorem dX3_best_58 : decode cX3_best 58 = .ok (.if_icmp .le 8, 3) := dk_164 0 8 (dk_at dksX3_best_2 11 rfl rfl)
theorem dX3_best_61 : decode cX3_best 61 = .ok (.iload 4, 2) := dk_21 4 (dk_at dksX3_best_2 14 rfl rfl)
theorem dX3_best_63 : decode cX3_best 63 = .ok (.goto 4, 3) := dk_167 0 4 (dk_at dksX3_best_2 16 rfl rfl)
theorem dX3_best_66 : decode cX3_best 66 = .ok (.iload_n 2, 1) := dk_28 (dk_at dksX3_best_2 19 rfl rfl)
theorem dX3_best_67 : decode cX3_best 67 = .ok (.istore_n 2, 1) := dk_61 (dk_at dksX3_best_2 20 rfl rfl)
theorem dX3_best_68 : decode cX3_best 68 = .ok (.iload 6, 2) := dk_21 6 (dk_at dksX3_best_2 21 rfl rfl)
theorem dX3_best_70 : decode cX3_best 70 = .ok (.iload_n 3, 1) := dk_29 (dk_at dksX3_best_2 23 rfl rfl)
theorem dX3_best_71 : decode cX3_best 71 = .ok (.if_icmp .le 8, 3) := dk_164 0 8 (dk_at dksX3_best_3 0 rfl rfl)
theorem dX3_best_74 : decode cX3_best 74 = .ok (.iload 6, 2) := dk_21 6 (dk_at dksX3_best_3 3 rfl rfl)
theorem dX3_best_76 : decode cX3_best 76 = .ok (.goto 4, 3) := dk_167 0 4 (dk_at dksX3_best_3 5 rfl rfl)
theorem dX3_best_79 : decode cX3_best 79 = .ok (.iload_n 3, 1) := dk_29 (dk_at dksX3_best_3 8 rfl rfl)
theorem dX3_best_80 : decode cX3_best 80 = .ok (.istore_n 3, 1) := dk_62 (dk_at dksX3_best_3 9 rfl rfl)
theorem dX3_best_81 : decode cX3_best 81 = .ok (.iinc 4 1, 3) := dk_132 4 1 (dk_at dksX3_best_3 10 rfl rfl)
theorem dX3_best_84 : decode cX3_best 84 = .ok (.goto (-59), 3) := dk_167 255 197 (dk_at dksX3_best_3 13 rfl rfl)
theorem dX3_best_87 : decode cX3_best 87 = .ok (.iload_n 2, 1) := dk_28 (dk_at dksX3_best_3 16 rfl rfl)
theorem dX3_best_88 : decode cX3_best 88 = .ok (.ireturn, 1) := dk_172 (dk_at dksX3_best_3 17 rfl rfl)
abbrev cX3_isSoon : ByteArray := prog_17_method_68_code
def yX3_isSoon : MethodName := ⟨RX3, "isSoon", "(I)Z"⟩
def dkwX3_isSoon_0 : List UInt8 := [26, 133, 9, 20, 0, 141, 184, 0, 48, 172]
abbrev dktX3_isSoon_0 : List UInt8 := dkwX3_isSoon_0 ++ []
theorem dksX3_isSoon_0 : cX3_isSoon.data.toList.drop 0 = dktX3_isSoon_0 := by decide +kernel
theorem dX3_isSoon_0 : decode cX3_isSoon 0 = .ok (.iload_n 0, 1) := dk_26 (dk_at dksX3_isSoon_0 0 rfl rfl)
theorem dX3_isSoon_1 : decode cX3_isSoon 1 = .ok (.i2l, 1) := dk_133 (dk_at dksX3_isSoon_0 1 rfl rfl)
theorem dX3_isSoon_2 : decode cX3_isSoon 2 = .ok (.lconst 0, 1) := dk_9 (dk_at dksX3_isSoon_0 2 rfl rfl)
theorem dX3_isSoon_3 : decode cX3_isSoon 3 = .ok (.ldc2_w 141, 3) := dk_20 0 141 (dk_at dksX3_isSoon_0 3 rfl rfl)
theorem dX3_isSoon_6 : decode cX3_isSoon 6 = .ok (.invokestatic 48, 3) := dk_184 0 48 (dk_at dksX3_isSoon_0 6 rfl rfl)
theorem dX3_isSoon_9 : decode cX3_isSoon 9 = .ok (.ireturn, 1) := dk_172 (dk_at dksX3_isSoon_0 9 rfl rfl)
abbrev cX3_lean : ByteArray := prog_17_method_70_code
def yX3_lean : MethodName := ⟨RX3, "lean", "(II)I"⟩
def dkwX3_lean_1 : List UInt8 := [182, 0, 125, 153, 0, 11, 42, 28, 182, 0, 109, 167, 0, 9, 42, 18, 196, 182, 0, 74, 172]
abbrev dktX3_lean_1 : List UInt8 := dkwX3_lean_1 ++ []
def dkwX3_lean_0 : List UInt8 := [27, 184, 0, 67, 153, 0, 11, 42, 28, 182, 0, 106, 154, 0, 10, 42, 18, 45, 182, 0, 74, 172, 42, 27]
abbrev dktX3_lean_0 : List UInt8 := dkwX3_lean_0 ++ dktX3_lean_1
theorem dksX3_lean_0 : cX3_lean.data.toList.drop 0 = dktX3_lean_0 := by decide +kernel
theorem dksX3_lean_1 : cX3_lean.data.toList.drop 24 = dktX3_lean_1 := dk_seg dksX3_lean_0 24 rfl rfl
theorem dX3_lean_0 : decode cX3_lean 0 = .ok (.iload_n 1, 1) := dk_27 (dk_at dksX3_lean_0 0 rfl rfl)
theorem dX3_lean_1 : decode cX3_lean 1 = .ok (.invokestatic 67, 3) := dk_184 0 67 (dk_at dksX3_lean_0 1 rfl rfl)
theorem dX3_lean_4 : decode cX3_lean 4 = .ok (.ifCond .eq 11, 3) := dk_153 0 11 (dk_at dksX3_lean_0 4 rfl rfl)
theorem dX3_lean_7 : decode cX3_lean 7 = .ok (.aload_n 0, 1) := dk_42 (dk_at dksX3_lean_0 7 rfl rfl)
theorem dX3_lean_8 : decode cX3_lean 8 = .ok (.iload_n 2, 1) := dk_28 (dk_at dksX3_lean_0 8 rfl rfl)
theorem dX3_lean_9 : decode cX3_lean 9 = .ok (.invokevirtual 106, 3) := dk_182 0 106 (dk_at dksX3_lean_0 9 rfl rfl)
theorem dX3_lean_12 : decode cX3_lean 12 = .ok (.ifCond .ne 10, 3) := dk_154 0 10 (dk_at dksX3_lean_0 12 rfl rfl)
theorem dX3_lean_15 : decode cX3_lean 15 = .ok (.aload_n 0, 1) := dk_42 (dk_at dksX3_lean_0 15 rfl rfl)
theorem dX3_lean_16 : decode cX3_lean 16 = .ok (.ldc 45, 2) := dk_18 45 (dk_at dksX3_lean_0 16 rfl rfl)
theorem dX3_lean_18 : decode cX3_lean 18 = .ok (.invokevirtual 74, 3) := dk_182 0 74 (dk_at dksX3_lean_0 18 rfl rfl)
theorem dX3_lean_21 : decode cX3_lean 21 = .ok (.ireturn, 1) := dk_172 (dk_at dksX3_lean_0 21 rfl rfl)
theorem dX3_lean_22 : decode cX3_lean 22 = .ok (.aload_n 0, 1) := dk_42 (dk_at dksX3_lean_0 22 rfl rfl)
theorem dX3_lean_23 : decode cX3_lean 23 = .ok (.iload_n 1, 1) := dk_27 (dk_at dksX3_lean_0 23 rfl rfl)
theorem dX3_lean_24 : decode cX3_lean 24 = .ok (.invokevirtual 125, 3) := dk_182 0 125 (dk_at dksX3_lean_1 0 rfl rfl)
theorem dX3_lean_27 : decode cX3_lean 27 = .ok (.ifCond .eq 11, 3) := dk_153 0 11 (dk_at dksX3_lean_1 3 rfl rfl)
theorem dX3_lean_30 : decode cX3_lean 30 = .ok (.aload_n 0, 1) := dk_42 (dk_at dksX3_lean_1 6 rfl rfl)
theorem dX3_lean_31 : decode cX3_lean 31 = .ok (.iload_n 2, 1) := dk_28 (dk_at dksX3_lean_1 7 rfl rfl)
theorem dX3_lean_32 : decode cX3_lean 32 = .ok (.invokevirtual 109, 3) := dk_182 0 109 (dk_at dksX3_lean_1 8 rfl rfl)
theorem dX3_lean_35 : decode cX3_lean 35 = .ok (.goto 9, 3) := dk_167 0 9 (dk_at dksX3_lean_1 11 rfl rfl)
theorem dX3_lean_38 : decode cX3_lean 38 = .ok (.aload_n 0, 1) := dk_42 (dk_at dksX3_lean_1 14 rfl rfl)
theorem dX3_lean_39 : decode cX3_lean 39 = .ok (.ldc 196, 2) := dk_18 196 (dk_at dksX3_lean_1 15 rfl rfl)
theorem dX3_lean_41 : decode cX3_lean 41 = .ok (.invokevirtual 74, 3) := dk_182 0 74 (dk_at dksX3_lean_1 17 rfl rfl)
theorem dX3_lean_44 : decode cX3_lean 44 = .ok (.ireturn, 1) := dk_172 (dk_at dksX3_lean_1 20 rfl rfl)
abbrev cX3_leanFor : ByteArray := prog_17_method_71_code
def yX3_leanFor : MethodName := ⟨RX3, "leanFor", "(II)I"⟩
def dkwX3_leanFor_4 : List UInt8 := [21, 5, 54, 5, 132, 6, 1, 167, 255, 190, 42, 180, 0, 7, 27, 5, 184, 0, 41, 29, 79, 21, 4, 172]
abbrev dktX3_leanFor_4 : List UInt8 := dkwX3_leanFor_4 ++ []
def dkwX3_leanFor_3 : List UInt8 := [164, 0, 8, 21, 6, 167, 0, 5, 21, 4, 54, 4, 21, 7, 21, 5, 164, 0, 8, 21, 7, 167, 0, 5]
abbrev dktX3_leanFor_3 : List UInt8 := dkwX3_leanFor_3 ++ dktX3_leanFor_4
def dkwX3_leanFor_2 : List UInt8 := [27, 5, 184, 0, 41, 21, 6, 79, 42, 27, 4, 184, 0, 41, 28, 182, 0, 193, 54, 7, 21, 7, 21, 5]
abbrev dktX3_leanFor_2 : List UInt8 := dkwX3_leanFor_2 ++ dktX3_leanFor_3
def dkwX3_leanFor_1 : List UInt8 := [182, 0, 84, 62, 3, 54, 4, 2, 54, 5, 3, 54, 6, 21, 6, 16, 9, 163, 0, 65, 42, 180, 0, 7]
abbrev dktX3_leanFor_1 : List UInt8 := dkwX3_leanFor_1 ++ dktX3_leanFor_2
def dkwX3_leanFor_0 : List UInt8 := [27, 184, 0, 67, 153, 0, 10, 28, 184, 0, 203, 154, 0, 10, 42, 18, 45, 182, 0, 74, 172, 42, 27, 5]
abbrev dktX3_leanFor_0 : List UInt8 := dkwX3_leanFor_0 ++ dktX3_leanFor_1
theorem dksX3_leanFor_0 : cX3_leanFor.data.toList.drop 0 = dktX3_leanFor_0 := by decide +kernel
theorem dksX3_leanFor_1 : cX3_leanFor.data.toList.drop 24 = dktX3_leanFor_1 := dk_seg dksX3_leanFor_0 24 rfl rfl
theorem dksX3_leanFor_2 : cX3_leanFor.data.toList.drop 48 = dktX3_leanFor_2 := dk_seg dksX3_leanFor_1 24 rfl rfl
theorem dksX3_leanFor_3 : cX3_leanFor.data.toList.drop 72 = dktX3_leanFor_3 := dk_seg dksX3_leanFor_2 24 rfl rfl
theorem dksX3_leanFor_4 : cX3_leanFor.data.toList.drop 96 = dktX3_leanFor_4 := dk_seg dksX3_leanFor_3 24 rfl rfl
theorem dX3_leanFor_0 : decode cX3_leanFor 0 = .ok (.iload_n 1, 1) := dk_27 (dk_at dksX3_leanFor_0 0 rfl rfl)
theorem dX3_leanFor_1 : decode cX3_leanFor 1 = .ok (.invokestatic 67, 3) := dk_184 0 67 (dk_at dksX3_leanFor_0 1 rfl rfl)
theorem dX3_leanFor_4 : decode cX3_leanFor 4 = .ok (.ifCond .eq 10, 3) := dk_153 0 10 (dk_at dksX3_leanFor_0 4 rfl rfl)
theorem dX3_leanFor_7 : decode cX3_leanFor 7 = .ok (.iload_n 2, 1) := dk_28 (dk_at dksX3_leanFor_0 7 rfl rfl)
theorem dX3_leanFor_8 : decode cX3_leanFor 8 = .ok (.invokestatic 203, 3) := dk_184 0 203 (dk_at dksX3_leanFor_0 8 rfl rfl)
theorem dX3_leanFor_11 : decode cX3_leanFor 11 = .ok (.ifCond .ne 10, 3) := dk_154 0 10 (dk_at dksX3_leanFor_0 11 rfl rfl)
theorem dX3_leanFor_14 : decode cX3_leanFor 14 = .ok (.aload_n 0, 1) := dk_42 (dk_at dksX3_leanFor_0 14 rfl rfl)
theorem dX3_leanFor_15 : decode cX3_leanFor 15 = .ok (.ldc 45, 2) := dk_18 45 (dk_at dksX3_leanFor_0 15 rfl rfl)
theorem dX3_leanFor_17 : decode cX3_leanFor 17 = .ok (.invokevirtual 74, 3) := dk_182 0 74 (dk_at dksX3_leanFor_0 17 rfl rfl)
theorem dX3_leanFor_20 : decode cX3_leanFor 20 = .ok (.ireturn, 1) := dk_172 (dk_at dksX3_leanFor_0 20 rfl rfl)
theorem dX3_leanFor_21 : decode cX3_leanFor 21 = .ok (.aload_n 0, 1) := dk_42 (dk_at dksX3_leanFor_0 21 rfl rfl)
theorem dX3_leanFor_22 : decode cX3_leanFor 22 = .ok (.iload_n 1, 1) := dk_27 (dk_at dksX3_leanFor_0 22 rfl rfl)
theorem dX3_leanFor_23 : decode cX3_leanFor 23 = .ok (.iconst 2, 1) := dk_5 (dk_at dksX3_leanFor_0 23 rfl rfl)
theorem dX3_leanFor_24 : decode cX3_leanFor 24 = .ok (.invokevirtual 84, 3) := dk_182 0 84 (dk_at dksX3_leanFor_1 0 rfl rfl)
theorem dX3_leanFor_27 : decode cX3_leanFor 27 = .ok (.istore_n 3, 1) := dk_62 (dk_at dksX3_leanFor_1 3 rfl rfl)
theorem dX3_leanFor_28 : decode cX3_leanFor 28 = .ok (.iconst 0, 1) := dk_3 (dk_at dksX3_leanFor_1 4 rfl rfl)
theorem dX3_leanFor_29 : decode cX3_leanFor 29 = .ok (.istore 4, 2) := dk_54 4 (dk_at dksX3_leanFor_1 5 rfl rfl)
theorem dX3_leanFor_31 : decode cX3_leanFor 31 = .ok (.iconst (-1), 1) := dk_2 (dk_at dksX3_leanFor_1 7 rfl rfl)
theorem dX3_leanFor_32 : decode cX3_leanFor 32 = .ok (.istore 5, 2) := dk_54 5 (dk_at dksX3_leanFor_1 8 rfl rfl)
theorem dX3_leanFor_34 : decode cX3_leanFor 34 = .ok (.iconst 0, 1) := dk_3 (dk_at dksX3_leanFor_1 10 rfl rfl)
theorem dX3_leanFor_35 : decode cX3_leanFor 35 = .ok (.istore 6, 2) := dk_54 6 (dk_at dksX3_leanFor_1 11 rfl rfl)
theorem dX3_leanFor_37 : decode cX3_leanFor 37 = .ok (.iload 6, 2) := dk_21 6 (dk_at dksX3_leanFor_1 13 rfl rfl)
theorem dX3_leanFor_39 : decode cX3_leanFor 39 = .ok (.bipush 9, 2) := dk_16 9 (dk_at dksX3_leanFor_1 15 rfl rfl)
theorem dX3_leanFor_41 : decode cX3_leanFor 41 = .ok (.if_icmp .gt 65, 3) := dk_163 0 65 (dk_at dksX3_leanFor_1 17 rfl rfl)
theorem dX3_leanFor_44 : decode cX3_leanFor 44 = .ok (.aload_n 0, 1) := dk_42 (dk_at dksX3_leanFor_1 20 rfl rfl)
theorem dX3_leanFor_45 : decode cX3_leanFor 45 = .ok (.getfield 7, 3) := dk_180 0 7 (dk_at dksX3_leanFor_1 21 rfl rfl)
theorem dX3_leanFor_48 : decode cX3_leanFor 48 = .ok (.iload_n 1, 1) := dk_27 (dk_at dksX3_leanFor_2 0 rfl rfl)
theorem dX3_leanFor_49 : decode cX3_leanFor 49 = .ok (.iconst 2, 1) := dk_5 (dk_at dksX3_leanFor_2 1 rfl rfl)
theorem dX3_leanFor_50 : decode cX3_leanFor 50 = .ok (.invokestatic 41, 3) := dk_184 0 41 (dk_at dksX3_leanFor_2 2 rfl rfl)
theorem dX3_leanFor_53 : decode cX3_leanFor 53 = .ok (.iload 6, 2) := dk_21 6 (dk_at dksX3_leanFor_2 5 rfl rfl)
theorem dX3_leanFor_55 : decode cX3_leanFor 55 = .ok (.iastore, 1) := dk_79 (dk_at dksX3_leanFor_2 7 rfl rfl)
theorem dX3_leanFor_56 : decode cX3_leanFor 56 = .ok (.aload_n 0, 1) := dk_42 (dk_at dksX3_leanFor_2 8 rfl rfl)
theorem dX3_leanFor_57 : decode cX3_leanFor 57 = .ok (.iload_n 1, 1) := dk_27 (dk_at dksX3_leanFor_2 9 rfl rfl)
theorem dX3_leanFor_58 : decode cX3_leanFor 58 = .ok (.iconst 1, 1) := dk_4 (dk_at dksX3_leanFor_2 10 rfl rfl)
theorem dX3_leanFor_59 : decode cX3_leanFor 59 = .ok (.invokestatic 41, 3) := dk_184 0 41 (dk_at dksX3_leanFor_2 11 rfl rfl)
theorem dX3_leanFor_62 : decode cX3_leanFor 62 = .ok (.iload_n 2, 1) := dk_28 (dk_at dksX3_leanFor_2 14 rfl rfl)
theorem dX3_leanFor_63 : decode cX3_leanFor 63 = .ok (.invokevirtual 193, 3) := dk_182 0 193 (dk_at dksX3_leanFor_2 15 rfl rfl)
theorem dX3_leanFor_66 : decode cX3_leanFor 66 = .ok (.istore 7, 2) := dk_54 7 (dk_at dksX3_leanFor_2 18 rfl rfl)
theorem dX3_leanFor_68 : decode cX3_leanFor 68 = .ok (.iload 7, 2) := dk_21 7 (dk_at dksX3_leanFor_2 20 rfl rfl)
theorem dX3_leanFor_70 : decode cX3_leanFor 70 = .ok (.iload 5, 2) := dk_21 5 (dk_at dksX3_leanFor_2 22 rfl rfl)
theorem dX3_leanFor_72 : decode cX3_leanFor 72 = .ok (.if_icmp .le 8, 3) := dk_164 0 8 (dk_at dksX3_leanFor_3 0 rfl rfl)
theorem dX3_leanFor_75 : decode cX3_leanFor 75 = .ok (.iload 6, 2) := dk_21 6 (dk_at dksX3_leanFor_3 3 rfl rfl)
theorem dX3_leanFor_77 : decode cX3_leanFor 77 = .ok (.goto 5, 3) := dk_167 0 5 (dk_at dksX3_leanFor_3 5 rfl rfl)
theorem dX3_leanFor_80 : decode cX3_leanFor 80 = .ok (.iload 4, 2) := dk_21 4 (dk_at dksX3_leanFor_3 8 rfl rfl)
theorem dX3_leanFor_82 : decode cX3_leanFor 82 = .ok (.istore 4, 2) := dk_54 4 (dk_at dksX3_leanFor_3 10 rfl rfl)
theorem dX3_leanFor_84 : decode cX3_leanFor 84 = .ok (.iload 7, 2) := dk_21 7 (dk_at dksX3_leanFor_3 12 rfl rfl)
theorem dX3_leanFor_86 : decode cX3_leanFor 86 = .ok (.iload 5, 2) := dk_21 5 (dk_at dksX3_leanFor_3 14 rfl rfl)
theorem dX3_leanFor_88 : decode cX3_leanFor 88 = .ok (.if_icmp .le 8, 3) := dk_164 0 8 (dk_at dksX3_leanFor_3 16 rfl rfl)
theorem dX3_leanFor_91 : decode cX3_leanFor 91 = .ok (.iload 7, 2) := dk_21 7 (dk_at dksX3_leanFor_3 19 rfl rfl)
theorem dX3_leanFor_93 : decode cX3_leanFor 93 = .ok (.goto 5, 3) := dk_167 0 5 (dk_at dksX3_leanFor_3 21 rfl rfl)
theorem dX3_leanFor_96 : decode cX3_leanFor 96 = .ok (.iload 5, 2) := dk_21 5 (dk_at dksX3_leanFor_4 0 rfl rfl)
theorem dX3_leanFor_98 : decode cX3_leanFor 98 = .ok (.istore 5, 2) := dk_54 5 (dk_at dksX3_leanFor_4 2 rfl rfl)
theorem dX3_leanFor_100 : decode cX3_leanFor 100 = .ok (.iinc 6 1, 3) := dk_132 6 1 (dk_at dksX3_leanFor_4 4 rfl rfl)
theorem dX3_leanFor_103 : decode cX3_leanFor 103 = .ok (.goto (-66), 3) := dk_167 255 190 (dk_at dksX3_leanFor_4 7 rfl rfl)
theorem dX3_leanFor_106 : decode cX3_leanFor 106 = .ok (.aload_n 0, 1) := dk_42 (dk_at dksX3_leanFor_4 10 rfl rfl)
theorem dX3_leanFor_107 : decode cX3_leanFor 107 = .ok (.getfield 7, 3) := dk_180 0 7 (dk_at dksX3_leanFor_4 11 rfl rfl)
theorem dX3_leanFor_110 : decode cX3_leanFor 110 = .ok (.iload_n 1, 1) := dk_27 (dk_at dksX3_leanFor_4 14 rfl rfl)
theorem dX3_leanFor_111 : decode cX3_leanFor 111 = .ok (.iconst 2, 1) := dk_5 (dk_at dksX3_leanFor_4 15 rfl rfl)
theorem dX3_leanFor_112 : decode cX3_leanFor 112 = .ok (.invokestatic 41, 3) := dk_184 0 41 (dk_at dksX3_leanFor_4 16 rfl rfl)
theorem dX3_leanFor_115 : decode cX3_leanFor 115 = .ok (.iload_n 3, 1) := dk_29 (dk_at dksX3_leanFor_4 19 rfl rfl)
theorem dX3_leanFor_116 : decode cX3_leanFor 116 = .ok (.iastore, 1) := dk_79 (dk_at dksX3_leanFor_4 20 rfl rfl)
theorem dX3_leanFor_117 : decode cX3_leanFor 117 = .ok (.iload 4, 2) := dk_21 4 (dk_at dksX3_leanFor_4 21 rfl rfl)
theorem dX3_leanFor_119 : decode cX3_leanFor 119 = .ok (.ireturn, 1) := dk_172 (dk_at dksX3_leanFor_4 23 rfl rfl)
abbrev cX3_kind : ByteArray := prog_17_method_72_code
def yX3_kind : MethodName := ⟨RX3, "kind", "(I)I"⟩
def dkwX3_kind_4 : List UInt8 := [180, 0, 7, 27, 3, 184, 0, 56, 28, 79, 29, 172]
abbrev dktX3_kind_4 : List UInt8 := dkwX3_kind_4 ++ []
def dkwX3_kind_3 : List UInt8 := [21, 6, 21, 4, 162, 0, 8, 21, 6, 167, 0, 5, 21, 4, 54, 4, 132, 5, 1, 167, 255, 198, 42]
abbrev dktX3_kind_3 : List UInt8 := dkwX3_kind_3 ++ dktX3_kind_4
def dkwX3_kind_2 : List UInt8 := [21, 5, 79, 42, 27, 182, 0, 81, 54, 6, 21, 6, 21, 4, 162, 0, 8, 21, 5, 167, 0, 4, 29, 62]
abbrev dktX3_kind_2 : List UInt8 := dkwX3_kind_2 ++ dktX3_kind_3
def dkwX3_kind_1 : List UInt8 := [17, 3, 231, 54, 4, 3, 54, 5, 21, 5, 8, 163, 0, 58, 42, 180, 0, 7, 27, 3, 184, 0, 56]
abbrev dktX3_kind_1 : List UInt8 := dkwX3_kind_1 ++ dktX3_kind_2
def dkwX3_kind_0 : List UInt8 := [42, 27, 182, 0, 106, 154, 0, 10, 42, 18, 45, 182, 0, 74, 172, 42, 27, 3, 182, 0, 78, 61, 3, 62]
abbrev dktX3_kind_0 : List UInt8 := dkwX3_kind_0 ++ dktX3_kind_1
theorem dksX3_kind_0 : cX3_kind.data.toList.drop 0 = dktX3_kind_0 := by decide +kernel
theorem dksX3_kind_1 : cX3_kind.data.toList.drop 24 = dktX3_kind_1 := dk_seg dksX3_kind_0 24 rfl rfl
theorem dksX3_kind_2 : cX3_kind.data.toList.drop 47 = dktX3_kind_2 := dk_seg dksX3_kind_1 23 rfl rfl
theorem dksX3_kind_3 : cX3_kind.data.toList.drop 71 = dktX3_kind_3 := dk_seg dksX3_kind_2 24 rfl rfl
theorem dksX3_kind_4 : cX3_kind.data.toList.drop 94 = dktX3_kind_4 := dk_seg dksX3_kind_3 23 rfl rfl
theorem dX3_kind_0 : decode cX3_kind 0 = .ok (.aload_n 0, 1) := dk_42 (dk_at dksX3_kind_0 0 rfl rfl)
theorem dX3_kind_1 : decode cX3_kind 1 = .ok (.iload_n 1, 1) := dk_27 (dk_at dksX3_kind_0 1 rfl rfl)
theorem dX3_kind_2 : decode cX3_kind 2 = .ok (.invokevirtual 106, 3) := dk_182 0 106 (dk_at dksX3_kind_0 2 rfl rfl)
theorem dX3_kind_5 : decode cX3_kind 5 = .ok (.ifCond .ne 10, 3) := dk_154 0 10 (dk_at dksX3_kind_0 5 rfl rfl)
theorem dX3_kind_8 : decode cX3_kind 8 = .ok (.aload_n 0, 1) := dk_42 (dk_at dksX3_kind_0 8 rfl rfl)
theorem dX3_kind_9 : decode cX3_kind 9 = .ok (.ldc 45, 2) := dk_18 45 (dk_at dksX3_kind_0 9 rfl rfl)
theorem dX3_kind_11 : decode cX3_kind 11 = .ok (.invokevirtual 74, 3) := dk_182 0 74 (dk_at dksX3_kind_0 11 rfl rfl)
theorem dX3_kind_14 : decode cX3_kind 14 = .ok (.ireturn, 1) := dk_172 (dk_at dksX3_kind_0 14 rfl rfl)
theorem dX3_kind_15 : decode cX3_kind 15 = .ok (.aload_n 0, 1) := dk_42 (dk_at dksX3_kind_0 15 rfl rfl)
theorem dX3_kind_16 : decode cX3_kind 16 = .ok (.iload_n 1, 1) := dk_27 (dk_at dksX3_kind_0 16 rfl rfl)
theorem dX3_kind_17 : decode cX3_kind 17 = .ok (.iconst 0, 1) := dk_3 (dk_at dksX3_kind_0 17 rfl rfl)
theorem dX3_kind_18 : decode cX3_kind 18 = .ok (.invokevirtual 78, 3) := dk_182 0 78 (dk_at dksX3_kind_0 18 rfl rfl)
theorem dX3_kind_21 : decode cX3_kind 21 = .ok (.istore_n 2, 1) := dk_61 (dk_at dksX3_kind_0 21 rfl rfl)
theorem dX3_kind_22 : decode cX3_kind 22 = .ok (.iconst 0, 1) := dk_3 (dk_at dksX3_kind_0 22 rfl rfl)
theorem dX3_kind_23 : decode cX3_kind 23 = .ok (.istore_n 3, 1) := dk_62 (dk_at dksX3_kind_0 23 rfl rfl)
theorem dX3_kind_24 : decode cX3_kind 24 = .ok (.sipush 999, 3) := dk_17 3 231 (dk_at dksX3_kind_1 0 rfl rfl)
theorem dX3_kind_27 : decode cX3_kind 27 = .ok (.istore 4, 2) := dk_54 4 (dk_at dksX3_kind_1 3 rfl rfl)
theorem dX3_kind_29 : decode cX3_kind 29 = .ok (.iconst 0, 1) := dk_3 (dk_at dksX3_kind_1 5 rfl rfl)
theorem dX3_kind_30 : decode cX3_kind 30 = .ok (.istore 5, 2) := dk_54 5 (dk_at dksX3_kind_1 6 rfl rfl)
theorem dX3_kind_32 : decode cX3_kind 32 = .ok (.iload 5, 2) := dk_21 5 (dk_at dksX3_kind_1 8 rfl rfl)
theorem dX3_kind_34 : decode cX3_kind 34 = .ok (.iconst 5, 1) := dk_8 (dk_at dksX3_kind_1 10 rfl rfl)
theorem dX3_kind_35 : decode cX3_kind 35 = .ok (.if_icmp .gt 58, 3) := dk_163 0 58 (dk_at dksX3_kind_1 11 rfl rfl)
theorem dX3_kind_38 : decode cX3_kind 38 = .ok (.aload_n 0, 1) := dk_42 (dk_at dksX3_kind_1 14 rfl rfl)
theorem dX3_kind_39 : decode cX3_kind 39 = .ok (.getfield 7, 3) := dk_180 0 7 (dk_at dksX3_kind_1 15 rfl rfl)
theorem dX3_kind_42 : decode cX3_kind 42 = .ok (.iload_n 1, 1) := dk_27 (dk_at dksX3_kind_1 18 rfl rfl)
theorem dX3_kind_43 : decode cX3_kind 43 = .ok (.iconst 0, 1) := dk_3 (dk_at dksX3_kind_1 19 rfl rfl)
theorem dX3_kind_44 : decode cX3_kind 44 = .ok (.invokestatic 56, 3) := dk_184 0 56 (dk_at dksX3_kind_1 20 rfl rfl)
theorem dX3_kind_47 : decode cX3_kind 47 = .ok (.iload 5, 2) := dk_21 5 (dk_at dksX3_kind_2 0 rfl rfl)
theorem dX3_kind_49 : decode cX3_kind 49 = .ok (.iastore, 1) := dk_79 (dk_at dksX3_kind_2 2 rfl rfl)
theorem dX3_kind_50 : decode cX3_kind 50 = .ok (.aload_n 0, 1) := dk_42 (dk_at dksX3_kind_2 3 rfl rfl)
theorem dX3_kind_51 : decode cX3_kind 51 = .ok (.iload_n 1, 1) := dk_27 (dk_at dksX3_kind_2 4 rfl rfl)
theorem dX3_kind_52 : decode cX3_kind 52 = .ok (.invokevirtual 81, 3) := dk_182 0 81 (dk_at dksX3_kind_2 5 rfl rfl)
theorem dX3_kind_55 : decode cX3_kind 55 = .ok (.istore 6, 2) := dk_54 6 (dk_at dksX3_kind_2 8 rfl rfl)
theorem dX3_kind_57 : decode cX3_kind 57 = .ok (.iload 6, 2) := dk_21 6 (dk_at dksX3_kind_2 10 rfl rfl)
theorem dX3_kind_59 : decode cX3_kind 59 = .ok (.iload 4, 2) := dk_21 4 (dk_at dksX3_kind_2 12 rfl rfl)
theorem dX3_kind_61 : decode cX3_kind 61 = .ok (.if_icmp .ge 8, 3) := dk_162 0 8 (dk_at dksX3_kind_2 14 rfl rfl)
theorem dX3_kind_64 : decode cX3_kind 64 = .ok (.iload 5, 2) := dk_21 5 (dk_at dksX3_kind_2 17 rfl rfl)
theorem dX3_kind_66 : decode cX3_kind 66 = .ok (.goto 4, 3) := dk_167 0 4 (dk_at dksX3_kind_2 19 rfl rfl)
theorem dX3_kind_69 : decode cX3_kind 69 = .ok (.iload_n 3, 1) := dk_29 (dk_at dksX3_kind_2 22 rfl rfl)
theorem dX3_kind_70 : decode cX3_kind 70 = .ok (.istore_n 3, 1) := dk_62 (dk_at dksX3_kind_2 23 rfl rfl)
theorem dX3_kind_71 : decode cX3_kind 71 = .ok (.iload 6, 2) := dk_21 6 (dk_at dksX3_kind_3 0 rfl rfl)
theorem dX3_kind_73 : decode cX3_kind 73 = .ok (.iload 4, 2) := dk_21 4 (dk_at dksX3_kind_3 2 rfl rfl)
theorem dX3_kind_75 : decode cX3_kind 75 = .ok (.if_icmp .ge 8, 3) := dk_162 0 8 (dk_at dksX3_kind_3 4 rfl rfl)
theorem dX3_kind_78 : decode cX3_kind 78 = .ok (.iload 6, 2) := dk_21 6 (dk_at dksX3_kind_3 7 rfl rfl)
theorem dX3_kind_80 : decode cX3_kind 80 = .ok (.goto 5, 3) := dk_167 0 5 (dk_at dksX3_kind_3 9 rfl rfl)
theorem dX3_kind_83 : decode cX3_kind 83 = .ok (.iload 4, 2) := dk_21 4 (dk_at dksX3_kind_3 12 rfl rfl)
theorem dX3_kind_85 : decode cX3_kind 85 = .ok (.istore 4, 2) := dk_54 4 (dk_at dksX3_kind_3 14 rfl rfl)
theorem dX3_kind_87 : decode cX3_kind 87 = .ok (.iinc 5 1, 3) := dk_132 5 1 (dk_at dksX3_kind_3 16 rfl rfl)
theorem dX3_kind_90 : decode cX3_kind 90 = .ok (.goto (-58), 3) := dk_167 255 198 (dk_at dksX3_kind_3 19 rfl rfl)
theorem dX3_kind_93 : decode cX3_kind 93 = .ok (.aload_n 0, 1) := dk_42 (dk_at dksX3_kind_3 22 rfl rfl)
theorem dX3_kind_94 : decode cX3_kind 94 = .ok (.getfield 7, 3) := dk_180 0 7 (dk_at dksX3_kind_4 0 rfl rfl)
theorem dX3_kind_97 : decode cX3_kind 97 = .ok (.iload_n 1, 1) := dk_27 (dk_at dksX3_kind_4 3 rfl rfl)
theorem dX3_kind_98 : decode cX3_kind 98 = .ok (.iconst 0, 1) := dk_3 (dk_at dksX3_kind_4 4 rfl rfl)
theorem dX3_kind_99 : decode cX3_kind 99 = .ok (.invokestatic 56, 3) := dk_184 0 56 (dk_at dksX3_kind_4 5 rfl rfl)
theorem dX3_kind_102 : decode cX3_kind 102 = .ok (.iload_n 2, 1) := dk_28 (dk_at dksX3_kind_4 8 rfl rfl)
theorem dX3_kind_103 : decode cX3_kind 103 = .ok (.iastore, 1) := dk_79 (dk_at dksX3_kind_4 9 rfl rfl)
theorem dX3_kind_104 : decode cX3_kind 104 = .ok (.iload_n 3, 1) := dk_29 (dk_at dksX3_kind_4 10 rfl rfl)
theorem dX3_kind_105 : decode cX3_kind 105 = .ok (.ireturn, 1) := dk_172 (dk_at dksX3_kind_4 11 rfl rfl)
abbrev cX3_host : ByteArray := prog_17_method_73_code
def yX3_host : MethodName := ⟨RX3, "host", "(I)I"⟩
def dkwX3_host_2 : List UInt8 := [182, 0, 74, 167, 0, 4, 28, 172]
abbrev dktX3_host_2 : List UInt8 := dkwX3_host_2 ++ []
def dkwX3_host_1 : List UInt8 := [182, 0, 131, 153, 0, 7, 2, 167, 0, 8, 42, 27, 182, 0, 135, 61, 28, 2, 160, 0, 12, 42, 18, 196]
abbrev dktX3_host_1 : List UInt8 := dkwX3_host_1 ++ dktX3_host_2
def dkwX3_host_0 : List UInt8 := [42, 27, 182, 0, 106, 154, 0, 10, 42, 18, 45, 182, 0, 74, 172, 42, 42, 27, 4, 182, 0, 78]
abbrev dktX3_host_0 : List UInt8 := dkwX3_host_0 ++ dktX3_host_1
theorem dksX3_host_0 : cX3_host.data.toList.drop 0 = dktX3_host_0 := by decide +kernel
theorem dksX3_host_1 : cX3_host.data.toList.drop 22 = dktX3_host_1 := dk_seg dksX3_host_0 22 rfl rfl
theorem dksX3_host_2 : cX3_host.data.toList.drop 46 = dktX3_host_2 := dk_seg dksX3_host_1 24 rfl rfl
theorem dX3_host_0 : decode cX3_host 0 = .ok (.aload_n 0, 1) := dk_42 (dk_at dksX3_host_0 0 rfl rfl)
theorem dX3_host_1 : decode cX3_host 1 = .ok (.iload_n 1, 1) := dk_27 (dk_at dksX3_host_0 1 rfl rfl)
theorem dX3_host_2 : decode cX3_host 2 = .ok (.invokevirtual 106, 3) := dk_182 0 106 (dk_at dksX3_host_0 2 rfl rfl)
theorem dX3_host_5 : decode cX3_host 5 = .ok (.ifCond .ne 10, 3) := dk_154 0 10 (dk_at dksX3_host_0 5 rfl rfl)
theorem dX3_host_8 : decode cX3_host 8 = .ok (.aload_n 0, 1) := dk_42 (dk_at dksX3_host_0 8 rfl rfl)
theorem dX3_host_9 : decode cX3_host 9 = .ok (.ldc 45, 2) := dk_18 45 (dk_at dksX3_host_0 9 rfl rfl)
theorem dX3_host_11 : decode cX3_host 11 = .ok (.invokevirtual 74, 3) := dk_182 0 74 (dk_at dksX3_host_0 11 rfl rfl)
theorem dX3_host_14 : decode cX3_host 14 = .ok (.ireturn, 1) := dk_172 (dk_at dksX3_host_0 14 rfl rfl)
theorem dX3_host_15 : decode cX3_host 15 = .ok (.aload_n 0, 1) := dk_42 (dk_at dksX3_host_0 15 rfl rfl)
theorem dX3_host_16 : decode cX3_host 16 = .ok (.aload_n 0, 1) := dk_42 (dk_at dksX3_host_0 16 rfl rfl)
theorem dX3_host_17 : decode cX3_host 17 = .ok (.iload_n 1, 1) := dk_27 (dk_at dksX3_host_0 17 rfl rfl)
theorem dX3_host_18 : decode cX3_host 18 = .ok (.iconst 1, 1) := dk_4 (dk_at dksX3_host_0 18 rfl rfl)
theorem dX3_host_19 : decode cX3_host 19 = .ok (.invokevirtual 78, 3) := dk_182 0 78 (dk_at dksX3_host_0 19 rfl rfl)
theorem dX3_host_22 : decode cX3_host 22 = .ok (.invokevirtual 131, 3) := dk_182 0 131 (dk_at dksX3_host_1 0 rfl rfl)
theorem dX3_host_25 : decode cX3_host 25 = .ok (.ifCond .eq 7, 3) := dk_153 0 7 (dk_at dksX3_host_1 3 rfl rfl)
theorem dX3_host_28 : decode cX3_host 28 = .ok (.iconst (-1), 1) := dk_2 (dk_at dksX3_host_1 6 rfl rfl)
theorem dX3_host_29 : decode cX3_host 29 = .ok (.goto 8, 3) := dk_167 0 8 (dk_at dksX3_host_1 7 rfl rfl)
theorem dX3_host_32 : decode cX3_host 32 = .ok (.aload_n 0, 1) := dk_42 (dk_at dksX3_host_1 10 rfl rfl)
theorem dX3_host_33 : decode cX3_host 33 = .ok (.iload_n 1, 1) := dk_27 (dk_at dksX3_host_1 11 rfl rfl)
theorem dX3_host_34 : decode cX3_host 34 = .ok (.invokevirtual 135, 3) := dk_182 0 135 (dk_at dksX3_host_1 12 rfl rfl)
theorem dX3_host_37 : decode cX3_host 37 = .ok (.istore_n 2, 1) := dk_61 (dk_at dksX3_host_1 15 rfl rfl)
theorem dX3_host_38 : decode cX3_host 38 = .ok (.iload_n 2, 1) := dk_28 (dk_at dksX3_host_1 16 rfl rfl)
theorem dX3_host_39 : decode cX3_host 39 = .ok (.iconst (-1), 1) := dk_2 (dk_at dksX3_host_1 17 rfl rfl)
theorem dX3_host_40 : decode cX3_host 40 = .ok (.if_icmp .ne 12, 3) := dk_160 0 12 (dk_at dksX3_host_1 18 rfl rfl)
theorem dX3_host_43 : decode cX3_host 43 = .ok (.aload_n 0, 1) := dk_42 (dk_at dksX3_host_1 21 rfl rfl)
theorem dX3_host_44 : decode cX3_host 44 = .ok (.ldc 196, 2) := dk_18 196 (dk_at dksX3_host_1 22 rfl rfl)
theorem dX3_host_46 : decode cX3_host 46 = .ok (.invokevirtual 74, 3) := dk_182 0 74 (dk_at dksX3_host_2 0 rfl rfl)
theorem dX3_host_49 : decode cX3_host 49 = .ok (.goto 4, 3) := dk_167 0 4 (dk_at dksX3_host_2 3 rfl rfl)
theorem dX3_host_52 : decode cX3_host 52 = .ok (.iload_n 2, 1) := dk_28 (dk_at dksX3_host_2 6 rfl rfl)
theorem dX3_host_53 : decode cX3_host 53 = .ok (.ireturn, 1) := dk_172 (dk_at dksX3_host_2 7 rfl rfl)
abbrev cX3_beds : ByteArray := prog_17_method_74_code
def yX3_beds : MethodName := ⟨RX3, "beds", "(II)I"⟩
def dkwX3_beds_5 : List UInt8 := [21, 4, 172]
abbrev dktX3_beds_5 : List UInt8 := dkwX3_beds_5 ++ []
def dkwX3_beds_4 : List UInt8 := [180, 0, 7, 27, 3, 184, 0, 41, 29, 79, 21, 4, 156, 0, 12, 42, 18, 196, 182, 0, 74, 167, 0, 5]
abbrev dktX3_beds_4 : List UInt8 := dkwX3_beds_4 ++ dktX3_beds_5
def dkwX3_beds_3 : List UInt8 := [182, 0, 87, 154, 0, 8, 21, 5, 167, 0, 4, 2, 182, 0, 187, 54, 4, 132, 5, 1, 167, 255, 201, 42]
abbrev dktX3_beds_3 : List UInt8 := dkwX3_beds_3 ++ dktX3_beds_4
def dkwX3_beds_2 : List UInt8 := [180, 0, 7, 27, 3, 184, 0, 41, 21, 5, 79, 42, 182, 0, 184, 42, 28, 182, 0, 168, 42, 42, 2]
abbrev dktX3_beds_2 : List UInt8 := dkwX3_beds_2 ++ dktX3_beds_3
def dkwX3_beds_1 : List UInt8 := [182, 0, 84, 62, 2, 54, 4, 3, 54, 5, 21, 5, 6, 163, 0, 55, 21, 4, 156, 0, 50, 42]
abbrev dktX3_beds_1 : List UInt8 := dkwX3_beds_1 ++ dktX3_beds_2
def dkwX3_beds_0 : List UInt8 := [27, 184, 0, 67, 153, 0, 10, 28, 184, 0, 203, 154, 0, 10, 42, 18, 45, 182, 0, 74, 172, 42, 27, 3]
abbrev dktX3_beds_0 : List UInt8 := dkwX3_beds_0 ++ dktX3_beds_1
theorem dksX3_beds_0 : cX3_beds.data.toList.drop 0 = dktX3_beds_0 := by decide +kernel
theorem dksX3_beds_1 : cX3_beds.data.toList.drop 24 = dktX3_beds_1 := dk_seg dksX3_beds_0 24 rfl rfl
theorem dksX3_beds_2 : cX3_beds.data.toList.drop 46 = dktX3_beds_2 := dk_seg dksX3_beds_1 22 rfl rfl
theorem dksX3_beds_3 : cX3_beds.data.toList.drop 69 = dktX3_beds_3 := dk_seg dksX3_beds_2 23 rfl rfl
theorem dksX3_beds_4 : cX3_beds.data.toList.drop 93 = dktX3_beds_4 := dk_seg dksX3_beds_3 24 rfl rfl
theorem dksX3_beds_5 : cX3_beds.data.toList.drop 117 = dktX3_beds_5 := dk_seg dksX3_beds_4 24 rfl rfl
theorem dX3_beds_0 : decode cX3_beds 0 = .ok (.iload_n 1, 1) := dk_27 (dk_at dksX3_beds_0 0 rfl rfl)
theorem dX3_beds_1 : decode cX3_beds 1 = .ok (.invokestatic 67, 3) := dk_184 0 67 (dk_at dksX3_beds_0 1 rfl rfl)
theorem dX3_beds_4 : decode cX3_beds 4 = .ok (.ifCond .eq 10, 3) := dk_153 0 10 (dk_at dksX3_beds_0 4 rfl rfl)
theorem dX3_beds_7 : decode cX3_beds 7 = .ok (.iload_n 2, 1) := dk_28 (dk_at dksX3_beds_0 7 rfl rfl)
theorem dX3_beds_8 : decode cX3_beds 8 = .ok (.invokestatic 203, 3) := dk_184 0 203 (dk_at dksX3_beds_0 8 rfl rfl)
theorem dX3_beds_11 : decode cX3_beds 11 = .ok (.ifCond .ne 10, 3) := dk_154 0 10 (dk_at dksX3_beds_0 11 rfl rfl)
theorem dX3_beds_14 : decode cX3_beds 14 = .ok (.aload_n 0, 1) := dk_42 (dk_at dksX3_beds_0 14 rfl rfl)
theorem dX3_beds_15 : decode cX3_beds 15 = .ok (.ldc 45, 2) := dk_18 45 (dk_at dksX3_beds_0 15 rfl rfl)
theorem dX3_beds_17 : decode cX3_beds 17 = .ok (.invokevirtual 74, 3) := dk_182 0 74 (dk_at dksX3_beds_0 17 rfl rfl)
theorem dX3_beds_20 : decode cX3_beds 20 = .ok (.ireturn, 1) := dk_172 (dk_at dksX3_beds_0 20 rfl rfl)
theorem dX3_beds_21 : decode cX3_beds 21 = .ok (.aload_n 0, 1) := dk_42 (dk_at dksX3_beds_0 21 rfl rfl)
theorem dX3_beds_22 : decode cX3_beds 22 = .ok (.iload_n 1, 1) := dk_27 (dk_at dksX3_beds_0 22 rfl rfl)
theorem dX3_beds_23 : decode cX3_beds 23 = .ok (.iconst 0, 1) := dk_3 (dk_at dksX3_beds_0 23 rfl rfl)
theorem dX3_beds_24 : decode cX3_beds 24 = .ok (.invokevirtual 84, 3) := dk_182 0 84 (dk_at dksX3_beds_1 0 rfl rfl)
theorem dX3_beds_27 : decode cX3_beds 27 = .ok (.istore_n 3, 1) := dk_62 (dk_at dksX3_beds_1 3 rfl rfl)
theorem dX3_beds_28 : decode cX3_beds 28 = .ok (.iconst (-1), 1) := dk_2 (dk_at dksX3_beds_1 4 rfl rfl)
theorem dX3_beds_29 : decode cX3_beds 29 = .ok (.istore 4, 2) := dk_54 4 (dk_at dksX3_beds_1 5 rfl rfl)
theorem dX3_beds_31 : decode cX3_beds 31 = .ok (.iconst 0, 1) := dk_3 (dk_at dksX3_beds_1 7 rfl rfl)
theorem dX3_beds_32 : decode cX3_beds 32 = .ok (.istore 5, 2) := dk_54 5 (dk_at dksX3_beds_1 8 rfl rfl)
theorem dX3_beds_34 : decode cX3_beds 34 = .ok (.iload 5, 2) := dk_21 5 (dk_at dksX3_beds_1 10 rfl rfl)
theorem dX3_beds_36 : decode cX3_beds 36 = .ok (.iconst 3, 1) := dk_6 (dk_at dksX3_beds_1 12 rfl rfl)
theorem dX3_beds_37 : decode cX3_beds 37 = .ok (.if_icmp .gt 55, 3) := dk_163 0 55 (dk_at dksX3_beds_1 13 rfl rfl)
theorem dX3_beds_40 : decode cX3_beds 40 = .ok (.iload 4, 2) := dk_21 4 (dk_at dksX3_beds_1 16 rfl rfl)
theorem dX3_beds_42 : decode cX3_beds 42 = .ok (.ifCond .ge 50, 3) := dk_156 0 50 (dk_at dksX3_beds_1 18 rfl rfl)
theorem dX3_beds_45 : decode cX3_beds 45 = .ok (.aload_n 0, 1) := dk_42 (dk_at dksX3_beds_1 21 rfl rfl)
theorem dX3_beds_46 : decode cX3_beds 46 = .ok (.getfield 7, 3) := dk_180 0 7 (dk_at dksX3_beds_2 0 rfl rfl)
theorem dX3_beds_49 : decode cX3_beds 49 = .ok (.iload_n 1, 1) := dk_27 (dk_at dksX3_beds_2 3 rfl rfl)
theorem dX3_beds_50 : decode cX3_beds 50 = .ok (.iconst 0, 1) := dk_3 (dk_at dksX3_beds_2 4 rfl rfl)
theorem dX3_beds_51 : decode cX3_beds 51 = .ok (.invokestatic 41, 3) := dk_184 0 41 (dk_at dksX3_beds_2 5 rfl rfl)
theorem dX3_beds_54 : decode cX3_beds 54 = .ok (.iload 5, 2) := dk_21 5 (dk_at dksX3_beds_2 8 rfl rfl)
theorem dX3_beds_56 : decode cX3_beds 56 = .ok (.iastore, 1) := dk_79 (dk_at dksX3_beds_2 10 rfl rfl)
theorem dX3_beds_57 : decode cX3_beds 57 = .ok (.aload_n 0, 1) := dk_42 (dk_at dksX3_beds_2 11 rfl rfl)
theorem dX3_beds_58 : decode cX3_beds 58 = .ok (.invokevirtual 184, 3) := dk_182 0 184 (dk_at dksX3_beds_2 12 rfl rfl)
theorem dX3_beds_61 : decode cX3_beds 61 = .ok (.aload_n 0, 1) := dk_42 (dk_at dksX3_beds_2 15 rfl rfl)
theorem dX3_beds_62 : decode cX3_beds 62 = .ok (.iload_n 2, 1) := dk_28 (dk_at dksX3_beds_2 16 rfl rfl)
theorem dX3_beds_63 : decode cX3_beds 63 = .ok (.invokevirtual 168, 3) := dk_182 0 168 (dk_at dksX3_beds_2 17 rfl rfl)
theorem dX3_beds_66 : decode cX3_beds 66 = .ok (.aload_n 0, 1) := dk_42 (dk_at dksX3_beds_2 20 rfl rfl)
theorem dX3_beds_67 : decode cX3_beds 67 = .ok (.aload_n 0, 1) := dk_42 (dk_at dksX3_beds_2 21 rfl rfl)
theorem dX3_beds_68 : decode cX3_beds 68 = .ok (.iconst (-1), 1) := dk_2 (dk_at dksX3_beds_2 22 rfl rfl)
theorem dX3_beds_69 : decode cX3_beds 69 = .ok (.invokevirtual 87, 3) := dk_182 0 87 (dk_at dksX3_beds_3 0 rfl rfl)
theorem dX3_beds_72 : decode cX3_beds 72 = .ok (.ifCond .ne 8, 3) := dk_154 0 8 (dk_at dksX3_beds_3 3 rfl rfl)
theorem dX3_beds_75 : decode cX3_beds 75 = .ok (.iload 5, 2) := dk_21 5 (dk_at dksX3_beds_3 6 rfl rfl)
theorem dX3_beds_77 : decode cX3_beds 77 = .ok (.goto 4, 3) := dk_167 0 4 (dk_at dksX3_beds_3 8 rfl rfl)
theorem dX3_beds_80 : decode cX3_beds 80 = .ok (.iconst (-1), 1) := dk_2 (dk_at dksX3_beds_3 11 rfl rfl)
theorem dX3_beds_81 : decode cX3_beds 81 = .ok (.invokevirtual 187, 3) := dk_182 0 187 (dk_at dksX3_beds_3 12 rfl rfl)
theorem dX3_beds_84 : decode cX3_beds 84 = .ok (.istore 4, 2) := dk_54 4 (dk_at dksX3_beds_3 15 rfl rfl)
theorem dX3_beds_86 : decode cX3_beds 86 = .ok (.iinc 5 1, 3) := dk_132 5 1 (dk_at dksX3_beds_3 17 rfl rfl)
theorem dX3_beds_89 : decode cX3_beds 89 = .ok (.goto (-55), 3) := dk_167 255 201 (dk_at dksX3_beds_3 20 rfl rfl)
theorem dX3_beds_92 : decode cX3_beds 92 = .ok (.aload_n 0, 1) := dk_42 (dk_at dksX3_beds_3 23 rfl rfl)
theorem dX3_beds_93 : decode cX3_beds 93 = .ok (.getfield 7, 3) := dk_180 0 7 (dk_at dksX3_beds_4 0 rfl rfl)
theorem dX3_beds_96 : decode cX3_beds 96 = .ok (.iload_n 1, 1) := dk_27 (dk_at dksX3_beds_4 3 rfl rfl)
theorem dX3_beds_97 : decode cX3_beds 97 = .ok (.iconst 0, 1) := dk_3 (dk_at dksX3_beds_4 4 rfl rfl)
theorem dX3_beds_98 : decode cX3_beds 98 = .ok (.invokestatic 41, 3) := dk_184 0 41 (dk_at dksX3_beds_4 5 rfl rfl)
theorem dX3_beds_101 : decode cX3_beds 101 = .ok (.iload_n 3, 1) := dk_29 (dk_at dksX3_beds_4 8 rfl rfl)
theorem dX3_beds_102 : decode cX3_beds 102 = .ok (.iastore, 1) := dk_79 (dk_at dksX3_beds_4 9 rfl rfl)
theorem dX3_beds_103 : decode cX3_beds 103 = .ok (.iload 4, 2) := dk_21 4 (dk_at dksX3_beds_4 10 rfl rfl)
theorem dX3_beds_105 : decode cX3_beds 105 = .ok (.ifCond .ge 12, 3) := dk_156 0 12 (dk_at dksX3_beds_4 12 rfl rfl)
theorem dX3_beds_108 : decode cX3_beds 108 = .ok (.aload_n 0, 1) := dk_42 (dk_at dksX3_beds_4 15 rfl rfl)
theorem dX3_beds_109 : decode cX3_beds 109 = .ok (.ldc 196, 2) := dk_18 196 (dk_at dksX3_beds_4 16 rfl rfl)
theorem dX3_beds_111 : decode cX3_beds 111 = .ok (.invokevirtual 74, 3) := dk_182 0 74 (dk_at dksX3_beds_4 18 rfl rfl)
theorem dX3_beds_114 : decode cX3_beds 114 = .ok (.goto 5, 3) := dk_167 0 5 (dk_at dksX3_beds_4 21 rfl rfl)
theorem dX3_beds_117 : decode cX3_beds 117 = .ok (.iload 4, 2) := dk_21 4 (dk_at dksX3_beds_5 0 rfl rfl)
theorem dX3_beds_119 : decode cX3_beds 119 = .ok (.ireturn, 1) := dk_172 (dk_at dksX3_beds_5 2 rfl rfl)
abbrev cX3_feed : ByteArray := prog_17_method_75_code
def yX3_feed : MethodName := ⟨RX3, "feed", "(II)I"⟩
def dkwX3_feed_3 : List UInt8 := [96, 181, 0, 208, 132, 3, 255, 167, 255, 220, 42, 180, 0, 208, 172]
abbrev dktX3_feed_3 : List UInt8 := dkwX3_feed_3 ++ []
def dkwX3_feed_2 : List UInt8 := [180, 0, 25, 42, 180, 0, 208, 27, 16, 8, 29, 104, 122, 17, 0, 255, 126, 79, 42, 89, 180, 0, 208, 4]
abbrev dktX3_feed_2 : List UInt8 := dkwX3_feed_2 ++ dktX3_feed_3
def dkwX3_feed_1 : List UInt8 := [96, 16, 120, 164, 0, 10, 42, 18, 102, 182, 0, 74, 172, 28, 4, 100, 62, 29, 155, 0, 38, 42]
abbrev dktX3_feed_1 : List UInt8 := dkwX3_feed_1 ++ dktX3_feed_2
def dkwX3_feed_0 : List UInt8 := [28, 133, 10, 20, 0, 206, 184, 0, 48, 154, 0, 10, 42, 18, 45, 182, 0, 74, 172, 42, 180, 0, 208, 28]
abbrev dktX3_feed_0 : List UInt8 := dkwX3_feed_0 ++ dktX3_feed_1
theorem dksX3_feed_0 : cX3_feed.data.toList.drop 0 = dktX3_feed_0 := by decide +kernel
theorem dksX3_feed_1 : cX3_feed.data.toList.drop 24 = dktX3_feed_1 := dk_seg dksX3_feed_0 24 rfl rfl
theorem dksX3_feed_2 : cX3_feed.data.toList.drop 46 = dktX3_feed_2 := dk_seg dksX3_feed_1 22 rfl rfl
theorem dksX3_feed_3 : cX3_feed.data.toList.drop 70 = dktX3_feed_3 := dk_seg dksX3_feed_2 24 rfl rfl
theorem dX3_feed_0 : decode cX3_feed 0 = .ok (.iload_n 2, 1) := dk_28 (dk_at dksX3_feed_0 0 rfl rfl)
theorem dX3_feed_1 : decode cX3_feed 1 = .ok (.i2l, 1) := dk_133 (dk_at dksX3_feed_0 1 rfl rfl)
theorem dX3_feed_2 : decode cX3_feed 2 = .ok (.lconst 1, 1) := dk_10 (dk_at dksX3_feed_0 2 rfl rfl)
theorem dX3_feed_3 : decode cX3_feed 3 = .ok (.ldc2_w 206, 3) := dk_20 0 206 (dk_at dksX3_feed_0 3 rfl rfl)
theorem dX3_feed_6 : decode cX3_feed 6 = .ok (.invokestatic 48, 3) := dk_184 0 48 (dk_at dksX3_feed_0 6 rfl rfl)
theorem dX3_feed_9 : decode cX3_feed 9 = .ok (.ifCond .ne 10, 3) := dk_154 0 10 (dk_at dksX3_feed_0 9 rfl rfl)
theorem dX3_feed_12 : decode cX3_feed 12 = .ok (.aload_n 0, 1) := dk_42 (dk_at dksX3_feed_0 12 rfl rfl)
theorem dX3_feed_13 : decode cX3_feed 13 = .ok (.ldc 45, 2) := dk_18 45 (dk_at dksX3_feed_0 13 rfl rfl)
theorem dX3_feed_15 : decode cX3_feed 15 = .ok (.invokevirtual 74, 3) := dk_182 0 74 (dk_at dksX3_feed_0 15 rfl rfl)
theorem dX3_feed_18 : decode cX3_feed 18 = .ok (.ireturn, 1) := dk_172 (dk_at dksX3_feed_0 18 rfl rfl)
theorem dX3_feed_19 : decode cX3_feed 19 = .ok (.aload_n 0, 1) := dk_42 (dk_at dksX3_feed_0 19 rfl rfl)
theorem dX3_feed_20 : decode cX3_feed 20 = .ok (.getfield 208, 3) := dk_180 0 208 (dk_at dksX3_feed_0 20 rfl rfl)
theorem dX3_feed_23 : decode cX3_feed 23 = .ok (.iload_n 2, 1) := dk_28 (dk_at dksX3_feed_0 23 rfl rfl)
theorem dX3_feed_24 : decode cX3_feed 24 = .ok (.iadd, 1) := dk_96 (dk_at dksX3_feed_1 0 rfl rfl)
theorem dX3_feed_25 : decode cX3_feed 25 = .ok (.bipush 120, 2) := dk_16 120 (dk_at dksX3_feed_1 1 rfl rfl)
theorem dX3_feed_27 : decode cX3_feed 27 = .ok (.if_icmp .le 10, 3) := dk_164 0 10 (dk_at dksX3_feed_1 3 rfl rfl)
theorem dX3_feed_30 : decode cX3_feed 30 = .ok (.aload_n 0, 1) := dk_42 (dk_at dksX3_feed_1 6 rfl rfl)
theorem dX3_feed_31 : decode cX3_feed 31 = .ok (.ldc 102, 2) := dk_18 102 (dk_at dksX3_feed_1 7 rfl rfl)
theorem dX3_feed_33 : decode cX3_feed 33 = .ok (.invokevirtual 74, 3) := dk_182 0 74 (dk_at dksX3_feed_1 9 rfl rfl)
theorem dX3_feed_36 : decode cX3_feed 36 = .ok (.ireturn, 1) := dk_172 (dk_at dksX3_feed_1 12 rfl rfl)
theorem dX3_feed_37 : decode cX3_feed 37 = .ok (.iload_n 2, 1) := dk_28 (dk_at dksX3_feed_1 13 rfl rfl)
theorem dX3_feed_38 : decode cX3_feed 38 = .ok (.iconst 1, 1) := dk_4 (dk_at dksX3_feed_1 14 rfl rfl)
theorem dX3_feed_39 : decode cX3_feed 39 = .ok (.isub, 1) := dk_100 (dk_at dksX3_feed_1 15 rfl rfl)
theorem dX3_feed_40 : decode cX3_feed 40 = .ok (.istore_n 3, 1) := dk_62 (dk_at dksX3_feed_1 16 rfl rfl)
theorem dX3_feed_41 : decode cX3_feed 41 = .ok (.iload_n 3, 1) := dk_29 (dk_at dksX3_feed_1 17 rfl rfl)
theorem dX3_feed_42 : decode cX3_feed 42 = .ok (.ifCond .lt 38, 3) := dk_155 0 38 (dk_at dksX3_feed_1 18 rfl rfl)
theorem dX3_feed_45 : decode cX3_feed 45 = .ok (.aload_n 0, 1) := dk_42 (dk_at dksX3_feed_1 21 rfl rfl)
theorem dX3_feed_46 : decode cX3_feed 46 = .ok (.getfield 25, 3) := dk_180 0 25 (dk_at dksX3_feed_2 0 rfl rfl)
theorem dX3_feed_49 : decode cX3_feed 49 = .ok (.aload_n 0, 1) := dk_42 (dk_at dksX3_feed_2 3 rfl rfl)
theorem dX3_feed_50 : decode cX3_feed 50 = .ok (.getfield 208, 3) := dk_180 0 208 (dk_at dksX3_feed_2 4 rfl rfl)
theorem dX3_feed_53 : decode cX3_feed 53 = .ok (.iload_n 1, 1) := dk_27 (dk_at dksX3_feed_2 7 rfl rfl)
theorem dX3_feed_54 : decode cX3_feed 54 = .ok (.bipush 8, 2) := dk_16 8 (dk_at dksX3_feed_2 8 rfl rfl)
theorem dX3_feed_56 : decode cX3_feed 56 = .ok (.iload_n 3, 1) := dk_29 (dk_at dksX3_feed_2 10 rfl rfl)
theorem dX3_feed_57 : decode cX3_feed 57 = .ok (.imul, 1) := dk_104 (dk_at dksX3_feed_2 11 rfl rfl)
theorem dX3_feed_58 : decode cX3_feed 58 = .ok (.ishr, 1) := dk_122 (dk_at dksX3_feed_2 12 rfl rfl)
theorem dX3_feed_59 : decode cX3_feed 59 = .ok (.sipush 255, 3) := dk_17 0 255 (dk_at dksX3_feed_2 13 rfl rfl)
theorem dX3_feed_62 : decode cX3_feed 62 = .ok (.iand, 1) := dk_126 (dk_at dksX3_feed_2 16 rfl rfl)
theorem dX3_feed_63 : decode cX3_feed 63 = .ok (.iastore, 1) := dk_79 (dk_at dksX3_feed_2 17 rfl rfl)
theorem dX3_feed_64 : decode cX3_feed 64 = .ok (.aload_n 0, 1) := dk_42 (dk_at dksX3_feed_2 18 rfl rfl)
theorem dX3_feed_65 : decode cX3_feed 65 = .ok (.dup, 1) := dk_89 (dk_at dksX3_feed_2 19 rfl rfl)
theorem dX3_feed_66 : decode cX3_feed 66 = .ok (.getfield 208, 3) := dk_180 0 208 (dk_at dksX3_feed_2 20 rfl rfl)
theorem dX3_feed_69 : decode cX3_feed 69 = .ok (.iconst 1, 1) := dk_4 (dk_at dksX3_feed_2 23 rfl rfl)
theorem dX3_feed_70 : decode cX3_feed 70 = .ok (.iadd, 1) := dk_96 (dk_at dksX3_feed_3 0 rfl rfl)
theorem dX3_feed_71 : decode cX3_feed 71 = .ok (.putfield 208, 3) := dk_181 0 208 (dk_at dksX3_feed_3 1 rfl rfl)
theorem dX3_feed_74 : decode cX3_feed 74 = .ok (.iinc 3 (-1), 3) := dk_132 3 255 (dk_at dksX3_feed_3 4 rfl rfl)
theorem dX3_feed_77 : decode cX3_feed 77 = .ok (.goto (-36), 3) := dk_167 255 220 (dk_at dksX3_feed_3 7 rfl rfl)
theorem dX3_feed_80 : decode cX3_feed 80 = .ok (.aload_n 0, 1) := dk_42 (dk_at dksX3_feed_3 10 rfl rfl)
theorem dX3_feed_81 : decode cX3_feed 81 = .ok (.getfield 208, 3) := dk_180 0 208 (dk_at dksX3_feed_3 11 rfl rfl)
theorem dX3_feed_84 : decode cX3_feed 84 = .ok (.ireturn, 1) := dk_172 (dk_at dksX3_feed_3 14 rfl rfl)
abbrev cX3_wipe : ByteArray := prog_17_method_76_code
def yX3_wipe : MethodName := ⟨RX3, "wipe", "()I"⟩
def dkwX3_wipe_0 : List UInt8 := [42, 180, 0, 208, 60, 42, 3, 181, 0, 208, 27, 172]
abbrev dktX3_wipe_0 : List UInt8 := dkwX3_wipe_0 ++ []
theorem dksX3_wipe_0 : cX3_wipe.data.toList.drop 0 = dktX3_wipe_0 := by decide +kernel
theorem dX3_wipe_0 : decode cX3_wipe 0 = .ok (.aload_n 0, 1) := dk_42 (dk_at dksX3_wipe_0 0 rfl rfl)
theorem dX3_wipe_1 : decode cX3_wipe 1 = .ok (.getfield 208, 3) := dk_180 0 208 (dk_at dksX3_wipe_0 1 rfl rfl)
theorem dX3_wipe_4 : decode cX3_wipe 4 = .ok (.istore_n 1, 1) := dk_60 (dk_at dksX3_wipe_0 4 rfl rfl)
theorem dX3_wipe_5 : decode cX3_wipe 5 = .ok (.aload_n 0, 1) := dk_42 (dk_at dksX3_wipe_0 5 rfl rfl)
theorem dX3_wipe_6 : decode cX3_wipe 6 = .ok (.iconst 0, 1) := dk_3 (dk_at dksX3_wipe_0 6 rfl rfl)
theorem dX3_wipe_7 : decode cX3_wipe 7 = .ok (.putfield 208, 3) := dk_181 0 208 (dk_at dksX3_wipe_0 7 rfl rfl)
theorem dX3_wipe_10 : decode cX3_wipe 10 = .ok (.iload_n 1, 1) := dk_27 (dk_at dksX3_wipe_0 10 rfl rfl)
theorem dX3_wipe_11 : decode cX3_wipe 11 = .ok (.ireturn, 1) := dk_172 (dk_at dksX3_wipe_0 11 rfl rfl)
abbrev cX3_town : ByteArray := prog_17_method_90_code
def yX3_town : MethodName := ⟨RX3, "town", "()I"⟩
def dkwX3_town_5 : List UInt8 := [100, 167, 0, 4, 27, 172]
abbrev dktX3_town_5 : List UInt8 := dkwX3_town_5 ++ []
def dkwX3_town_4 : List UInt8 := [153, 0, 7, 42, 182, 1, 54, 42, 3, 181, 0, 208, 42, 180, 0, 235, 153, 0, 12, 2, 42, 180, 0, 223]
abbrev dktX3_town_4 : List UInt8 := dkwX3_town_4 ++ dktX3_town_5
def dkwX3_town_3 : List UInt8 := [180, 0, 223, 42, 180, 0, 208, 162, 0, 7, 4, 167, 0, 4, 3, 181, 0, 235, 42, 180, 0, 235]
abbrev dktX3_town_3 : List UInt8 := dkwX3_town_3 ++ dktX3_town_4
def dkwX3_town_2 : List UInt8 := [182, 0, 249, 42, 182, 1, 51, 132, 1, 1, 167, 255, 224, 42, 42, 180, 0, 235, 154, 0, 14, 42]
abbrev dktX3_town_2 : List UInt8 := dkwX3_town_2 ++ dktX3_town_3
def dkwX3_town_1 : List UInt8 := [42, 180, 0, 235, 154, 0, 31, 42, 42, 180, 0, 223, 182, 0, 226, 16, 59, 160, 0, 18, 42, 4]
abbrev dktX3_town_1 : List UInt8 := dkwX3_town_1 ++ dktX3_town_2
def dkwX3_town_0 : List UInt8 := [42, 182, 1, 48, 42, 3, 181, 0, 235, 42, 3, 181, 0, 220, 42, 182, 0, 239, 4, 60, 42, 182, 1, 51]
abbrev dktX3_town_0 : List UInt8 := dkwX3_town_0 ++ dktX3_town_1
theorem dksX3_town_0 : cX3_town.data.toList.drop 0 = dktX3_town_0 := by decide +kernel
theorem dksX3_town_1 : cX3_town.data.toList.drop 24 = dktX3_town_1 := dk_seg dksX3_town_0 24 rfl rfl
theorem dksX3_town_2 : cX3_town.data.toList.drop 46 = dktX3_town_2 := dk_seg dksX3_town_1 22 rfl rfl
theorem dksX3_town_3 : cX3_town.data.toList.drop 68 = dktX3_town_3 := dk_seg dksX3_town_2 22 rfl rfl
theorem dksX3_town_4 : cX3_town.data.toList.drop 90 = dktX3_town_4 := dk_seg dksX3_town_3 22 rfl rfl
theorem dksX3_town_5 : cX3_town.data.toList.drop 114 = dktX3_town_5 := dk_seg dksX3_town_4 24 rfl rfl
theorem dX3_town_0 : decode cX3_town 0 = .ok (.aload_n 0, 1) := dk_42 (dk_at dksX3_town_0 0 rfl rfl)
theorem dX3_town_1 : decode cX3_town 1 = .ok (.invokevirtual 304, 3) := dk_182 1 48 (dk_at dksX3_town_0 1 rfl rfl)
theorem dX3_town_4 : decode cX3_town 4 = .ok (.aload_n 0, 1) := dk_42 (dk_at dksX3_town_0 4 rfl rfl)
theorem dX3_town_5 : decode cX3_town 5 = .ok (.iconst 0, 1) := dk_3 (dk_at dksX3_town_0 5 rfl rfl)
theorem dX3_town_6 : decode cX3_town 6 = .ok (.putfield 235, 3) := dk_181 0 235 (dk_at dksX3_town_0 6 rfl rfl)
theorem dX3_town_9 : decode cX3_town 9 = .ok (.aload_n 0, 1) := dk_42 (dk_at dksX3_town_0 9 rfl rfl)
theorem dX3_town_10 : decode cX3_town 10 = .ok (.iconst 0, 1) := dk_3 (dk_at dksX3_town_0 10 rfl rfl)
theorem dX3_town_11 : decode cX3_town 11 = .ok (.putfield 220, 3) := dk_181 0 220 (dk_at dksX3_town_0 11 rfl rfl)
theorem dX3_town_14 : decode cX3_town 14 = .ok (.aload_n 0, 1) := dk_42 (dk_at dksX3_town_0 14 rfl rfl)
theorem dX3_town_15 : decode cX3_town 15 = .ok (.invokevirtual 239, 3) := dk_182 0 239 (dk_at dksX3_town_0 15 rfl rfl)
theorem dX3_town_18 : decode cX3_town 18 = .ok (.iconst 1, 1) := dk_4 (dk_at dksX3_town_0 18 rfl rfl)
theorem dX3_town_19 : decode cX3_town 19 = .ok (.istore_n 1, 1) := dk_60 (dk_at dksX3_town_0 19 rfl rfl)
theorem dX3_town_20 : decode cX3_town 20 = .ok (.aload_n 0, 1) := dk_42 (dk_at dksX3_town_0 20 rfl rfl)
theorem dX3_town_21 : decode cX3_town 21 = .ok (.invokevirtual 307, 3) := dk_182 1 51 (dk_at dksX3_town_0 21 rfl rfl)
theorem dX3_town_24 : decode cX3_town 24 = .ok (.aload_n 0, 1) := dk_42 (dk_at dksX3_town_1 0 rfl rfl)
theorem dX3_town_25 : decode cX3_town 25 = .ok (.getfield 235, 3) := dk_180 0 235 (dk_at dksX3_town_1 1 rfl rfl)
theorem dX3_town_28 : decode cX3_town 28 = .ok (.ifCond .ne 31, 3) := dk_154 0 31 (dk_at dksX3_town_1 4 rfl rfl)
theorem dX3_town_31 : decode cX3_town 31 = .ok (.aload_n 0, 1) := dk_42 (dk_at dksX3_town_1 7 rfl rfl)
theorem dX3_town_32 : decode cX3_town 32 = .ok (.aload_n 0, 1) := dk_42 (dk_at dksX3_town_1 8 rfl rfl)
theorem dX3_town_33 : decode cX3_town 33 = .ok (.getfield 223, 3) := dk_180 0 223 (dk_at dksX3_town_1 9 rfl rfl)
theorem dX3_town_36 : decode cX3_town 36 = .ok (.invokevirtual 226, 3) := dk_182 0 226 (dk_at dksX3_town_1 12 rfl rfl)
theorem dX3_town_39 : decode cX3_town 39 = .ok (.bipush 59, 2) := dk_16 59 (dk_at dksX3_town_1 15 rfl rfl)
theorem dX3_town_41 : decode cX3_town 41 = .ok (.if_icmp .ne 18, 3) := dk_160 0 18 (dk_at dksX3_town_1 17 rfl rfl)
theorem dX3_town_44 : decode cX3_town 44 = .ok (.aload_n 0, 1) := dk_42 (dk_at dksX3_town_1 20 rfl rfl)
theorem dX3_town_45 : decode cX3_town 45 = .ok (.iconst 1, 1) := dk_4 (dk_at dksX3_town_1 21 rfl rfl)
theorem dX3_town_46 : decode cX3_town 46 = .ok (.invokevirtual 249, 3) := dk_182 0 249 (dk_at dksX3_town_2 0 rfl rfl)
theorem dX3_town_49 : decode cX3_town 49 = .ok (.aload_n 0, 1) := dk_42 (dk_at dksX3_town_2 3 rfl rfl)
theorem dX3_town_50 : decode cX3_town 50 = .ok (.invokevirtual 307, 3) := dk_182 1 51 (dk_at dksX3_town_2 4 rfl rfl)
theorem dX3_town_53 : decode cX3_town 53 = .ok (.iinc 1 1, 3) := dk_132 1 1 (dk_at dksX3_town_2 7 rfl rfl)
theorem dX3_town_56 : decode cX3_town 56 = .ok (.goto (-32), 3) := dk_167 255 224 (dk_at dksX3_town_2 10 rfl rfl)
theorem dX3_town_59 : decode cX3_town 59 = .ok (.aload_n 0, 1) := dk_42 (dk_at dksX3_town_2 13 rfl rfl)
theorem dX3_town_60 : decode cX3_town 60 = .ok (.aload_n 0, 1) := dk_42 (dk_at dksX3_town_2 14 rfl rfl)
theorem dX3_town_61 : decode cX3_town 61 = .ok (.getfield 235, 3) := dk_180 0 235 (dk_at dksX3_town_2 15 rfl rfl)
theorem dX3_town_64 : decode cX3_town 64 = .ok (.ifCond .ne 14, 3) := dk_154 0 14 (dk_at dksX3_town_2 18 rfl rfl)
theorem dX3_town_67 : decode cX3_town 67 = .ok (.aload_n 0, 1) := dk_42 (dk_at dksX3_town_2 21 rfl rfl)
theorem dX3_town_68 : decode cX3_town 68 = .ok (.getfield 223, 3) := dk_180 0 223 (dk_at dksX3_town_3 0 rfl rfl)
theorem dX3_town_71 : decode cX3_town 71 = .ok (.aload_n 0, 1) := dk_42 (dk_at dksX3_town_3 3 rfl rfl)
theorem dX3_town_72 : decode cX3_town 72 = .ok (.getfield 208, 3) := dk_180 0 208 (dk_at dksX3_town_3 4 rfl rfl)
theorem dX3_town_75 : decode cX3_town 75 = .ok (.if_icmp .ge 7, 3) := dk_162 0 7 (dk_at dksX3_town_3 7 rfl rfl)
theorem dX3_town_78 : decode cX3_town 78 = .ok (.iconst 1, 1) := dk_4 (dk_at dksX3_town_3 10 rfl rfl)
theorem dX3_town_79 : decode cX3_town 79 = .ok (.goto 4, 3) := dk_167 0 4 (dk_at dksX3_town_3 11 rfl rfl)
theorem dX3_town_82 : decode cX3_town 82 = .ok (.iconst 0, 1) := dk_3 (dk_at dksX3_town_3 14 rfl rfl)
theorem dX3_town_83 : decode cX3_town 83 = .ok (.putfield 235, 3) := dk_181 0 235 (dk_at dksX3_town_3 15 rfl rfl)
theorem dX3_town_86 : decode cX3_town 86 = .ok (.aload_n 0, 1) := dk_42 (dk_at dksX3_town_3 18 rfl rfl)
theorem dX3_town_87 : decode cX3_town 87 = .ok (.getfield 235, 3) := dk_180 0 235 (dk_at dksX3_town_3 19 rfl rfl)
theorem dX3_town_90 : decode cX3_town 90 = .ok (.ifCond .eq 7, 3) := dk_153 0 7 (dk_at dksX3_town_4 0 rfl rfl)
theorem dX3_town_93 : decode cX3_town 93 = .ok (.aload_n 0, 1) := dk_42 (dk_at dksX3_town_4 3 rfl rfl)
theorem dX3_town_94 : decode cX3_town 94 = .ok (.invokevirtual 310, 3) := dk_182 1 54 (dk_at dksX3_town_4 4 rfl rfl)
theorem dX3_town_97 : decode cX3_town 97 = .ok (.aload_n 0, 1) := dk_42 (dk_at dksX3_town_4 7 rfl rfl)
theorem dX3_town_98 : decode cX3_town 98 = .ok (.iconst 0, 1) := dk_3 (dk_at dksX3_town_4 8 rfl rfl)
theorem dX3_town_99 : decode cX3_town 99 = .ok (.putfield 208, 3) := dk_181 0 208 (dk_at dksX3_town_4 9 rfl rfl)
theorem dX3_town_102 : decode cX3_town 102 = .ok (.aload_n 0, 1) := dk_42 (dk_at dksX3_town_4 12 rfl rfl)
theorem dX3_town_103 : decode cX3_town 103 = .ok (.getfield 235, 3) := dk_180 0 235 (dk_at dksX3_town_4 13 rfl rfl)
theorem dX3_town_106 : decode cX3_town 106 = .ok (.ifCond .eq 12, 3) := dk_153 0 12 (dk_at dksX3_town_4 16 rfl rfl)
theorem dX3_town_109 : decode cX3_town 109 = .ok (.iconst (-1), 1) := dk_2 (dk_at dksX3_town_4 19 rfl rfl)
theorem dX3_town_110 : decode cX3_town 110 = .ok (.aload_n 0, 1) := dk_42 (dk_at dksX3_town_4 20 rfl rfl)
theorem dX3_town_111 : decode cX3_town 111 = .ok (.getfield 223, 3) := dk_180 0 223 (dk_at dksX3_town_4 21 rfl rfl)
theorem dX3_town_114 : decode cX3_town 114 = .ok (.isub, 1) := dk_100 (dk_at dksX3_town_5 0 rfl rfl)
theorem dX3_town_115 : decode cX3_town 115 = .ok (.goto 4, 3) := dk_167 0 4 (dk_at dksX3_town_5 1 rfl rfl)
theorem dX3_town_118 : decode cX3_town 118 = .ok (.iload_n 1, 1) := dk_27 (dk_at dksX3_town_5 4 rfl rfl)
theorem dX3_town_119 : decode cX3_town 119 = .ok (.ireturn, 1) := dk_172 (dk_at dksX3_town_5 5 rfl rfl)
abbrev cX3_saves : ByteArray := prog_17_method_4_code
def yX3_saves : MethodName := ⟨RX3, "saves", "()V"⟩
def dkwX3_saves_1 : List UInt8 := [167, 255, 235, 177]
abbrev dktX3_saves_1 : List UInt8 := dkwX3_saves_1 ++ []
def dkwX3_saves_0 : List UInt8 := [3, 60, 27, 16, 77, 162, 0, 21, 42, 180, 0, 16, 27, 42, 180, 0, 7, 27, 46, 79, 132, 1, 1]
abbrev dktX3_saves_0 : List UInt8 := dkwX3_saves_0 ++ dktX3_saves_1
theorem dksX3_saves_0 : cX3_saves.data.toList.drop 0 = dktX3_saves_0 := by decide +kernel
theorem dksX3_saves_1 : cX3_saves.data.toList.drop 23 = dktX3_saves_1 := dk_seg dksX3_saves_0 23 rfl rfl
theorem dX3_saves_0 : decode cX3_saves 0 = .ok (.iconst 0, 1) := dk_3 (dk_at dksX3_saves_0 0 rfl rfl)
theorem dX3_saves_1 : decode cX3_saves 1 = .ok (.istore_n 1, 1) := dk_60 (dk_at dksX3_saves_0 1 rfl rfl)
theorem dX3_saves_2 : decode cX3_saves 2 = .ok (.iload_n 1, 1) := dk_27 (dk_at dksX3_saves_0 2 rfl rfl)
theorem dX3_saves_3 : decode cX3_saves 3 = .ok (.bipush 77, 2) := dk_16 77 (dk_at dksX3_saves_0 3 rfl rfl)
theorem dX3_saves_5 : decode cX3_saves 5 = .ok (.if_icmp .ge 21, 3) := dk_162 0 21 (dk_at dksX3_saves_0 5 rfl rfl)
theorem dX3_saves_8 : decode cX3_saves 8 = .ok (.aload_n 0, 1) := dk_42 (dk_at dksX3_saves_0 8 rfl rfl)
theorem dX3_saves_9 : decode cX3_saves 9 = .ok (.getfield 16, 3) := dk_180 0 16 (dk_at dksX3_saves_0 9 rfl rfl)
theorem dX3_saves_12 : decode cX3_saves 12 = .ok (.iload_n 1, 1) := dk_27 (dk_at dksX3_saves_0 12 rfl rfl)
theorem dX3_saves_13 : decode cX3_saves 13 = .ok (.aload_n 0, 1) := dk_42 (dk_at dksX3_saves_0 13 rfl rfl)
theorem dX3_saves_14 : decode cX3_saves 14 = .ok (.getfield 7, 3) := dk_180 0 7 (dk_at dksX3_saves_0 14 rfl rfl)
theorem dX3_saves_17 : decode cX3_saves 17 = .ok (.iload_n 1, 1) := dk_27 (dk_at dksX3_saves_0 17 rfl rfl)
theorem dX3_saves_18 : decode cX3_saves 18 = .ok (.iaload, 1) := dk_46 (dk_at dksX3_saves_0 18 rfl rfl)
theorem dX3_saves_19 : decode cX3_saves 19 = .ok (.iastore, 1) := dk_79 (dk_at dksX3_saves_0 19 rfl rfl)
theorem dX3_saves_20 : decode cX3_saves 20 = .ok (.iinc 1 1, 3) := dk_132 1 1 (dk_at dksX3_saves_0 20 rfl rfl)
theorem dX3_saves_23 : decode cX3_saves 23 = .ok (.goto (-21), 3) := dk_167 255 235 (dk_at dksX3_saves_1 0 rfl rfl)
theorem dX3_saves_26 : decode cX3_saves 26 = .ok (.return_, 1) := dk_177 (dk_at dksX3_saves_1 3 rfl rfl)
abbrev cX3_token : ByteArray := prog_17_method_80_code
def yX3_token : MethodName := ⟨RX3, "token", "()V"⟩
def dkwX3_token_5 : List UInt8 := [153, 0, 16, 42, 89, 180, 0, 220, 4, 96, 181, 0, 220, 167, 255, 210, 177]
abbrev dktX3_token_5 : List UInt8 := dkwX3_token_5 ++ []
def dkwX3_token_4 : List UInt8 := [182, 0, 226, 184, 0, 229, 154, 0, 21, 28, 153, 0, 30, 42, 42, 180, 0, 220, 182, 0, 226, 184, 0, 232]
abbrev dktX3_token_4 : List UInt8 := dkwX3_token_4 ++ dktX3_token_5
def dkwX3_token_3 : List UInt8 := [180, 0, 223, 4, 96, 167, 0, 7, 42, 180, 0, 223, 181, 0, 220, 27, 153, 0, 17, 42, 42, 180, 0, 220]
abbrev dktX3_token_3 : List UInt8 := dkwX3_token_3 ++ dktX3_token_4
def dkwX3_token_2 : List UInt8 := [42, 180, 0, 223, 182, 0, 226, 184, 0, 232, 61, 42, 42, 180, 0, 223, 42, 180, 0, 208, 162, 0, 12, 42]
abbrev dktX3_token_2 : List UInt8 := dkwX3_token_2 ++ dktX3_token_3
def dkwX3_token_1 : List UInt8 := [180, 0, 223, 4, 96, 181, 0, 223, 167, 255, 233, 42, 42, 180, 0, 223, 182, 0, 226, 184, 0, 229, 60, 42]
abbrev dktX3_token_1 : List UInt8 := dkwX3_token_1 ++ dktX3_token_2
def dkwX3_token_0 : List UInt8 := [42, 42, 180, 0, 220, 181, 0, 223, 42, 42, 180, 0, 223, 182, 0, 226, 16, 32, 160, 0, 16, 42, 89]
abbrev dktX3_token_0 : List UInt8 := dkwX3_token_0 ++ dktX3_token_1
theorem dksX3_token_0 : cX3_token.data.toList.drop 0 = dktX3_token_0 := by decide +kernel
theorem dksX3_token_1 : cX3_token.data.toList.drop 23 = dktX3_token_1 := dk_seg dksX3_token_0 23 rfl rfl
theorem dksX3_token_2 : cX3_token.data.toList.drop 47 = dktX3_token_2 := dk_seg dksX3_token_1 24 rfl rfl
theorem dksX3_token_3 : cX3_token.data.toList.drop 71 = dktX3_token_3 := dk_seg dksX3_token_2 24 rfl rfl
theorem dksX3_token_4 : cX3_token.data.toList.drop 95 = dktX3_token_4 := dk_seg dksX3_token_3 24 rfl rfl
theorem dksX3_token_5 : cX3_token.data.toList.drop 119 = dktX3_token_5 := dk_seg dksX3_token_4 24 rfl rfl
theorem dX3_token_0 : decode cX3_token 0 = .ok (.aload_n 0, 1) := dk_42 (dk_at dksX3_token_0 0 rfl rfl)
theorem dX3_token_1 : decode cX3_token 1 = .ok (.aload_n 0, 1) := dk_42 (dk_at dksX3_token_0 1 rfl rfl)
theorem dX3_token_2 : decode cX3_token 2 = .ok (.getfield 220, 3) := dk_180 0 220 (dk_at dksX3_token_0 2 rfl rfl)
theorem dX3_token_5 : decode cX3_token 5 = .ok (.putfield 223, 3) := dk_181 0 223 (dk_at dksX3_token_0 5 rfl rfl)
theorem dX3_token_8 : decode cX3_token 8 = .ok (.aload_n 0, 1) := dk_42 (dk_at dksX3_token_0 8 rfl rfl)
theorem dX3_token_9 : decode cX3_token 9 = .ok (.aload_n 0, 1) := dk_42 (dk_at dksX3_token_0 9 rfl rfl)
theorem dX3_token_10 : decode cX3_token 10 = .ok (.getfield 223, 3) := dk_180 0 223 (dk_at dksX3_token_0 10 rfl rfl)
theorem dX3_token_13 : decode cX3_token 13 = .ok (.invokevirtual 226, 3) := dk_182 0 226 (dk_at dksX3_token_0 13 rfl rfl)
theorem dX3_token_16 : decode cX3_token 16 = .ok (.bipush 32, 2) := dk_16 32 (dk_at dksX3_token_0 16 rfl rfl)
theorem dX3_token_18 : decode cX3_token 18 = .ok (.if_icmp .ne 16, 3) := dk_160 0 16 (dk_at dksX3_token_0 18 rfl rfl)
theorem dX3_token_21 : decode cX3_token 21 = .ok (.aload_n 0, 1) := dk_42 (dk_at dksX3_token_0 21 rfl rfl)
theorem dX3_token_22 : decode cX3_token 22 = .ok (.dup, 1) := dk_89 (dk_at dksX3_token_0 22 rfl rfl)
theorem dX3_token_23 : decode cX3_token 23 = .ok (.getfield 223, 3) := dk_180 0 223 (dk_at dksX3_token_1 0 rfl rfl)
theorem dX3_token_26 : decode cX3_token 26 = .ok (.iconst 1, 1) := dk_4 (dk_at dksX3_token_1 3 rfl rfl)
theorem dX3_token_27 : decode cX3_token 27 = .ok (.iadd, 1) := dk_96 (dk_at dksX3_token_1 4 rfl rfl)
theorem dX3_token_28 : decode cX3_token 28 = .ok (.putfield 223, 3) := dk_181 0 223 (dk_at dksX3_token_1 5 rfl rfl)
theorem dX3_token_31 : decode cX3_token 31 = .ok (.goto (-23), 3) := dk_167 255 233 (dk_at dksX3_token_1 8 rfl rfl)
theorem dX3_token_34 : decode cX3_token 34 = .ok (.aload_n 0, 1) := dk_42 (dk_at dksX3_token_1 11 rfl rfl)
theorem dX3_token_35 : decode cX3_token 35 = .ok (.aload_n 0, 1) := dk_42 (dk_at dksX3_token_1 12 rfl rfl)
theorem dX3_token_36 : decode cX3_token 36 = .ok (.getfield 223, 3) := dk_180 0 223 (dk_at dksX3_token_1 13 rfl rfl)
theorem dX3_token_39 : decode cX3_token 39 = .ok (.invokevirtual 226, 3) := dk_182 0 226 (dk_at dksX3_token_1 16 rfl rfl)
theorem dX3_token_42 : decode cX3_token 42 = .ok (.invokestatic 229, 3) := dk_184 0 229 (dk_at dksX3_token_1 19 rfl rfl)
theorem dX3_token_45 : decode cX3_token 45 = .ok (.istore_n 1, 1) := dk_60 (dk_at dksX3_token_1 22 rfl rfl)
theorem dX3_token_46 : decode cX3_token 46 = .ok (.aload_n 0, 1) := dk_42 (dk_at dksX3_token_1 23 rfl rfl)
theorem dX3_token_47 : decode cX3_token 47 = .ok (.aload_n 0, 1) := dk_42 (dk_at dksX3_token_2 0 rfl rfl)
theorem dX3_token_48 : decode cX3_token 48 = .ok (.getfield 223, 3) := dk_180 0 223 (dk_at dksX3_token_2 1 rfl rfl)
theorem dX3_token_51 : decode cX3_token 51 = .ok (.invokevirtual 226, 3) := dk_182 0 226 (dk_at dksX3_token_2 4 rfl rfl)
theorem dX3_token_54 : decode cX3_token 54 = .ok (.invokestatic 232, 3) := dk_184 0 232 (dk_at dksX3_token_2 7 rfl rfl)
theorem dX3_token_57 : decode cX3_token 57 = .ok (.istore_n 2, 1) := dk_61 (dk_at dksX3_token_2 10 rfl rfl)
theorem dX3_token_58 : decode cX3_token 58 = .ok (.aload_n 0, 1) := dk_42 (dk_at dksX3_token_2 11 rfl rfl)
theorem dX3_token_59 : decode cX3_token 59 = .ok (.aload_n 0, 1) := dk_42 (dk_at dksX3_token_2 12 rfl rfl)
theorem dX3_token_60 : decode cX3_token 60 = .ok (.getfield 223, 3) := dk_180 0 223 (dk_at dksX3_token_2 13 rfl rfl)
theorem dX3_token_63 : decode cX3_token 63 = .ok (.aload_n 0, 1) := dk_42 (dk_at dksX3_token_2 16 rfl rfl)
theorem dX3_token_64 : decode cX3_token 64 = .ok (.getfield 208, 3) := dk_180 0 208 (dk_at dksX3_token_2 17 rfl rfl)
theorem dX3_token_67 : decode cX3_token 67 = .ok (.if_icmp .ge 12, 3) := dk_162 0 12 (dk_at dksX3_token_2 20 rfl rfl)
theorem dX3_token_70 : decode cX3_token 70 = .ok (.aload_n 0, 1) := dk_42 (dk_at dksX3_token_2 23 rfl rfl)
theorem dX3_token_71 : decode cX3_token 71 = .ok (.getfield 223, 3) := dk_180 0 223 (dk_at dksX3_token_3 0 rfl rfl)
theorem dX3_token_74 : decode cX3_token 74 = .ok (.iconst 1, 1) := dk_4 (dk_at dksX3_token_3 3 rfl rfl)
theorem dX3_token_75 : decode cX3_token 75 = .ok (.iadd, 1) := dk_96 (dk_at dksX3_token_3 4 rfl rfl)
theorem dX3_token_76 : decode cX3_token 76 = .ok (.goto 7, 3) := dk_167 0 7 (dk_at dksX3_token_3 5 rfl rfl)
theorem dX3_token_79 : decode cX3_token 79 = .ok (.aload_n 0, 1) := dk_42 (dk_at dksX3_token_3 8 rfl rfl)
theorem dX3_token_80 : decode cX3_token 80 = .ok (.getfield 223, 3) := dk_180 0 223 (dk_at dksX3_token_3 9 rfl rfl)
theorem dX3_token_83 : decode cX3_token 83 = .ok (.putfield 220, 3) := dk_181 0 220 (dk_at dksX3_token_3 12 rfl rfl)
theorem dX3_token_86 : decode cX3_token 86 = .ok (.iload_n 1, 1) := dk_27 (dk_at dksX3_token_3 15 rfl rfl)
theorem dX3_token_87 : decode cX3_token 87 = .ok (.ifCond .eq 17, 3) := dk_153 0 17 (dk_at dksX3_token_3 16 rfl rfl)
theorem dX3_token_90 : decode cX3_token 90 = .ok (.aload_n 0, 1) := dk_42 (dk_at dksX3_token_3 19 rfl rfl)
theorem dX3_token_91 : decode cX3_token 91 = .ok (.aload_n 0, 1) := dk_42 (dk_at dksX3_token_3 20 rfl rfl)
theorem dX3_token_92 : decode cX3_token 92 = .ok (.getfield 220, 3) := dk_180 0 220 (dk_at dksX3_token_3 21 rfl rfl)
theorem dX3_token_95 : decode cX3_token 95 = .ok (.invokevirtual 226, 3) := dk_182 0 226 (dk_at dksX3_token_4 0 rfl rfl)
theorem dX3_token_98 : decode cX3_token 98 = .ok (.invokestatic 229, 3) := dk_184 0 229 (dk_at dksX3_token_4 3 rfl rfl)
theorem dX3_token_101 : decode cX3_token 101 = .ok (.ifCond .ne 21, 3) := dk_154 0 21 (dk_at dksX3_token_4 6 rfl rfl)
theorem dX3_token_104 : decode cX3_token 104 = .ok (.iload_n 2, 1) := dk_28 (dk_at dksX3_token_4 9 rfl rfl)
theorem dX3_token_105 : decode cX3_token 105 = .ok (.ifCond .eq 30, 3) := dk_153 0 30 (dk_at dksX3_token_4 10 rfl rfl)
theorem dX3_token_108 : decode cX3_token 108 = .ok (.aload_n 0, 1) := dk_42 (dk_at dksX3_token_4 13 rfl rfl)
theorem dX3_token_109 : decode cX3_token 109 = .ok (.aload_n 0, 1) := dk_42 (dk_at dksX3_token_4 14 rfl rfl)
theorem dX3_token_110 : decode cX3_token 110 = .ok (.getfield 220, 3) := dk_180 0 220 (dk_at dksX3_token_4 15 rfl rfl)
theorem dX3_token_113 : decode cX3_token 113 = .ok (.invokevirtual 226, 3) := dk_182 0 226 (dk_at dksX3_token_4 18 rfl rfl)
theorem dX3_token_116 : decode cX3_token 116 = .ok (.invokestatic 232, 3) := dk_184 0 232 (dk_at dksX3_token_4 21 rfl rfl)
theorem dX3_token_119 : decode cX3_token 119 = .ok (.ifCond .eq 16, 3) := dk_153 0 16 (dk_at dksX3_token_5 0 rfl rfl)
theorem dX3_token_122 : decode cX3_token 122 = .ok (.aload_n 0, 1) := dk_42 (dk_at dksX3_token_5 3 rfl rfl)
theorem dX3_token_123 : decode cX3_token 123 = .ok (.dup, 1) := dk_89 (dk_at dksX3_token_5 4 rfl rfl)
theorem dX3_token_124 : decode cX3_token 124 = .ok (.getfield 220, 3) := dk_180 0 220 (dk_at dksX3_token_5 5 rfl rfl)
theorem dX3_token_127 : decode cX3_token 127 = .ok (.iconst 1, 1) := dk_4 (dk_at dksX3_token_5 8 rfl rfl)
theorem dX3_token_128 : decode cX3_token 128 = .ok (.iadd, 1) := dk_96 (dk_at dksX3_token_5 9 rfl rfl)
theorem dX3_token_129 : decode cX3_token 129 = .ok (.putfield 220, 3) := dk_181 0 220 (dk_at dksX3_token_5 10 rfl rfl)
theorem dX3_token_132 : decode cX3_token 132 = .ok (.goto (-46), 3) := dk_167 255 210 (dk_at dksX3_token_5 13 rfl rfl)
theorem dX3_token_135 : decode cX3_token 135 = .ok (.return_, 1) := dk_177 (dk_at dksX3_token_5 16 rfl rfl)
abbrev cX3_byteAt : ByteArray := prog_17_method_77_code
def yX3_byteAt : MethodName := ⟨RX3, "byteAt", "(I)I"⟩
def dkwX3_byteAt_0 : List UInt8 := [27, 42, 180, 0, 208, 162, 0, 12, 42, 180, 0, 25, 27, 46, 167, 0, 4, 2, 172]
abbrev dktX3_byteAt_0 : List UInt8 := dkwX3_byteAt_0 ++ []
theorem dksX3_byteAt_0 : cX3_byteAt.data.toList.drop 0 = dktX3_byteAt_0 := by decide +kernel
theorem dX3_byteAt_0 : decode cX3_byteAt 0 = .ok (.iload_n 1, 1) := dk_27 (dk_at dksX3_byteAt_0 0 rfl rfl)
theorem dX3_byteAt_1 : decode cX3_byteAt 1 = .ok (.aload_n 0, 1) := dk_42 (dk_at dksX3_byteAt_0 1 rfl rfl)
theorem dX3_byteAt_2 : decode cX3_byteAt 2 = .ok (.getfield 208, 3) := dk_180 0 208 (dk_at dksX3_byteAt_0 2 rfl rfl)
theorem dX3_byteAt_5 : decode cX3_byteAt 5 = .ok (.if_icmp .ge 12, 3) := dk_162 0 12 (dk_at dksX3_byteAt_0 5 rfl rfl)
theorem dX3_byteAt_8 : decode cX3_byteAt 8 = .ok (.aload_n 0, 1) := dk_42 (dk_at dksX3_byteAt_0 8 rfl rfl)
theorem dX3_byteAt_9 : decode cX3_byteAt 9 = .ok (.getfield 25, 3) := dk_180 0 25 (dk_at dksX3_byteAt_0 9 rfl rfl)
theorem dX3_byteAt_12 : decode cX3_byteAt 12 = .ok (.iload_n 1, 1) := dk_27 (dk_at dksX3_byteAt_0 12 rfl rfl)
theorem dX3_byteAt_13 : decode cX3_byteAt 13 = .ok (.iaload, 1) := dk_46 (dk_at dksX3_byteAt_0 13 rfl rfl)
theorem dX3_byteAt_14 : decode cX3_byteAt 14 = .ok (.goto 4, 3) := dk_167 0 4 (dk_at dksX3_byteAt_0 14 rfl rfl)
theorem dX3_byteAt_17 : decode cX3_byteAt 17 = .ok (.iconst (-1), 1) := dk_2 (dk_at dksX3_byteAt_0 17 rfl rfl)
theorem dX3_byteAt_18 : decode cX3_byteAt 18 = .ok (.ireturn, 1) := dk_172 (dk_at dksX3_byteAt_0 18 rfl rfl)
abbrev cX3_isLetter : ByteArray := prog_17_method_78_code
def yX3_isLetter : MethodName := ⟨RX3, "isLetter", "(I)Z"⟩
def dkwX3_isLetter_0 : List UInt8 := [26, 133, 20, 0, 212, 20, 0, 214, 184, 0, 48, 172]
abbrev dktX3_isLetter_0 : List UInt8 := dkwX3_isLetter_0 ++ []
theorem dksX3_isLetter_0 : cX3_isLetter.data.toList.drop 0 = dktX3_isLetter_0 := by decide +kernel
theorem dX3_isLetter_0 : decode cX3_isLetter 0 = .ok (.iload_n 0, 1) := dk_26 (dk_at dksX3_isLetter_0 0 rfl rfl)
theorem dX3_isLetter_1 : decode cX3_isLetter 1 = .ok (.i2l, 1) := dk_133 (dk_at dksX3_isLetter_0 1 rfl rfl)
theorem dX3_isLetter_2 : decode cX3_isLetter 2 = .ok (.ldc2_w 212, 3) := dk_20 0 212 (dk_at dksX3_isLetter_0 2 rfl rfl)
theorem dX3_isLetter_5 : decode cX3_isLetter 5 = .ok (.ldc2_w 214, 3) := dk_20 0 214 (dk_at dksX3_isLetter_0 5 rfl rfl)
theorem dX3_isLetter_8 : decode cX3_isLetter 8 = .ok (.invokestatic 48, 3) := dk_184 0 48 (dk_at dksX3_isLetter_0 8 rfl rfl)
theorem dX3_isLetter_11 : decode cX3_isLetter 11 = .ok (.ireturn, 1) := dk_172 (dk_at dksX3_isLetter_0 11 rfl rfl)
abbrev cX3_isDigit : ByteArray := prog_17_method_79_code
def yX3_isDigit : MethodName := ⟨RX3, "isDigit", "(I)Z"⟩
def dkwX3_isDigit_0 : List UInt8 := [26, 133, 20, 0, 216, 20, 0, 218, 184, 0, 48, 172]
abbrev dktX3_isDigit_0 : List UInt8 := dkwX3_isDigit_0 ++ []
theorem dksX3_isDigit_0 : cX3_isDigit.data.toList.drop 0 = dktX3_isDigit_0 := by decide +kernel
theorem dX3_isDigit_0 : decode cX3_isDigit 0 = .ok (.iload_n 0, 1) := dk_26 (dk_at dksX3_isDigit_0 0 rfl rfl)
theorem dX3_isDigit_1 : decode cX3_isDigit 1 = .ok (.i2l, 1) := dk_133 (dk_at dksX3_isDigit_0 1 rfl rfl)
theorem dX3_isDigit_2 : decode cX3_isDigit 2 = .ok (.ldc2_w 216, 3) := dk_20 0 216 (dk_at dksX3_isDigit_0 2 rfl rfl)
theorem dX3_isDigit_5 : decode cX3_isDigit 5 = .ok (.ldc2_w 218, 3) := dk_20 0 218 (dk_at dksX3_isDigit_0 5 rfl rfl)
theorem dX3_isDigit_8 : decode cX3_isDigit 8 = .ok (.invokestatic 48, 3) := dk_184 0 48 (dk_at dksX3_isDigit_0 8 rfl rfl)
theorem dX3_isDigit_11 : decode cX3_isDigit 11 = .ok (.ireturn, 1) := dk_172 (dk_at dksX3_isDigit_0 11 rfl rfl)
abbrev cX3_item : ByteArray := prog_17_method_89_code
def yX3_item : MethodName := ⟨RX3, "item", "()V"⟩
def dkwX3_item_3 : List UInt8 := [180, 0, 246, 182, 0, 147, 54, 4, 177]
abbrev dktX3_item_3 : List UInt8 := dkwX3_item_3 ++ []
def dkwX3_item_2 : List UInt8 := [167, 0, 4, 3, 182, 0, 249, 42, 3, 16, 15, 182, 1, 13, 42, 180, 0, 235, 154, 0, 13, 42, 42]
abbrev dktX3_item_2 : List UInt8 := dkwX3_item_2 ++ dktX3_item_3
def dkwX3_item_1 : List UInt8 := [20, 1, 41, 148, 154, 0, 10, 42, 182, 1, 43, 167, 0, 44, 42, 32, 20, 1, 46, 148, 154, 0, 7, 4]
abbrev dktX3_item_1 : List UInt8 := dkwX3_item_1 ++ dktX3_item_2
def dkwX3_item_0 : List UInt8 := [42, 182, 1, 35, 60, 42, 182, 0, 253, 65, 27, 155, 0, 11, 42, 27, 182, 1, 38, 167, 0, 59, 32]
abbrev dktX3_item_0 : List UInt8 := dkwX3_item_0 ++ dktX3_item_1
theorem dksX3_item_0 : cX3_item.data.toList.drop 0 = dktX3_item_0 := by decide +kernel
theorem dksX3_item_1 : cX3_item.data.toList.drop 23 = dktX3_item_1 := dk_seg dksX3_item_0 23 rfl rfl
theorem dksX3_item_2 : cX3_item.data.toList.drop 47 = dktX3_item_2 := dk_seg dksX3_item_1 24 rfl rfl
theorem dksX3_item_3 : cX3_item.data.toList.drop 70 = dktX3_item_3 := dk_seg dksX3_item_2 23 rfl rfl
theorem dX3_item_0 : decode cX3_item 0 = .ok (.aload_n 0, 1) := dk_42 (dk_at dksX3_item_0 0 rfl rfl)
theorem dX3_item_1 : decode cX3_item 1 = .ok (.invokevirtual 291, 3) := dk_182 1 35 (dk_at dksX3_item_0 1 rfl rfl)
theorem dX3_item_4 : decode cX3_item 4 = .ok (.istore_n 1, 1) := dk_60 (dk_at dksX3_item_0 4 rfl rfl)
theorem dX3_item_5 : decode cX3_item 5 = .ok (.aload_n 0, 1) := dk_42 (dk_at dksX3_item_0 5 rfl rfl)
theorem dX3_item_6 : decode cX3_item 6 = .ok (.invokevirtual 253, 3) := dk_182 0 253 (dk_at dksX3_item_0 6 rfl rfl)
theorem dX3_item_9 : decode cX3_item 9 = .ok (.lstore_n 2, 1) := dk_65 (dk_at dksX3_item_0 9 rfl rfl)
theorem dX3_item_10 : decode cX3_item 10 = .ok (.iload_n 1, 1) := dk_27 (dk_at dksX3_item_0 10 rfl rfl)
theorem dX3_item_11 : decode cX3_item 11 = .ok (.ifCond .lt 11, 3) := dk_155 0 11 (dk_at dksX3_item_0 11 rfl rfl)
theorem dX3_item_14 : decode cX3_item 14 = .ok (.aload_n 0, 1) := dk_42 (dk_at dksX3_item_0 14 rfl rfl)
theorem dX3_item_15 : decode cX3_item 15 = .ok (.iload_n 1, 1) := dk_27 (dk_at dksX3_item_0 15 rfl rfl)
theorem dX3_item_16 : decode cX3_item 16 = .ok (.invokevirtual 294, 3) := dk_182 1 38 (dk_at dksX3_item_0 16 rfl rfl)
theorem dX3_item_19 : decode cX3_item 19 = .ok (.goto 59, 3) := dk_167 0 59 (dk_at dksX3_item_0 19 rfl rfl)
theorem dX3_item_22 : decode cX3_item 22 = .ok (.lload_n 2, 1) := dk_32 (dk_at dksX3_item_0 22 rfl rfl)
theorem dX3_item_23 : decode cX3_item 23 = .ok (.ldc2_w 297, 3) := dk_20 1 41 (dk_at dksX3_item_1 0 rfl rfl)
theorem dX3_item_26 : decode cX3_item 26 = .ok (.lcmp, 1) := dk_148 (dk_at dksX3_item_1 3 rfl rfl)
theorem dX3_item_27 : decode cX3_item 27 = .ok (.ifCond .ne 10, 3) := dk_154 0 10 (dk_at dksX3_item_1 4 rfl rfl)
theorem dX3_item_30 : decode cX3_item 30 = .ok (.aload_n 0, 1) := dk_42 (dk_at dksX3_item_1 7 rfl rfl)
theorem dX3_item_31 : decode cX3_item 31 = .ok (.invokevirtual 299, 3) := dk_182 1 43 (dk_at dksX3_item_1 8 rfl rfl)
theorem dX3_item_34 : decode cX3_item 34 = .ok (.goto 44, 3) := dk_167 0 44 (dk_at dksX3_item_1 11 rfl rfl)
theorem dX3_item_37 : decode cX3_item 37 = .ok (.aload_n 0, 1) := dk_42 (dk_at dksX3_item_1 14 rfl rfl)
theorem dX3_item_38 : decode cX3_item 38 = .ok (.lload_n 2, 1) := dk_32 (dk_at dksX3_item_1 15 rfl rfl)
theorem dX3_item_39 : decode cX3_item 39 = .ok (.ldc2_w 302, 3) := dk_20 1 46 (dk_at dksX3_item_1 16 rfl rfl)
theorem dX3_item_42 : decode cX3_item 42 = .ok (.lcmp, 1) := dk_148 (dk_at dksX3_item_1 19 rfl rfl)
theorem dX3_item_43 : decode cX3_item 43 = .ok (.ifCond .ne 7, 3) := dk_154 0 7 (dk_at dksX3_item_1 20 rfl rfl)
theorem dX3_item_46 : decode cX3_item 46 = .ok (.iconst 1, 1) := dk_4 (dk_at dksX3_item_1 23 rfl rfl)
theorem dX3_item_47 : decode cX3_item 47 = .ok (.goto 4, 3) := dk_167 0 4 (dk_at dksX3_item_2 0 rfl rfl)
theorem dX3_item_50 : decode cX3_item 50 = .ok (.iconst 0, 1) := dk_3 (dk_at dksX3_item_2 3 rfl rfl)
theorem dX3_item_51 : decode cX3_item 51 = .ok (.invokevirtual 249, 3) := dk_182 0 249 (dk_at dksX3_item_2 4 rfl rfl)
theorem dX3_item_54 : decode cX3_item 54 = .ok (.aload_n 0, 1) := dk_42 (dk_at dksX3_item_2 7 rfl rfl)
theorem dX3_item_55 : decode cX3_item 55 = .ok (.iconst 0, 1) := dk_3 (dk_at dksX3_item_2 8 rfl rfl)
theorem dX3_item_56 : decode cX3_item 56 = .ok (.bipush 15, 2) := dk_16 15 (dk_at dksX3_item_2 9 rfl rfl)
theorem dX3_item_58 : decode cX3_item 58 = .ok (.invokevirtual 269, 3) := dk_182 1 13 (dk_at dksX3_item_2 11 rfl rfl)
theorem dX3_item_61 : decode cX3_item 61 = .ok (.aload_n 0, 1) := dk_42 (dk_at dksX3_item_2 14 rfl rfl)
theorem dX3_item_62 : decode cX3_item 62 = .ok (.getfield 235, 3) := dk_180 0 235 (dk_at dksX3_item_2 15 rfl rfl)
theorem dX3_item_65 : decode cX3_item 65 = .ok (.ifCond .ne 13, 3) := dk_154 0 13 (dk_at dksX3_item_2 18 rfl rfl)
theorem dX3_item_68 : decode cX3_item 68 = .ok (.aload_n 0, 1) := dk_42 (dk_at dksX3_item_2 21 rfl rfl)
theorem dX3_item_69 : decode cX3_item 69 = .ok (.aload_n 0, 1) := dk_42 (dk_at dksX3_item_2 22 rfl rfl)
theorem dX3_item_70 : decode cX3_item 70 = .ok (.getfield 246, 3) := dk_180 0 246 (dk_at dksX3_item_3 0 rfl rfl)
theorem dX3_item_73 : decode cX3_item 73 = .ok (.invokevirtual 147, 3) := dk_182 0 147 (dk_at dksX3_item_3 3 rfl rfl)
theorem dX3_item_76 : decode cX3_item 76 = .ok (.istore 4, 2) := dk_54 4 (dk_at dksX3_item_3 6 rfl rfl)
theorem dX3_item_78 : decode cX3_item 78 = .ok (.return_, 1) := dk_177 (dk_at dksX3_item_3 8 rfl rfl)
abbrev cX3_kindHere : ByteArray := prog_17_method_84_code
def yX3_kindHere : MethodName := ⟨RX3, "kindHere", "()I"⟩
def dkwX3_kindHere_3 : List UInt8 := [154, 0, 7, 8, 167, 0, 4, 2, 172]
abbrev dktX3_kindHere_3 : List UInt8 := dkwX3_kindHere_3 ++ []
def dkwX3_kindHere_2 : List UInt8 := [154, 0, 7, 6, 167, 0, 28, 31, 20, 1, 9, 148, 154, 0, 7, 7, 167, 0, 16, 31, 20, 1, 11, 148]
abbrev dktX3_kindHere_2 : List UInt8 := dkwX3_kindHere_2 ++ dktX3_kindHere_3
def dkwX3_kindHere_1 : List UInt8 := [154, 0, 7, 4, 167, 0, 52, 31, 20, 1, 5, 148, 154, 0, 7, 5, 167, 0, 40, 31, 20, 1, 7, 148]
abbrev dktX3_kindHere_1 : List UInt8 := dkwX3_kindHere_1 ++ dktX3_kindHere_2
def dkwX3_kindHere_0 : List UInt8 := [42, 182, 0, 253, 64, 31, 20, 1, 1, 148, 154, 0, 7, 3, 167, 0, 64, 31, 20, 1, 3, 148]
abbrev dktX3_kindHere_0 : List UInt8 := dkwX3_kindHere_0 ++ dktX3_kindHere_1
theorem dksX3_kindHere_0 : cX3_kindHere.data.toList.drop 0 = dktX3_kindHere_0 := by decide +kernel
theorem dksX3_kindHere_1 : cX3_kindHere.data.toList.drop 22 = dktX3_kindHere_1 := dk_seg dksX3_kindHere_0 22 rfl rfl
theorem dksX3_kindHere_2 : cX3_kindHere.data.toList.drop 46 = dktX3_kindHere_2 := dk_seg dksX3_kindHere_1 24 rfl rfl
theorem dksX3_kindHere_3 : cX3_kindHere.data.toList.drop 70 = dktX3_kindHere_3 := dk_seg dksX3_kindHere_2 24 rfl rfl
theorem dX3_kindHere_0 : decode cX3_kindHere 0 = .ok (.aload_n 0, 1) := dk_42 (dk_at dksX3_kindHere_0 0 rfl rfl)
theorem dX3_kindHere_1 : decode cX3_kindHere 1 = .ok (.invokevirtual 253, 3) := dk_182 0 253 (dk_at dksX3_kindHere_0 1 rfl rfl)
theorem dX3_kindHere_4 : decode cX3_kindHere 4 = .ok (.lstore_n 1, 1) := dk_64 (dk_at dksX3_kindHere_0 4 rfl rfl)
theorem dX3_kindHere_5 : decode cX3_kindHere 5 = .ok (.lload_n 1, 1) := dk_31 (dk_at dksX3_kindHere_0 5 rfl rfl)
theorem dX3_kindHere_6 : decode cX3_kindHere 6 = .ok (.ldc2_w 257, 3) := dk_20 1 1 (dk_at dksX3_kindHere_0 6 rfl rfl)
theorem dX3_kindHere_9 : decode cX3_kindHere 9 = .ok (.lcmp, 1) := dk_148 (dk_at dksX3_kindHere_0 9 rfl rfl)
theorem dX3_kindHere_10 : decode cX3_kindHere 10 = .ok (.ifCond .ne 7, 3) := dk_154 0 7 (dk_at dksX3_kindHere_0 10 rfl rfl)
theorem dX3_kindHere_13 : decode cX3_kindHere 13 = .ok (.iconst 0, 1) := dk_3 (dk_at dksX3_kindHere_0 13 rfl rfl)
theorem dX3_kindHere_14 : decode cX3_kindHere 14 = .ok (.goto 64, 3) := dk_167 0 64 (dk_at dksX3_kindHere_0 14 rfl rfl)
theorem dX3_kindHere_17 : decode cX3_kindHere 17 = .ok (.lload_n 1, 1) := dk_31 (dk_at dksX3_kindHere_0 17 rfl rfl)
theorem dX3_kindHere_18 : decode cX3_kindHere 18 = .ok (.ldc2_w 259, 3) := dk_20 1 3 (dk_at dksX3_kindHere_0 18 rfl rfl)
theorem dX3_kindHere_21 : decode cX3_kindHere 21 = .ok (.lcmp, 1) := dk_148 (dk_at dksX3_kindHere_0 21 rfl rfl)
theorem dX3_kindHere_22 : decode cX3_kindHere 22 = .ok (.ifCond .ne 7, 3) := dk_154 0 7 (dk_at dksX3_kindHere_1 0 rfl rfl)
theorem dX3_kindHere_25 : decode cX3_kindHere 25 = .ok (.iconst 1, 1) := dk_4 (dk_at dksX3_kindHere_1 3 rfl rfl)
theorem dX3_kindHere_26 : decode cX3_kindHere 26 = .ok (.goto 52, 3) := dk_167 0 52 (dk_at dksX3_kindHere_1 4 rfl rfl)
theorem dX3_kindHere_29 : decode cX3_kindHere 29 = .ok (.lload_n 1, 1) := dk_31 (dk_at dksX3_kindHere_1 7 rfl rfl)
theorem dX3_kindHere_30 : decode cX3_kindHere 30 = .ok (.ldc2_w 261, 3) := dk_20 1 5 (dk_at dksX3_kindHere_1 8 rfl rfl)
theorem dX3_kindHere_33 : decode cX3_kindHere 33 = .ok (.lcmp, 1) := dk_148 (dk_at dksX3_kindHere_1 11 rfl rfl)
theorem dX3_kindHere_34 : decode cX3_kindHere 34 = .ok (.ifCond .ne 7, 3) := dk_154 0 7 (dk_at dksX3_kindHere_1 12 rfl rfl)
theorem dX3_kindHere_37 : decode cX3_kindHere 37 = .ok (.iconst 2, 1) := dk_5 (dk_at dksX3_kindHere_1 15 rfl rfl)
theorem dX3_kindHere_38 : decode cX3_kindHere 38 = .ok (.goto 40, 3) := dk_167 0 40 (dk_at dksX3_kindHere_1 16 rfl rfl)
theorem dX3_kindHere_41 : decode cX3_kindHere 41 = .ok (.lload_n 1, 1) := dk_31 (dk_at dksX3_kindHere_1 19 rfl rfl)
theorem dX3_kindHere_42 : decode cX3_kindHere 42 = .ok (.ldc2_w 263, 3) := dk_20 1 7 (dk_at dksX3_kindHere_1 20 rfl rfl)
theorem dX3_kindHere_45 : decode cX3_kindHere 45 = .ok (.lcmp, 1) := dk_148 (dk_at dksX3_kindHere_1 23 rfl rfl)
theorem dX3_kindHere_46 : decode cX3_kindHere 46 = .ok (.ifCond .ne 7, 3) := dk_154 0 7 (dk_at dksX3_kindHere_2 0 rfl rfl)
theorem dX3_kindHere_49 : decode cX3_kindHere 49 = .ok (.iconst 3, 1) := dk_6 (dk_at dksX3_kindHere_2 3 rfl rfl)
theorem dX3_kindHere_50 : decode cX3_kindHere 50 = .ok (.goto 28, 3) := dk_167 0 28 (dk_at dksX3_kindHere_2 4 rfl rfl)
theorem dX3_kindHere_53 : decode cX3_kindHere 53 = .ok (.lload_n 1, 1) := dk_31 (dk_at dksX3_kindHere_2 7 rfl rfl)
theorem dX3_kindHere_54 : decode cX3_kindHere 54 = .ok (.ldc2_w 265, 3) := dk_20 1 9 (dk_at dksX3_kindHere_2 8 rfl rfl)
theorem dX3_kindHere_57 : decode cX3_kindHere 57 = .ok (.lcmp, 1) := dk_148 (dk_at dksX3_kindHere_2 11 rfl rfl)
theorem dX3_kindHere_58 : decode cX3_kindHere 58 = .ok (.ifCond .ne 7, 3) := dk_154 0 7 (dk_at dksX3_kindHere_2 12 rfl rfl)
theorem dX3_kindHere_61 : decode cX3_kindHere 61 = .ok (.iconst 4, 1) := dk_7 (dk_at dksX3_kindHere_2 15 rfl rfl)
theorem dX3_kindHere_62 : decode cX3_kindHere 62 = .ok (.goto 16, 3) := dk_167 0 16 (dk_at dksX3_kindHere_2 16 rfl rfl)
theorem dX3_kindHere_65 : decode cX3_kindHere 65 = .ok (.lload_n 1, 1) := dk_31 (dk_at dksX3_kindHere_2 19 rfl rfl)
theorem dX3_kindHere_66 : decode cX3_kindHere 66 = .ok (.ldc2_w 267, 3) := dk_20 1 11 (dk_at dksX3_kindHere_2 20 rfl rfl)
theorem dX3_kindHere_69 : decode cX3_kindHere 69 = .ok (.lcmp, 1) := dk_148 (dk_at dksX3_kindHere_2 23 rfl rfl)
theorem dX3_kindHere_70 : decode cX3_kindHere 70 = .ok (.ifCond .ne 7, 3) := dk_154 0 7 (dk_at dksX3_kindHere_3 0 rfl rfl)
theorem dX3_kindHere_73 : decode cX3_kindHere 73 = .ok (.iconst 5, 1) := dk_8 (dk_at dksX3_kindHere_3 3 rfl rfl)
theorem dX3_kindHere_74 : decode cX3_kindHere 74 = .ok (.goto 4, 3) := dk_167 0 4 (dk_at dksX3_kindHere_3 4 rfl rfl)
theorem dX3_kindHere_77 : decode cX3_kindHere 77 = .ok (.iconst (-1), 1) := dk_2 (dk_at dksX3_kindHere_3 7 rfl rfl)
theorem dX3_kindHere_78 : decode cX3_kindHere 78 = .ok (.ireturn, 1) := dk_172 (dk_at dksX3_kindHere_3 8 rfl rfl)
abbrev cX3_word : ByteArray := prog_17_method_82_code
def yX3_word : MethodName := ⟨RX3, "word", "()J"⟩
def dkwX3_word_3 : List UInt8 := [9, 167, 0, 4, 31, 173]
abbrev dktX3_word_3 : List UInt8 := dkwX3_word_3 ++ []
def dkwX3_word_2 : List UInt8 := [167, 255, 216, 42, 180, 0, 235, 154, 0, 17, 42, 42, 180, 0, 223, 182, 0, 226, 184, 0, 229, 154, 0, 7]
abbrev dktX3_word_2 : List UInt8 := dkwX3_word_2 ++ dktX3_word_3
def dkwX3_word_1 : List UInt8 := [167, 0, 19, 20, 0, 244, 31, 105, 42, 180, 0, 25, 29, 46, 16, 96, 100, 133, 97, 64, 132, 3, 1]
abbrev dktX3_word_1 : List UInt8 := dkwX3_word_1 ++ dktX3_word_2
def dkwX3_word_0 : List UInt8 := [9, 64, 42, 180, 0, 223, 62, 29, 42, 180, 0, 220, 162, 0, 38, 31, 20, 0, 242, 148, 158, 0, 7, 31]
abbrev dktX3_word_0 : List UInt8 := dkwX3_word_0 ++ dktX3_word_1
theorem dksX3_word_0 : cX3_word.data.toList.drop 0 = dktX3_word_0 := by decide +kernel
theorem dksX3_word_1 : cX3_word.data.toList.drop 24 = dktX3_word_1 := dk_seg dksX3_word_0 24 rfl rfl
theorem dksX3_word_2 : cX3_word.data.toList.drop 47 = dktX3_word_2 := dk_seg dksX3_word_1 23 rfl rfl
theorem dksX3_word_3 : cX3_word.data.toList.drop 71 = dktX3_word_3 := dk_seg dksX3_word_2 24 rfl rfl
theorem dX3_word_0 : decode cX3_word 0 = .ok (.lconst 0, 1) := dk_9 (dk_at dksX3_word_0 0 rfl rfl)
theorem dX3_word_1 : decode cX3_word 1 = .ok (.lstore_n 1, 1) := dk_64 (dk_at dksX3_word_0 1 rfl rfl)
theorem dX3_word_2 : decode cX3_word 2 = .ok (.aload_n 0, 1) := dk_42 (dk_at dksX3_word_0 2 rfl rfl)
theorem dX3_word_3 : decode cX3_word 3 = .ok (.getfield 223, 3) := dk_180 0 223 (dk_at dksX3_word_0 3 rfl rfl)
theorem dX3_word_6 : decode cX3_word 6 = .ok (.istore_n 3, 1) := dk_62 (dk_at dksX3_word_0 6 rfl rfl)
theorem dX3_word_7 : decode cX3_word 7 = .ok (.iload_n 3, 1) := dk_29 (dk_at dksX3_word_0 7 rfl rfl)
theorem dX3_word_8 : decode cX3_word 8 = .ok (.aload_n 0, 1) := dk_42 (dk_at dksX3_word_0 8 rfl rfl)
theorem dX3_word_9 : decode cX3_word 9 = .ok (.getfield 220, 3) := dk_180 0 220 (dk_at dksX3_word_0 9 rfl rfl)
theorem dX3_word_12 : decode cX3_word 12 = .ok (.if_icmp .ge 38, 3) := dk_162 0 38 (dk_at dksX3_word_0 12 rfl rfl)
theorem dX3_word_15 : decode cX3_word 15 = .ok (.lload_n 1, 1) := dk_31 (dk_at dksX3_word_0 15 rfl rfl)
theorem dX3_word_16 : decode cX3_word 16 = .ok (.ldc2_w 242, 3) := dk_20 0 242 (dk_at dksX3_word_0 16 rfl rfl)
theorem dX3_word_19 : decode cX3_word 19 = .ok (.lcmp, 1) := dk_148 (dk_at dksX3_word_0 19 rfl rfl)
theorem dX3_word_20 : decode cX3_word 20 = .ok (.ifCond .le 7, 3) := dk_158 0 7 (dk_at dksX3_word_0 20 rfl rfl)
theorem dX3_word_23 : decode cX3_word 23 = .ok (.lload_n 1, 1) := dk_31 (dk_at dksX3_word_0 23 rfl rfl)
theorem dX3_word_24 : decode cX3_word 24 = .ok (.goto 19, 3) := dk_167 0 19 (dk_at dksX3_word_1 0 rfl rfl)
theorem dX3_word_27 : decode cX3_word 27 = .ok (.ldc2_w 244, 3) := dk_20 0 244 (dk_at dksX3_word_1 3 rfl rfl)
theorem dX3_word_30 : decode cX3_word 30 = .ok (.lload_n 1, 1) := dk_31 (dk_at dksX3_word_1 6 rfl rfl)
theorem dX3_word_31 : decode cX3_word 31 = .ok (.lmul, 1) := dk_105 (dk_at dksX3_word_1 7 rfl rfl)
theorem dX3_word_32 : decode cX3_word 32 = .ok (.aload_n 0, 1) := dk_42 (dk_at dksX3_word_1 8 rfl rfl)
theorem dX3_word_33 : decode cX3_word 33 = .ok (.getfield 25, 3) := dk_180 0 25 (dk_at dksX3_word_1 9 rfl rfl)
theorem dX3_word_36 : decode cX3_word 36 = .ok (.iload_n 3, 1) := dk_29 (dk_at dksX3_word_1 12 rfl rfl)
theorem dX3_word_37 : decode cX3_word 37 = .ok (.iaload, 1) := dk_46 (dk_at dksX3_word_1 13 rfl rfl)
theorem dX3_word_38 : decode cX3_word 38 = .ok (.bipush 96, 2) := dk_16 96 (dk_at dksX3_word_1 14 rfl rfl)
theorem dX3_word_40 : decode cX3_word 40 = .ok (.isub, 1) := dk_100 (dk_at dksX3_word_1 16 rfl rfl)
theorem dX3_word_41 : decode cX3_word 41 = .ok (.i2l, 1) := dk_133 (dk_at dksX3_word_1 17 rfl rfl)
theorem dX3_word_42 : decode cX3_word 42 = .ok (.ladd, 1) := dk_97 (dk_at dksX3_word_1 18 rfl rfl)
theorem dX3_word_43 : decode cX3_word 43 = .ok (.lstore_n 1, 1) := dk_64 (dk_at dksX3_word_1 19 rfl rfl)
theorem dX3_word_44 : decode cX3_word 44 = .ok (.iinc 3 1, 3) := dk_132 3 1 (dk_at dksX3_word_1 20 rfl rfl)
theorem dX3_word_47 : decode cX3_word 47 = .ok (.goto (-40), 3) := dk_167 255 216 (dk_at dksX3_word_2 0 rfl rfl)
theorem dX3_word_50 : decode cX3_word 50 = .ok (.aload_n 0, 1) := dk_42 (dk_at dksX3_word_2 3 rfl rfl)
theorem dX3_word_51 : decode cX3_word 51 = .ok (.getfield 235, 3) := dk_180 0 235 (dk_at dksX3_word_2 4 rfl rfl)
theorem dX3_word_54 : decode cX3_word 54 = .ok (.ifCond .ne 17, 3) := dk_154 0 17 (dk_at dksX3_word_2 7 rfl rfl)
theorem dX3_word_57 : decode cX3_word 57 = .ok (.aload_n 0, 1) := dk_42 (dk_at dksX3_word_2 10 rfl rfl)
theorem dX3_word_58 : decode cX3_word 58 = .ok (.aload_n 0, 1) := dk_42 (dk_at dksX3_word_2 11 rfl rfl)
theorem dX3_word_59 : decode cX3_word 59 = .ok (.getfield 223, 3) := dk_180 0 223 (dk_at dksX3_word_2 12 rfl rfl)
theorem dX3_word_62 : decode cX3_word 62 = .ok (.invokevirtual 226, 3) := dk_182 0 226 (dk_at dksX3_word_2 15 rfl rfl)
theorem dX3_word_65 : decode cX3_word 65 = .ok (.invokestatic 229, 3) := dk_184 0 229 (dk_at dksX3_word_2 18 rfl rfl)
theorem dX3_word_68 : decode cX3_word 68 = .ok (.ifCond .ne 7, 3) := dk_154 0 7 (dk_at dksX3_word_2 21 rfl rfl)
theorem dX3_word_71 : decode cX3_word 71 = .ok (.lconst 0, 1) := dk_9 (dk_at dksX3_word_3 0 rfl rfl)
theorem dX3_word_72 : decode cX3_word 72 = .ok (.goto 4, 3) := dk_167 0 4 (dk_at dksX3_word_3 1 rfl rfl)
theorem dX3_word_75 : decode cX3_word 75 = .ok (.lload_n 1, 1) := dk_31 (dk_at dksX3_word_3 4 rfl rfl)
theorem dX3_word_76 : decode cX3_word 76 = .ok (.lreturn, 1) := dk_173 (dk_at dksX3_word_3 5 rfl rfl)
abbrev cX3_rumourItem : ByteArray := prog_17_method_87_code
def yX3_rumourItem : MethodName := ⟨RX3, "rumourItem", "(I)V"⟩
def dkwX3_rumourItem_6 : List UInt8 := [153, 0, 7, 2, 167, 0, 4, 29, 79, 177]
abbrev dktX3_rumourItem_6 : List UInt8 := dkwX3_rumourItem_6 ++ []
def dkwX3_rumourItem_5 : List UInt8 := [153, 0, 7, 4, 167, 0, 4, 3, 182, 0, 249, 42, 180, 0, 7, 28, 7, 184, 0, 56, 42, 180, 0, 235]
abbrev dktX3_rumourItem_5 : List UInt8 := dkwX3_rumourItem_5 ++ dktX3_rumourItem_6
def dkwX3_rumourItem_4 : List UInt8 := [42, 4, 182, 0, 249, 42, 182, 1, 26, 62, 42, 29, 184, 0, 67, 153, 0, 15, 42, 29, 182, 0, 125]
abbrev dktX3_rumourItem_4 : List UInt8 := dkwX3_rumourItem_4 ++ dktX3_rumourItem_5
def dkwX3_rumourItem_3 : List UInt8 := [20, 1, 18, 28, 5, 184, 0, 56, 16, 99, 182, 1, 20, 42, 182, 0, 253, 20, 1, 24, 148, 154, 0, 59]
abbrev dktX3_rumourItem_3 : List UInt8 := dkwX3_rumourItem_3 ++ dktX3_rumourItem_4
def dkwX3_rumourItem_2 : List UInt8 := [182, 1, 13, 42, 180, 0, 235, 153, 0, 4, 177, 42, 27, 42, 180, 0, 246, 182, 0, 103, 61, 42]
abbrev dktX3_rumourItem_2 : List UInt8 := dkwX3_rumourItem_2 ++ dktX3_rumourItem_3
def dkwX3_rumourItem_1 : List UInt8 := [182, 0, 253, 20, 1, 16, 148, 154, 0, 7, 4, 167, 0, 4, 3, 182, 0, 249, 42, 3, 16, 15]
abbrev dktX3_rumourItem_1 : List UInt8 := dkwX3_rumourItem_1 ++ dktX3_rumourItem_2
def dkwX3_rumourItem_0 : List UInt8 := [42, 42, 180, 0, 7, 3, 46, 16, 10, 162, 0, 7, 4, 167, 0, 4, 3, 182, 0, 249, 42, 42]
abbrev dktX3_rumourItem_0 : List UInt8 := dkwX3_rumourItem_0 ++ dktX3_rumourItem_1
theorem dksX3_rumourItem_0 : cX3_rumourItem.data.toList.drop 0 = dktX3_rumourItem_0 := by decide +kernel
theorem dksX3_rumourItem_1 : cX3_rumourItem.data.toList.drop 22 = dktX3_rumourItem_1 := dk_seg dksX3_rumourItem_0 22 rfl rfl
theorem dksX3_rumourItem_2 : cX3_rumourItem.data.toList.drop 44 = dktX3_rumourItem_2 := dk_seg dksX3_rumourItem_1 22 rfl rfl
theorem dksX3_rumourItem_3 : cX3_rumourItem.data.toList.drop 66 = dktX3_rumourItem_3 := dk_seg dksX3_rumourItem_2 22 rfl rfl
theorem dksX3_rumourItem_4 : cX3_rumourItem.data.toList.drop 90 = dktX3_rumourItem_4 := dk_seg dksX3_rumourItem_3 24 rfl rfl
theorem dksX3_rumourItem_5 : cX3_rumourItem.data.toList.drop 113 = dktX3_rumourItem_5 := dk_seg dksX3_rumourItem_4 23 rfl rfl
theorem dksX3_rumourItem_6 : cX3_rumourItem.data.toList.drop 137 = dktX3_rumourItem_6 := dk_seg dksX3_rumourItem_5 24 rfl rfl
theorem dX3_rumourItem_0 : decode cX3_rumourItem 0 = .ok (.aload_n 0, 1) := dk_42 (dk_at dksX3_rumourItem_0 0 rfl rfl)
theorem dX3_rumourItem_1 : decode cX3_rumourItem 1 = .ok (.aload_n 0, 1) := dk_42 (dk_at dksX3_rumourItem_0 1 rfl rfl)
theorem dX3_rumourItem_2 : decode cX3_rumourItem 2 = .ok (.getfield 7, 3) := dk_180 0 7 (dk_at dksX3_rumourItem_0 2 rfl rfl)
theorem dX3_rumourItem_5 : decode cX3_rumourItem 5 = .ok (.iconst 0, 1) := dk_3 (dk_at dksX3_rumourItem_0 5 rfl rfl)
theorem dX3_rumourItem_6 : decode cX3_rumourItem 6 = .ok (.iaload, 1) := dk_46 (dk_at dksX3_rumourItem_0 6 rfl rfl)
theorem dX3_rumourItem_7 : decode cX3_rumourItem 7 = .ok (.bipush 10, 2) := dk_16 10 (dk_at dksX3_rumourItem_0 7 rfl rfl)
theorem dX3_rumourItem_9 : decode cX3_rumourItem 9 = .ok (.if_icmp .ge 7, 3) := dk_162 0 7 (dk_at dksX3_rumourItem_0 9 rfl rfl)
theorem dX3_rumourItem_12 : decode cX3_rumourItem 12 = .ok (.iconst 1, 1) := dk_4 (dk_at dksX3_rumourItem_0 12 rfl rfl)
theorem dX3_rumourItem_13 : decode cX3_rumourItem 13 = .ok (.goto 4, 3) := dk_167 0 4 (dk_at dksX3_rumourItem_0 13 rfl rfl)
theorem dX3_rumourItem_16 : decode cX3_rumourItem 16 = .ok (.iconst 0, 1) := dk_3 (dk_at dksX3_rumourItem_0 16 rfl rfl)
theorem dX3_rumourItem_17 : decode cX3_rumourItem 17 = .ok (.invokevirtual 249, 3) := dk_182 0 249 (dk_at dksX3_rumourItem_0 17 rfl rfl)
theorem dX3_rumourItem_20 : decode cX3_rumourItem 20 = .ok (.aload_n 0, 1) := dk_42 (dk_at dksX3_rumourItem_0 20 rfl rfl)
theorem dX3_rumourItem_21 : decode cX3_rumourItem 21 = .ok (.aload_n 0, 1) := dk_42 (dk_at dksX3_rumourItem_0 21 rfl rfl)
theorem dX3_rumourItem_22 : decode cX3_rumourItem 22 = .ok (.invokevirtual 253, 3) := dk_182 0 253 (dk_at dksX3_rumourItem_1 0 rfl rfl)
theorem dX3_rumourItem_25 : decode cX3_rumourItem 25 = .ok (.ldc2_w 272, 3) := dk_20 1 16 (dk_at dksX3_rumourItem_1 3 rfl rfl)
theorem dX3_rumourItem_28 : decode cX3_rumourItem 28 = .ok (.lcmp, 1) := dk_148 (dk_at dksX3_rumourItem_1 6 rfl rfl)
theorem dX3_rumourItem_29 : decode cX3_rumourItem 29 = .ok (.ifCond .ne 7, 3) := dk_154 0 7 (dk_at dksX3_rumourItem_1 7 rfl rfl)
theorem dX3_rumourItem_32 : decode cX3_rumourItem 32 = .ok (.iconst 1, 1) := dk_4 (dk_at dksX3_rumourItem_1 10 rfl rfl)
theorem dX3_rumourItem_33 : decode cX3_rumourItem 33 = .ok (.goto 4, 3) := dk_167 0 4 (dk_at dksX3_rumourItem_1 11 rfl rfl)
theorem dX3_rumourItem_36 : decode cX3_rumourItem 36 = .ok (.iconst 0, 1) := dk_3 (dk_at dksX3_rumourItem_1 14 rfl rfl)
theorem dX3_rumourItem_37 : decode cX3_rumourItem 37 = .ok (.invokevirtual 249, 3) := dk_182 0 249 (dk_at dksX3_rumourItem_1 15 rfl rfl)
theorem dX3_rumourItem_40 : decode cX3_rumourItem 40 = .ok (.aload_n 0, 1) := dk_42 (dk_at dksX3_rumourItem_1 18 rfl rfl)
theorem dX3_rumourItem_41 : decode cX3_rumourItem 41 = .ok (.iconst 0, 1) := dk_3 (dk_at dksX3_rumourItem_1 19 rfl rfl)
theorem dX3_rumourItem_42 : decode cX3_rumourItem 42 = .ok (.bipush 15, 2) := dk_16 15 (dk_at dksX3_rumourItem_1 20 rfl rfl)
theorem dX3_rumourItem_44 : decode cX3_rumourItem 44 = .ok (.invokevirtual 269, 3) := dk_182 1 13 (dk_at dksX3_rumourItem_2 0 rfl rfl)
theorem dX3_rumourItem_47 : decode cX3_rumourItem 47 = .ok (.aload_n 0, 1) := dk_42 (dk_at dksX3_rumourItem_2 3 rfl rfl)
theorem dX3_rumourItem_48 : decode cX3_rumourItem 48 = .ok (.getfield 235, 3) := dk_180 0 235 (dk_at dksX3_rumourItem_2 4 rfl rfl)
theorem dX3_rumourItem_51 : decode cX3_rumourItem 51 = .ok (.ifCond .eq 4, 3) := dk_153 0 4 (dk_at dksX3_rumourItem_2 7 rfl rfl)
theorem dX3_rumourItem_54 : decode cX3_rumourItem 54 = .ok (.return_, 1) := dk_177 (dk_at dksX3_rumourItem_2 10 rfl rfl)
theorem dX3_rumourItem_55 : decode cX3_rumourItem 55 = .ok (.aload_n 0, 1) := dk_42 (dk_at dksX3_rumourItem_2 11 rfl rfl)
theorem dX3_rumourItem_56 : decode cX3_rumourItem 56 = .ok (.iload_n 1, 1) := dk_27 (dk_at dksX3_rumourItem_2 12 rfl rfl)
theorem dX3_rumourItem_57 : decode cX3_rumourItem 57 = .ok (.aload_n 0, 1) := dk_42 (dk_at dksX3_rumourItem_2 13 rfl rfl)
theorem dX3_rumourItem_58 : decode cX3_rumourItem 58 = .ok (.getfield 246, 3) := dk_180 0 246 (dk_at dksX3_rumourItem_2 14 rfl rfl)
theorem dX3_rumourItem_61 : decode cX3_rumourItem 61 = .ok (.invokevirtual 103, 3) := dk_182 0 103 (dk_at dksX3_rumourItem_2 17 rfl rfl)
theorem dX3_rumourItem_64 : decode cX3_rumourItem 64 = .ok (.istore_n 2, 1) := dk_61 (dk_at dksX3_rumourItem_2 20 rfl rfl)
theorem dX3_rumourItem_65 : decode cX3_rumourItem 65 = .ok (.aload_n 0, 1) := dk_42 (dk_at dksX3_rumourItem_2 21 rfl rfl)
theorem dX3_rumourItem_66 : decode cX3_rumourItem 66 = .ok (.ldc2_w 274, 3) := dk_20 1 18 (dk_at dksX3_rumourItem_3 0 rfl rfl)
theorem dX3_rumourItem_69 : decode cX3_rumourItem 69 = .ok (.iload_n 2, 1) := dk_28 (dk_at dksX3_rumourItem_3 3 rfl rfl)
theorem dX3_rumourItem_70 : decode cX3_rumourItem 70 = .ok (.iconst 2, 1) := dk_5 (dk_at dksX3_rumourItem_3 4 rfl rfl)
theorem dX3_rumourItem_71 : decode cX3_rumourItem 71 = .ok (.invokestatic 56, 3) := dk_184 0 56 (dk_at dksX3_rumourItem_3 5 rfl rfl)
theorem dX3_rumourItem_74 : decode cX3_rumourItem 74 = .ok (.bipush 99, 2) := dk_16 99 (dk_at dksX3_rumourItem_3 8 rfl rfl)
theorem dX3_rumourItem_76 : decode cX3_rumourItem 76 = .ok (.invokevirtual 276, 3) := dk_182 1 20 (dk_at dksX3_rumourItem_3 10 rfl rfl)
theorem dX3_rumourItem_79 : decode cX3_rumourItem 79 = .ok (.aload_n 0, 1) := dk_42 (dk_at dksX3_rumourItem_3 13 rfl rfl)
theorem dX3_rumourItem_80 : decode cX3_rumourItem 80 = .ok (.invokevirtual 253, 3) := dk_182 0 253 (dk_at dksX3_rumourItem_3 14 rfl rfl)
theorem dX3_rumourItem_83 : decode cX3_rumourItem 83 = .ok (.ldc2_w 280, 3) := dk_20 1 24 (dk_at dksX3_rumourItem_3 17 rfl rfl)
theorem dX3_rumourItem_86 : decode cX3_rumourItem 86 = .ok (.lcmp, 1) := dk_148 (dk_at dksX3_rumourItem_3 20 rfl rfl)
theorem dX3_rumourItem_87 : decode cX3_rumourItem 87 = .ok (.ifCond .ne 59, 3) := dk_154 0 59 (dk_at dksX3_rumourItem_3 21 rfl rfl)
theorem dX3_rumourItem_90 : decode cX3_rumourItem 90 = .ok (.aload_n 0, 1) := dk_42 (dk_at dksX3_rumourItem_4 0 rfl rfl)
theorem dX3_rumourItem_91 : decode cX3_rumourItem 91 = .ok (.iconst 1, 1) := dk_4 (dk_at dksX3_rumourItem_4 1 rfl rfl)
theorem dX3_rumourItem_92 : decode cX3_rumourItem 92 = .ok (.invokevirtual 249, 3) := dk_182 0 249 (dk_at dksX3_rumourItem_4 2 rfl rfl)
theorem dX3_rumourItem_95 : decode cX3_rumourItem 95 = .ok (.aload_n 0, 1) := dk_42 (dk_at dksX3_rumourItem_4 5 rfl rfl)
theorem dX3_rumourItem_96 : decode cX3_rumourItem 96 = .ok (.invokevirtual 282, 3) := dk_182 1 26 (dk_at dksX3_rumourItem_4 6 rfl rfl)
theorem dX3_rumourItem_99 : decode cX3_rumourItem 99 = .ok (.istore_n 3, 1) := dk_62 (dk_at dksX3_rumourItem_4 9 rfl rfl)
theorem dX3_rumourItem_100 : decode cX3_rumourItem 100 = .ok (.aload_n 0, 1) := dk_42 (dk_at dksX3_rumourItem_4 10 rfl rfl)
theorem dX3_rumourItem_101 : decode cX3_rumourItem 101 = .ok (.iload_n 3, 1) := dk_29 (dk_at dksX3_rumourItem_4 11 rfl rfl)
theorem dX3_rumourItem_102 : decode cX3_rumourItem 102 = .ok (.invokestatic 67, 3) := dk_184 0 67 (dk_at dksX3_rumourItem_4 12 rfl rfl)
theorem dX3_rumourItem_105 : decode cX3_rumourItem 105 = .ok (.ifCond .eq 15, 3) := dk_153 0 15 (dk_at dksX3_rumourItem_4 15 rfl rfl)
theorem dX3_rumourItem_108 : decode cX3_rumourItem 108 = .ok (.aload_n 0, 1) := dk_42 (dk_at dksX3_rumourItem_4 18 rfl rfl)
theorem dX3_rumourItem_109 : decode cX3_rumourItem 109 = .ok (.iload_n 3, 1) := dk_29 (dk_at dksX3_rumourItem_4 19 rfl rfl)
theorem dX3_rumourItem_110 : decode cX3_rumourItem 110 = .ok (.invokevirtual 125, 3) := dk_182 0 125 (dk_at dksX3_rumourItem_4 20 rfl rfl)
theorem dX3_rumourItem_113 : decode cX3_rumourItem 113 = .ok (.ifCond .eq 7, 3) := dk_153 0 7 (dk_at dksX3_rumourItem_5 0 rfl rfl)
theorem dX3_rumourItem_116 : decode cX3_rumourItem 116 = .ok (.iconst 1, 1) := dk_4 (dk_at dksX3_rumourItem_5 3 rfl rfl)
theorem dX3_rumourItem_117 : decode cX3_rumourItem 117 = .ok (.goto 4, 3) := dk_167 0 4 (dk_at dksX3_rumourItem_5 4 rfl rfl)
theorem dX3_rumourItem_120 : decode cX3_rumourItem 120 = .ok (.iconst 0, 1) := dk_3 (dk_at dksX3_rumourItem_5 7 rfl rfl)
theorem dX3_rumourItem_121 : decode cX3_rumourItem 121 = .ok (.invokevirtual 249, 3) := dk_182 0 249 (dk_at dksX3_rumourItem_5 8 rfl rfl)
theorem dX3_rumourItem_124 : decode cX3_rumourItem 124 = .ok (.aload_n 0, 1) := dk_42 (dk_at dksX3_rumourItem_5 11 rfl rfl)
theorem dX3_rumourItem_125 : decode cX3_rumourItem 125 = .ok (.getfield 7, 3) := dk_180 0 7 (dk_at dksX3_rumourItem_5 12 rfl rfl)
theorem dX3_rumourItem_128 : decode cX3_rumourItem 128 = .ok (.iload_n 2, 1) := dk_28 (dk_at dksX3_rumourItem_5 15 rfl rfl)
theorem dX3_rumourItem_129 : decode cX3_rumourItem 129 = .ok (.iconst 4, 1) := dk_7 (dk_at dksX3_rumourItem_5 16 rfl rfl)
theorem dX3_rumourItem_130 : decode cX3_rumourItem 130 = .ok (.invokestatic 56, 3) := dk_184 0 56 (dk_at dksX3_rumourItem_5 17 rfl rfl)
theorem dX3_rumourItem_133 : decode cX3_rumourItem 133 = .ok (.aload_n 0, 1) := dk_42 (dk_at dksX3_rumourItem_5 20 rfl rfl)
theorem dX3_rumourItem_134 : decode cX3_rumourItem 134 = .ok (.getfield 235, 3) := dk_180 0 235 (dk_at dksX3_rumourItem_5 21 rfl rfl)
theorem dX3_rumourItem_137 : decode cX3_rumourItem 137 = .ok (.ifCond .eq 7, 3) := dk_153 0 7 (dk_at dksX3_rumourItem_6 0 rfl rfl)
theorem dX3_rumourItem_140 : decode cX3_rumourItem 140 = .ok (.iconst (-1), 1) := dk_2 (dk_at dksX3_rumourItem_6 3 rfl rfl)
theorem dX3_rumourItem_141 : decode cX3_rumourItem 141 = .ok (.goto 4, 3) := dk_167 0 4 (dk_at dksX3_rumourItem_6 4 rfl rfl)
theorem dX3_rumourItem_144 : decode cX3_rumourItem 144 = .ok (.iload_n 3, 1) := dk_29 (dk_at dksX3_rumourItem_6 7 rfl rfl)
theorem dX3_rumourItem_145 : decode cX3_rumourItem 145 = .ok (.iastore, 1) := dk_79 (dk_at dksX3_rumourItem_6 8 rfl rfl)
theorem dX3_rumourItem_146 : decode cX3_rumourItem 146 = .ok (.return_, 1) := dk_177 (dk_at dksX3_rumourItem_6 9 rfl rfl)
abbrev cX3_must : ByteArray := prog_17_method_81_code
def yX3_must : MethodName := ⟨RX3, "must", "(Z)V"⟩
def dkwX3_must_1 : List UInt8 := [154, 0, 7, 42, 182, 0, 239, 177]
abbrev dktX3_must_1 : List UInt8 := dkwX3_must_1 ++ []
def dkwX3_must_0 : List UInt8 := [42, 42, 180, 0, 235, 154, 0, 7, 27, 154, 0, 7, 4, 167, 0, 4, 3, 181, 0, 235, 42, 180, 0, 235]
abbrev dktX3_must_0 : List UInt8 := dkwX3_must_0 ++ dktX3_must_1
theorem dksX3_must_0 : cX3_must.data.toList.drop 0 = dktX3_must_0 := by decide +kernel
theorem dksX3_must_1 : cX3_must.data.toList.drop 24 = dktX3_must_1 := dk_seg dksX3_must_0 24 rfl rfl
theorem dX3_must_0 : decode cX3_must 0 = .ok (.aload_n 0, 1) := dk_42 (dk_at dksX3_must_0 0 rfl rfl)
theorem dX3_must_1 : decode cX3_must 1 = .ok (.aload_n 0, 1) := dk_42 (dk_at dksX3_must_0 1 rfl rfl)
theorem dX3_must_2 : decode cX3_must 2 = .ok (.getfield 235, 3) := dk_180 0 235 (dk_at dksX3_must_0 2 rfl rfl)
theorem dX3_must_5 : decode cX3_must 5 = .ok (.ifCond .ne 7, 3) := dk_154 0 7 (dk_at dksX3_must_0 5 rfl rfl)
theorem dX3_must_8 : decode cX3_must 8 = .ok (.iload_n 1, 1) := dk_27 (dk_at dksX3_must_0 8 rfl rfl)
theorem dX3_must_9 : decode cX3_must 9 = .ok (.ifCond .ne 7, 3) := dk_154 0 7 (dk_at dksX3_must_0 9 rfl rfl)
theorem dX3_must_12 : decode cX3_must 12 = .ok (.iconst 1, 1) := dk_4 (dk_at dksX3_must_0 12 rfl rfl)
theorem dX3_must_13 : decode cX3_must 13 = .ok (.goto 4, 3) := dk_167 0 4 (dk_at dksX3_must_0 13 rfl rfl)
theorem dX3_must_16 : decode cX3_must 16 = .ok (.iconst 0, 1) := dk_3 (dk_at dksX3_must_0 16 rfl rfl)
theorem dX3_must_17 : decode cX3_must 17 = .ok (.putfield 235, 3) := dk_181 0 235 (dk_at dksX3_must_0 17 rfl rfl)
theorem dX3_must_20 : decode cX3_must 20 = .ok (.aload_n 0, 1) := dk_42 (dk_at dksX3_must_0 20 rfl rfl)
theorem dX3_must_21 : decode cX3_must 21 = .ok (.getfield 235, 3) := dk_180 0 235 (dk_at dksX3_must_0 21 rfl rfl)
theorem dX3_must_24 : decode cX3_must 24 = .ok (.ifCond .ne 7, 3) := dk_154 0 7 (dk_at dksX3_must_1 0 rfl rfl)
theorem dX3_must_27 : decode cX3_must 27 = .ok (.aload_n 0, 1) := dk_42 (dk_at dksX3_must_1 3 rfl rfl)
theorem dX3_must_28 : decode cX3_must 28 = .ok (.invokevirtual 239, 3) := dk_182 0 239 (dk_at dksX3_must_1 4 rfl rfl)
theorem dX3_must_31 : decode cX3_must 31 = .ok (.return_, 1) := dk_177 (dk_at dksX3_must_1 7 rfl rfl)
abbrev cX3_number : ByteArray := prog_17_method_83_code
def yX3_number : MethodName := ⟨RX3, "number", "(II)V"⟩
def dkwX3_number_4 : List UInt8 := [28, 133, 184, 0, 48, 153, 0, 7, 4, 167, 0, 4, 3, 182, 0, 249, 177]
abbrev dktX3_number_4 : List UInt8 := dkwX3_number_4 ++ []
def dkwX3_number_3 : List UInt8 := [54, 4, 132, 5, 1, 167, 255, 209, 42, 21, 4, 181, 0, 246, 42, 29, 153, 0, 20, 21, 4, 133, 27, 133]
abbrev dktX3_number_3 : List UInt8 := dkwX3_number_3 ++ dktX3_number_4
def dkwX3_number_2 : List UInt8 := [164, 0, 8, 21, 4, 167, 0, 19, 16, 10, 21, 4, 104, 42, 180, 0, 25, 21, 5, 46, 96, 16, 48, 100]
abbrev dktX3_number_2 : List UInt8 := dkwX3_number_2 ++ dktX3_number_3
def dkwX3_number_1 : List UInt8 := [180, 0, 223, 54, 5, 21, 5, 42, 180, 0, 220, 162, 0, 44, 29, 153, 0, 40, 21, 4, 17, 3, 231]
abbrev dktX3_number_1 : List UInt8 := dkwX3_number_1 ++ dktX3_number_2
def dkwX3_number_0 : List UInt8 := [42, 180, 0, 235, 153, 0, 4, 177, 42, 42, 180, 0, 223, 182, 0, 226, 184, 0, 232, 62, 3, 54, 4, 42]
abbrev dktX3_number_0 : List UInt8 := dkwX3_number_0 ++ dktX3_number_1
theorem dksX3_number_0 : cX3_number.data.toList.drop 0 = dktX3_number_0 := by decide +kernel
theorem dksX3_number_1 : cX3_number.data.toList.drop 24 = dktX3_number_1 := dk_seg dksX3_number_0 24 rfl rfl
theorem dksX3_number_2 : cX3_number.data.toList.drop 47 = dktX3_number_2 := dk_seg dksX3_number_1 23 rfl rfl
theorem dksX3_number_3 : cX3_number.data.toList.drop 71 = dktX3_number_3 := dk_seg dksX3_number_2 24 rfl rfl
theorem dksX3_number_4 : cX3_number.data.toList.drop 95 = dktX3_number_4 := dk_seg dksX3_number_3 24 rfl rfl
theorem dX3_number_0 : decode cX3_number 0 = .ok (.aload_n 0, 1) := dk_42 (dk_at dksX3_number_0 0 rfl rfl)
theorem dX3_number_1 : decode cX3_number 1 = .ok (.getfield 235, 3) := dk_180 0 235 (dk_at dksX3_number_0 1 rfl rfl)
theorem dX3_number_4 : decode cX3_number 4 = .ok (.ifCond .eq 4, 3) := dk_153 0 4 (dk_at dksX3_number_0 4 rfl rfl)
theorem dX3_number_7 : decode cX3_number 7 = .ok (.return_, 1) := dk_177 (dk_at dksX3_number_0 7 rfl rfl)
theorem dX3_number_8 : decode cX3_number 8 = .ok (.aload_n 0, 1) := dk_42 (dk_at dksX3_number_0 8 rfl rfl)
theorem dX3_number_9 : decode cX3_number 9 = .ok (.aload_n 0, 1) := dk_42 (dk_at dksX3_number_0 9 rfl rfl)
theorem dX3_number_10 : decode cX3_number 10 = .ok (.getfield 223, 3) := dk_180 0 223 (dk_at dksX3_number_0 10 rfl rfl)
theorem dX3_number_13 : decode cX3_number 13 = .ok (.invokevirtual 226, 3) := dk_182 0 226 (dk_at dksX3_number_0 13 rfl rfl)
theorem dX3_number_16 : decode cX3_number 16 = .ok (.invokestatic 232, 3) := dk_184 0 232 (dk_at dksX3_number_0 16 rfl rfl)
theorem dX3_number_19 : decode cX3_number 19 = .ok (.istore_n 3, 1) := dk_62 (dk_at dksX3_number_0 19 rfl rfl)
theorem dX3_number_20 : decode cX3_number 20 = .ok (.iconst 0, 1) := dk_3 (dk_at dksX3_number_0 20 rfl rfl)
theorem dX3_number_21 : decode cX3_number 21 = .ok (.istore 4, 2) := dk_54 4 (dk_at dksX3_number_0 21 rfl rfl)
theorem dX3_number_23 : decode cX3_number 23 = .ok (.aload_n 0, 1) := dk_42 (dk_at dksX3_number_0 23 rfl rfl)
theorem dX3_number_24 : decode cX3_number 24 = .ok (.getfield 223, 3) := dk_180 0 223 (dk_at dksX3_number_1 0 rfl rfl)
theorem dX3_number_27 : decode cX3_number 27 = .ok (.istore 5, 2) := dk_54 5 (dk_at dksX3_number_1 3 rfl rfl)
theorem dX3_number_29 : decode cX3_number 29 = .ok (.iload 5, 2) := dk_21 5 (dk_at dksX3_number_1 5 rfl rfl)
theorem dX3_number_31 : decode cX3_number 31 = .ok (.aload_n 0, 1) := dk_42 (dk_at dksX3_number_1 7 rfl rfl)
theorem dX3_number_32 : decode cX3_number 32 = .ok (.getfield 220, 3) := dk_180 0 220 (dk_at dksX3_number_1 8 rfl rfl)
theorem dX3_number_35 : decode cX3_number 35 = .ok (.if_icmp .ge 44, 3) := dk_162 0 44 (dk_at dksX3_number_1 11 rfl rfl)
theorem dX3_number_38 : decode cX3_number 38 = .ok (.iload_n 3, 1) := dk_29 (dk_at dksX3_number_1 14 rfl rfl)
theorem dX3_number_39 : decode cX3_number 39 = .ok (.ifCond .eq 40, 3) := dk_153 0 40 (dk_at dksX3_number_1 15 rfl rfl)
theorem dX3_number_42 : decode cX3_number 42 = .ok (.iload 4, 2) := dk_21 4 (dk_at dksX3_number_1 18 rfl rfl)
theorem dX3_number_44 : decode cX3_number 44 = .ok (.sipush 999, 3) := dk_17 3 231 (dk_at dksX3_number_1 20 rfl rfl)
theorem dX3_number_47 : decode cX3_number 47 = .ok (.if_icmp .le 8, 3) := dk_164 0 8 (dk_at dksX3_number_2 0 rfl rfl)
theorem dX3_number_50 : decode cX3_number 50 = .ok (.iload 4, 2) := dk_21 4 (dk_at dksX3_number_2 3 rfl rfl)
theorem dX3_number_52 : decode cX3_number 52 = .ok (.goto 19, 3) := dk_167 0 19 (dk_at dksX3_number_2 5 rfl rfl)
theorem dX3_number_55 : decode cX3_number 55 = .ok (.bipush 10, 2) := dk_16 10 (dk_at dksX3_number_2 8 rfl rfl)
theorem dX3_number_57 : decode cX3_number 57 = .ok (.iload 4, 2) := dk_21 4 (dk_at dksX3_number_2 10 rfl rfl)
theorem dX3_number_59 : decode cX3_number 59 = .ok (.imul, 1) := dk_104 (dk_at dksX3_number_2 12 rfl rfl)
theorem dX3_number_60 : decode cX3_number 60 = .ok (.aload_n 0, 1) := dk_42 (dk_at dksX3_number_2 13 rfl rfl)
theorem dX3_number_61 : decode cX3_number 61 = .ok (.getfield 25, 3) := dk_180 0 25 (dk_at dksX3_number_2 14 rfl rfl)
theorem dX3_number_64 : decode cX3_number 64 = .ok (.iload 5, 2) := dk_21 5 (dk_at dksX3_number_2 17 rfl rfl)
theorem dX3_number_66 : decode cX3_number 66 = .ok (.iaload, 1) := dk_46 (dk_at dksX3_number_2 19 rfl rfl)
theorem dX3_number_67 : decode cX3_number 67 = .ok (.iadd, 1) := dk_96 (dk_at dksX3_number_2 20 rfl rfl)
theorem dX3_number_68 : decode cX3_number 68 = .ok (.bipush 48, 2) := dk_16 48 (dk_at dksX3_number_2 21 rfl rfl)
theorem dX3_number_70 : decode cX3_number 70 = .ok (.isub, 1) := dk_100 (dk_at dksX3_number_2 23 rfl rfl)
theorem dX3_number_71 : decode cX3_number 71 = .ok (.istore 4, 2) := dk_54 4 (dk_at dksX3_number_3 0 rfl rfl)
theorem dX3_number_73 : decode cX3_number 73 = .ok (.iinc 5 1, 3) := dk_132 5 1 (dk_at dksX3_number_3 2 rfl rfl)
theorem dX3_number_76 : decode cX3_number 76 = .ok (.goto (-47), 3) := dk_167 255 209 (dk_at dksX3_number_3 5 rfl rfl)
theorem dX3_number_79 : decode cX3_number 79 = .ok (.aload_n 0, 1) := dk_42 (dk_at dksX3_number_3 8 rfl rfl)
theorem dX3_number_80 : decode cX3_number 80 = .ok (.iload 4, 2) := dk_21 4 (dk_at dksX3_number_3 9 rfl rfl)
theorem dX3_number_82 : decode cX3_number 82 = .ok (.putfield 246, 3) := dk_181 0 246 (dk_at dksX3_number_3 11 rfl rfl)
theorem dX3_number_85 : decode cX3_number 85 = .ok (.aload_n 0, 1) := dk_42 (dk_at dksX3_number_3 14 rfl rfl)
theorem dX3_number_86 : decode cX3_number 86 = .ok (.iload_n 3, 1) := dk_29 (dk_at dksX3_number_3 15 rfl rfl)
theorem dX3_number_87 : decode cX3_number 87 = .ok (.ifCond .eq 20, 3) := dk_153 0 20 (dk_at dksX3_number_3 16 rfl rfl)
theorem dX3_number_90 : decode cX3_number 90 = .ok (.iload 4, 2) := dk_21 4 (dk_at dksX3_number_3 19 rfl rfl)
theorem dX3_number_92 : decode cX3_number 92 = .ok (.i2l, 1) := dk_133 (dk_at dksX3_number_3 21 rfl rfl)
theorem dX3_number_93 : decode cX3_number 93 = .ok (.iload_n 1, 1) := dk_27 (dk_at dksX3_number_3 22 rfl rfl)
theorem dX3_number_94 : decode cX3_number 94 = .ok (.i2l, 1) := dk_133 (dk_at dksX3_number_3 23 rfl rfl)
theorem dX3_number_95 : decode cX3_number 95 = .ok (.iload_n 2, 1) := dk_28 (dk_at dksX3_number_4 0 rfl rfl)
theorem dX3_number_96 : decode cX3_number 96 = .ok (.i2l, 1) := dk_133 (dk_at dksX3_number_4 1 rfl rfl)
theorem dX3_number_97 : decode cX3_number 97 = .ok (.invokestatic 48, 3) := dk_184 0 48 (dk_at dksX3_number_4 2 rfl rfl)
theorem dX3_number_100 : decode cX3_number 100 = .ok (.ifCond .eq 7, 3) := dk_153 0 7 (dk_at dksX3_number_4 5 rfl rfl)
theorem dX3_number_103 : decode cX3_number 103 = .ok (.iconst 1, 1) := dk_4 (dk_at dksX3_number_4 8 rfl rfl)
theorem dX3_number_104 : decode cX3_number 104 = .ok (.goto 4, 3) := dk_167 0 4 (dk_at dksX3_number_4 9 rfl rfl)
theorem dX3_number_107 : decode cX3_number 107 = .ok (.iconst 0, 1) := dk_3 (dk_at dksX3_number_4 12 rfl rfl)
theorem dX3_number_108 : decode cX3_number 108 = .ok (.invokevirtual 249, 3) := dk_182 0 249 (dk_at dksX3_number_4 13 rfl rfl)
theorem dX3_number_111 : decode cX3_number 111 = .ok (.return_, 1) := dk_177 (dk_at dksX3_number_4 16 rfl rfl)
abbrev cX3_partItem : ByteArray := prog_17_method_85_code
def yX3_partItem : MethodName := ⟨RX3, "partItem", "(JII)V"⟩
def dkwX3_partItem_2 : List UInt8 := [79, 177]
abbrev dktX3_partItem_2 : List UInt8 := dkwX3_partItem_2 ++ []
def dkwX3_partItem_1 : List UInt8 := [180, 0, 7, 29, 42, 180, 0, 235, 153, 0, 12, 42, 180, 0, 7, 29, 46, 167, 0, 7, 42, 180, 0, 246]
abbrev dktX3_partItem_1 : List UInt8 := dkwX3_partItem_1 ++ dktX3_partItem_2
def dkwX3_partItem_0 : List UInt8 := [42, 182, 0, 253, 31, 148, 154, 0, 41, 42, 4, 182, 0, 249, 42, 3, 21, 4, 182, 1, 13, 42]
abbrev dktX3_partItem_0 : List UInt8 := dkwX3_partItem_0 ++ dktX3_partItem_1
theorem dksX3_partItem_0 : cX3_partItem.data.toList.drop 0 = dktX3_partItem_0 := by decide +kernel
theorem dksX3_partItem_1 : cX3_partItem.data.toList.drop 22 = dktX3_partItem_1 := dk_seg dksX3_partItem_0 22 rfl rfl
theorem dksX3_partItem_2 : cX3_partItem.data.toList.drop 46 = dktX3_partItem_2 := dk_seg dksX3_partItem_1 24 rfl rfl
theorem dX3_partItem_0 : decode cX3_partItem 0 = .ok (.aload_n 0, 1) := dk_42 (dk_at dksX3_partItem_0 0 rfl rfl)
theorem dX3_partItem_1 : decode cX3_partItem 1 = .ok (.invokevirtual 253, 3) := dk_182 0 253 (dk_at dksX3_partItem_0 1 rfl rfl)
theorem dX3_partItem_4 : decode cX3_partItem 4 = .ok (.lload_n 1, 1) := dk_31 (dk_at dksX3_partItem_0 4 rfl rfl)
theorem dX3_partItem_5 : decode cX3_partItem 5 = .ok (.lcmp, 1) := dk_148 (dk_at dksX3_partItem_0 5 rfl rfl)
theorem dX3_partItem_6 : decode cX3_partItem 6 = .ok (.ifCond .ne 41, 3) := dk_154 0 41 (dk_at dksX3_partItem_0 6 rfl rfl)
theorem dX3_partItem_9 : decode cX3_partItem 9 = .ok (.aload_n 0, 1) := dk_42 (dk_at dksX3_partItem_0 9 rfl rfl)
theorem dX3_partItem_10 : decode cX3_partItem 10 = .ok (.iconst 1, 1) := dk_4 (dk_at dksX3_partItem_0 10 rfl rfl)
theorem dX3_partItem_11 : decode cX3_partItem 11 = .ok (.invokevirtual 249, 3) := dk_182 0 249 (dk_at dksX3_partItem_0 11 rfl rfl)
theorem dX3_partItem_14 : decode cX3_partItem 14 = .ok (.aload_n 0, 1) := dk_42 (dk_at dksX3_partItem_0 14 rfl rfl)
theorem dX3_partItem_15 : decode cX3_partItem 15 = .ok (.iconst 0, 1) := dk_3 (dk_at dksX3_partItem_0 15 rfl rfl)
theorem dX3_partItem_16 : decode cX3_partItem 16 = .ok (.iload 4, 2) := dk_21 4 (dk_at dksX3_partItem_0 16 rfl rfl)
theorem dX3_partItem_18 : decode cX3_partItem 18 = .ok (.invokevirtual 269, 3) := dk_182 1 13 (dk_at dksX3_partItem_0 18 rfl rfl)
theorem dX3_partItem_21 : decode cX3_partItem 21 = .ok (.aload_n 0, 1) := dk_42 (dk_at dksX3_partItem_0 21 rfl rfl)
theorem dX3_partItem_22 : decode cX3_partItem 22 = .ok (.getfield 7, 3) := dk_180 0 7 (dk_at dksX3_partItem_1 0 rfl rfl)
theorem dX3_partItem_25 : decode cX3_partItem 25 = .ok (.iload_n 3, 1) := dk_29 (dk_at dksX3_partItem_1 3 rfl rfl)
theorem dX3_partItem_26 : decode cX3_partItem 26 = .ok (.aload_n 0, 1) := dk_42 (dk_at dksX3_partItem_1 4 rfl rfl)
theorem dX3_partItem_27 : decode cX3_partItem 27 = .ok (.getfield 235, 3) := dk_180 0 235 (dk_at dksX3_partItem_1 5 rfl rfl)
theorem dX3_partItem_30 : decode cX3_partItem 30 = .ok (.ifCond .eq 12, 3) := dk_153 0 12 (dk_at dksX3_partItem_1 8 rfl rfl)
theorem dX3_partItem_33 : decode cX3_partItem 33 = .ok (.aload_n 0, 1) := dk_42 (dk_at dksX3_partItem_1 11 rfl rfl)
theorem dX3_partItem_34 : decode cX3_partItem 34 = .ok (.getfield 7, 3) := dk_180 0 7 (dk_at dksX3_partItem_1 12 rfl rfl)
theorem dX3_partItem_37 : decode cX3_partItem 37 = .ok (.iload_n 3, 1) := dk_29 (dk_at dksX3_partItem_1 15 rfl rfl)
theorem dX3_partItem_38 : decode cX3_partItem 38 = .ok (.iaload, 1) := dk_46 (dk_at dksX3_partItem_1 16 rfl rfl)
theorem dX3_partItem_39 : decode cX3_partItem 39 = .ok (.goto 7, 3) := dk_167 0 7 (dk_at dksX3_partItem_1 17 rfl rfl)
theorem dX3_partItem_42 : decode cX3_partItem 42 = .ok (.aload_n 0, 1) := dk_42 (dk_at dksX3_partItem_1 20 rfl rfl)
theorem dX3_partItem_43 : decode cX3_partItem 43 = .ok (.getfield 246, 3) := dk_180 0 246 (dk_at dksX3_partItem_1 21 rfl rfl)
theorem dX3_partItem_46 : decode cX3_partItem 46 = .ok (.iastore, 1) := dk_79 (dk_at dksX3_partItem_2 0 rfl rfl)
theorem dX3_partItem_47 : decode cX3_partItem 47 = .ok (.return_, 1) := dk_177 (dk_at dksX3_partItem_2 1 rfl rfl)
abbrev cX3_peeked : ByteArray := prog_17_method_86_code
def yX3_peeked : MethodName := ⟨RX3, "peeked", "()I"⟩
def dkwX3_peeked_3 : List UInt8 := [27, 172]
abbrev dktX3_peeked_3 : List UInt8 := dkwX3_peeked_3 ++ []
def dkwX3_peeked_2 : List UInt8 := [167, 0, 17, 16, 10, 27, 104, 42, 180, 0, 25, 28, 46, 96, 16, 48, 100, 60, 132, 2, 1, 167, 255, 218]
abbrev dktX3_peeked_2 : List UInt8 := dkwX3_peeked_2 ++ dktX3_peeked_3
def dkwX3_peeked_1 : List UInt8 := [60, 42, 180, 0, 223, 61, 28, 42, 180, 0, 220, 162, 0, 36, 27, 16, 99, 164, 0, 9, 17, 3, 232]
abbrev dktX3_peeked_1 : List UInt8 := dkwX3_peeked_1 ++ dktX3_peeked_2
def dkwX3_peeked_0 : List UInt8 := [42, 180, 0, 235, 154, 0, 17, 42, 42, 180, 0, 223, 182, 0, 226, 184, 0, 232, 154, 0, 5, 2, 172, 3]
abbrev dktX3_peeked_0 : List UInt8 := dkwX3_peeked_0 ++ dktX3_peeked_1
theorem dksX3_peeked_0 : cX3_peeked.data.toList.drop 0 = dktX3_peeked_0 := by decide +kernel
theorem dksX3_peeked_1 : cX3_peeked.data.toList.drop 24 = dktX3_peeked_1 := dk_seg dksX3_peeked_0 24 rfl rfl
theorem dksX3_peeked_2 : cX3_peeked.data.toList.drop 47 = dktX3_peeked_2 := dk_seg dksX3_peeked_1 23 rfl rfl
theorem dksX3_peeked_3 : cX3_peeked.data.toList.drop 71 = dktX3_peeked_3 := dk_seg dksX3_peeked_2 24 rfl rfl
theorem dX3_peeked_0 : decode cX3_peeked 0 = .ok (.aload_n 0, 1) := dk_42 (dk_at dksX3_peeked_0 0 rfl rfl)
theorem dX3_peeked_1 : decode cX3_peeked 1 = .ok (.getfield 235, 3) := dk_180 0 235 (dk_at dksX3_peeked_0 1 rfl rfl)
theorem dX3_peeked_4 : decode cX3_peeked 4 = .ok (.ifCond .ne 17, 3) := dk_154 0 17 (dk_at dksX3_peeked_0 4 rfl rfl)
theorem dX3_peeked_7 : decode cX3_peeked 7 = .ok (.aload_n 0, 1) := dk_42 (dk_at dksX3_peeked_0 7 rfl rfl)
theorem dX3_peeked_8 : decode cX3_peeked 8 = .ok (.aload_n 0, 1) := dk_42 (dk_at dksX3_peeked_0 8 rfl rfl)
theorem dX3_peeked_9 : decode cX3_peeked 9 = .ok (.getfield 223, 3) := dk_180 0 223 (dk_at dksX3_peeked_0 9 rfl rfl)
theorem dX3_peeked_12 : decode cX3_peeked 12 = .ok (.invokevirtual 226, 3) := dk_182 0 226 (dk_at dksX3_peeked_0 12 rfl rfl)
theorem dX3_peeked_15 : decode cX3_peeked 15 = .ok (.invokestatic 232, 3) := dk_184 0 232 (dk_at dksX3_peeked_0 15 rfl rfl)
theorem dX3_peeked_18 : decode cX3_peeked 18 = .ok (.ifCond .ne 5, 3) := dk_154 0 5 (dk_at dksX3_peeked_0 18 rfl rfl)
theorem dX3_peeked_21 : decode cX3_peeked 21 = .ok (.iconst (-1), 1) := dk_2 (dk_at dksX3_peeked_0 21 rfl rfl)
theorem dX3_peeked_22 : decode cX3_peeked 22 = .ok (.ireturn, 1) := dk_172 (dk_at dksX3_peeked_0 22 rfl rfl)
theorem dX3_peeked_23 : decode cX3_peeked 23 = .ok (.iconst 0, 1) := dk_3 (dk_at dksX3_peeked_0 23 rfl rfl)
theorem dX3_peeked_24 : decode cX3_peeked 24 = .ok (.istore_n 1, 1) := dk_60 (dk_at dksX3_peeked_1 0 rfl rfl)
theorem dX3_peeked_25 : decode cX3_peeked 25 = .ok (.aload_n 0, 1) := dk_42 (dk_at dksX3_peeked_1 1 rfl rfl)
theorem dX3_peeked_26 : decode cX3_peeked 26 = .ok (.getfield 223, 3) := dk_180 0 223 (dk_at dksX3_peeked_1 2 rfl rfl)
theorem dX3_peeked_29 : decode cX3_peeked 29 = .ok (.istore_n 2, 1) := dk_61 (dk_at dksX3_peeked_1 5 rfl rfl)
theorem dX3_peeked_30 : decode cX3_peeked 30 = .ok (.iload_n 2, 1) := dk_28 (dk_at dksX3_peeked_1 6 rfl rfl)
theorem dX3_peeked_31 : decode cX3_peeked 31 = .ok (.aload_n 0, 1) := dk_42 (dk_at dksX3_peeked_1 7 rfl rfl)
theorem dX3_peeked_32 : decode cX3_peeked 32 = .ok (.getfield 220, 3) := dk_180 0 220 (dk_at dksX3_peeked_1 8 rfl rfl)
theorem dX3_peeked_35 : decode cX3_peeked 35 = .ok (.if_icmp .ge 36, 3) := dk_162 0 36 (dk_at dksX3_peeked_1 11 rfl rfl)
theorem dX3_peeked_38 : decode cX3_peeked 38 = .ok (.iload_n 1, 1) := dk_27 (dk_at dksX3_peeked_1 14 rfl rfl)
theorem dX3_peeked_39 : decode cX3_peeked 39 = .ok (.bipush 99, 2) := dk_16 99 (dk_at dksX3_peeked_1 15 rfl rfl)
theorem dX3_peeked_41 : decode cX3_peeked 41 = .ok (.if_icmp .le 9, 3) := dk_164 0 9 (dk_at dksX3_peeked_1 17 rfl rfl)
theorem dX3_peeked_44 : decode cX3_peeked 44 = .ok (.sipush 1000, 3) := dk_17 3 232 (dk_at dksX3_peeked_1 20 rfl rfl)
theorem dX3_peeked_47 : decode cX3_peeked 47 = .ok (.goto 17, 3) := dk_167 0 17 (dk_at dksX3_peeked_2 0 rfl rfl)
theorem dX3_peeked_50 : decode cX3_peeked 50 = .ok (.bipush 10, 2) := dk_16 10 (dk_at dksX3_peeked_2 3 rfl rfl)
theorem dX3_peeked_52 : decode cX3_peeked 52 = .ok (.iload_n 1, 1) := dk_27 (dk_at dksX3_peeked_2 5 rfl rfl)
theorem dX3_peeked_53 : decode cX3_peeked 53 = .ok (.imul, 1) := dk_104 (dk_at dksX3_peeked_2 6 rfl rfl)
theorem dX3_peeked_54 : decode cX3_peeked 54 = .ok (.aload_n 0, 1) := dk_42 (dk_at dksX3_peeked_2 7 rfl rfl)
theorem dX3_peeked_55 : decode cX3_peeked 55 = .ok (.getfield 25, 3) := dk_180 0 25 (dk_at dksX3_peeked_2 8 rfl rfl)
theorem dX3_peeked_58 : decode cX3_peeked 58 = .ok (.iload_n 2, 1) := dk_28 (dk_at dksX3_peeked_2 11 rfl rfl)
theorem dX3_peeked_59 : decode cX3_peeked 59 = .ok (.iaload, 1) := dk_46 (dk_at dksX3_peeked_2 12 rfl rfl)
theorem dX3_peeked_60 : decode cX3_peeked 60 = .ok (.iadd, 1) := dk_96 (dk_at dksX3_peeked_2 13 rfl rfl)
theorem dX3_peeked_61 : decode cX3_peeked 61 = .ok (.bipush 48, 2) := dk_16 48 (dk_at dksX3_peeked_2 14 rfl rfl)
theorem dX3_peeked_63 : decode cX3_peeked 63 = .ok (.isub, 1) := dk_100 (dk_at dksX3_peeked_2 16 rfl rfl)
theorem dX3_peeked_64 : decode cX3_peeked 64 = .ok (.istore_n 1, 1) := dk_60 (dk_at dksX3_peeked_2 17 rfl rfl)
theorem dX3_peeked_65 : decode cX3_peeked 65 = .ok (.iinc 2 1, 3) := dk_132 2 1 (dk_at dksX3_peeked_2 18 rfl rfl)
theorem dX3_peeked_68 : decode cX3_peeked 68 = .ok (.goto (-38), 3) := dk_167 255 218 (dk_at dksX3_peeked_2 21 rfl rfl)
theorem dX3_peeked_71 : decode cX3_peeked 71 = .ok (.iload_n 1, 1) := dk_27 (dk_at dksX3_peeked_3 0 rfl rfl)
theorem dX3_peeked_72 : decode cX3_peeked 72 = .ok (.ireturn, 1) := dk_172 (dk_at dksX3_peeked_3 1 rfl rfl)
abbrev cX3_houseItem : ByteArray := prog_17_method_88_code
def yX3_houseItem : MethodName := ⟨RX3, "houseItem", "()V"⟩
def dkwX3_houseItem_2 : List UInt8 := [184, 0, 41, 17, 3, 231, 182, 1, 20, 42, 20, 1, 33, 27, 5, 184, 0, 41, 16, 9, 182, 1, 20, 177]
abbrev dktX3_houseItem_2 : List UInt8 := dkwX3_houseItem_2 ++ []
def dkwX3_houseItem_1 : List UInt8 := [180, 0, 246, 60, 42, 20, 1, 29, 27, 3, 184, 0, 41, 6, 182, 1, 20, 42, 20, 1, 31, 27, 4]
abbrev dktX3_houseItem_1 : List UInt8 := dkwX3_houseItem_1 ++ dktX3_houseItem_2
def dkwX3_houseItem_0 : List UInt8 := [42, 4, 182, 0, 249, 42, 3, 16, 7, 182, 1, 13, 42, 180, 0, 235, 153, 0, 7, 3, 167, 0, 7, 42]
abbrev dktX3_houseItem_0 : List UInt8 := dkwX3_houseItem_0 ++ dktX3_houseItem_1
theorem dksX3_houseItem_0 : cX3_houseItem.data.toList.drop 0 = dktX3_houseItem_0 := by decide +kernel
theorem dksX3_houseItem_1 : cX3_houseItem.data.toList.drop 24 = dktX3_houseItem_1 := dk_seg dksX3_houseItem_0 24 rfl rfl
theorem dksX3_houseItem_2 : cX3_houseItem.data.toList.drop 47 = dktX3_houseItem_2 := dk_seg dksX3_houseItem_1 23 rfl rfl
theorem dX3_houseItem_0 : decode cX3_houseItem 0 = .ok (.aload_n 0, 1) := dk_42 (dk_at dksX3_houseItem_0 0 rfl rfl)
theorem dX3_houseItem_1 : decode cX3_houseItem 1 = .ok (.iconst 1, 1) := dk_4 (dk_at dksX3_houseItem_0 1 rfl rfl)
theorem dX3_houseItem_2 : decode cX3_houseItem 2 = .ok (.invokevirtual 249, 3) := dk_182 0 249 (dk_at dksX3_houseItem_0 2 rfl rfl)
theorem dX3_houseItem_5 : decode cX3_houseItem 5 = .ok (.aload_n 0, 1) := dk_42 (dk_at dksX3_houseItem_0 5 rfl rfl)
theorem dX3_houseItem_6 : decode cX3_houseItem 6 = .ok (.iconst 0, 1) := dk_3 (dk_at dksX3_houseItem_0 6 rfl rfl)
theorem dX3_houseItem_7 : decode cX3_houseItem 7 = .ok (.bipush 7, 2) := dk_16 7 (dk_at dksX3_houseItem_0 7 rfl rfl)
theorem dX3_houseItem_9 : decode cX3_houseItem 9 = .ok (.invokevirtual 269, 3) := dk_182 1 13 (dk_at dksX3_houseItem_0 9 rfl rfl)
theorem dX3_houseItem_12 : decode cX3_houseItem 12 = .ok (.aload_n 0, 1) := dk_42 (dk_at dksX3_houseItem_0 12 rfl rfl)
theorem dX3_houseItem_13 : decode cX3_houseItem 13 = .ok (.getfield 235, 3) := dk_180 0 235 (dk_at dksX3_houseItem_0 13 rfl rfl)
theorem dX3_houseItem_16 : decode cX3_houseItem 16 = .ok (.ifCond .eq 7, 3) := dk_153 0 7 (dk_at dksX3_houseItem_0 16 rfl rfl)
theorem dX3_houseItem_19 : decode cX3_houseItem 19 = .ok (.iconst 0, 1) := dk_3 (dk_at dksX3_houseItem_0 19 rfl rfl)
theorem dX3_houseItem_20 : decode cX3_houseItem 20 = .ok (.goto 7, 3) := dk_167 0 7 (dk_at dksX3_houseItem_0 20 rfl rfl)
theorem dX3_houseItem_23 : decode cX3_houseItem 23 = .ok (.aload_n 0, 1) := dk_42 (dk_at dksX3_houseItem_0 23 rfl rfl)
theorem dX3_houseItem_24 : decode cX3_houseItem 24 = .ok (.getfield 246, 3) := dk_180 0 246 (dk_at dksX3_houseItem_1 0 rfl rfl)
theorem dX3_houseItem_27 : decode cX3_houseItem 27 = .ok (.istore_n 1, 1) := dk_60 (dk_at dksX3_houseItem_1 3 rfl rfl)
theorem dX3_houseItem_28 : decode cX3_houseItem 28 = .ok (.aload_n 0, 1) := dk_42 (dk_at dksX3_houseItem_1 4 rfl rfl)
theorem dX3_houseItem_29 : decode cX3_houseItem 29 = .ok (.ldc2_w 285, 3) := dk_20 1 29 (dk_at dksX3_houseItem_1 5 rfl rfl)
theorem dX3_houseItem_32 : decode cX3_houseItem 32 = .ok (.iload_n 1, 1) := dk_27 (dk_at dksX3_houseItem_1 8 rfl rfl)
theorem dX3_houseItem_33 : decode cX3_houseItem 33 = .ok (.iconst 0, 1) := dk_3 (dk_at dksX3_houseItem_1 9 rfl rfl)
theorem dX3_houseItem_34 : decode cX3_houseItem 34 = .ok (.invokestatic 41, 3) := dk_184 0 41 (dk_at dksX3_houseItem_1 10 rfl rfl)
theorem dX3_houseItem_37 : decode cX3_houseItem 37 = .ok (.iconst 3, 1) := dk_6 (dk_at dksX3_houseItem_1 13 rfl rfl)
theorem dX3_houseItem_38 : decode cX3_houseItem 38 = .ok (.invokevirtual 276, 3) := dk_182 1 20 (dk_at dksX3_houseItem_1 14 rfl rfl)
theorem dX3_houseItem_41 : decode cX3_houseItem 41 = .ok (.aload_n 0, 1) := dk_42 (dk_at dksX3_houseItem_1 17 rfl rfl)
theorem dX3_houseItem_42 : decode cX3_houseItem 42 = .ok (.ldc2_w 287, 3) := dk_20 1 31 (dk_at dksX3_houseItem_1 18 rfl rfl)
theorem dX3_houseItem_45 : decode cX3_houseItem 45 = .ok (.iload_n 1, 1) := dk_27 (dk_at dksX3_houseItem_1 21 rfl rfl)
theorem dX3_houseItem_46 : decode cX3_houseItem 46 = .ok (.iconst 1, 1) := dk_4 (dk_at dksX3_houseItem_1 22 rfl rfl)
theorem dX3_houseItem_47 : decode cX3_houseItem 47 = .ok (.invokestatic 41, 3) := dk_184 0 41 (dk_at dksX3_houseItem_2 0 rfl rfl)
theorem dX3_houseItem_50 : decode cX3_houseItem 50 = .ok (.sipush 999, 3) := dk_17 3 231 (dk_at dksX3_houseItem_2 3 rfl rfl)
theorem dX3_houseItem_53 : decode cX3_houseItem 53 = .ok (.invokevirtual 276, 3) := dk_182 1 20 (dk_at dksX3_houseItem_2 6 rfl rfl)
theorem dX3_houseItem_56 : decode cX3_houseItem 56 = .ok (.aload_n 0, 1) := dk_42 (dk_at dksX3_houseItem_2 9 rfl rfl)
theorem dX3_houseItem_57 : decode cX3_houseItem 57 = .ok (.ldc2_w 289, 3) := dk_20 1 33 (dk_at dksX3_houseItem_2 10 rfl rfl)
theorem dX3_houseItem_60 : decode cX3_houseItem 60 = .ok (.iload_n 1, 1) := dk_27 (dk_at dksX3_houseItem_2 13 rfl rfl)
theorem dX3_houseItem_61 : decode cX3_houseItem 61 = .ok (.iconst 2, 1) := dk_5 (dk_at dksX3_houseItem_2 14 rfl rfl)
theorem dX3_houseItem_62 : decode cX3_houseItem 62 = .ok (.invokestatic 41, 3) := dk_184 0 41 (dk_at dksX3_houseItem_2 15 rfl rfl)
theorem dX3_houseItem_65 : decode cX3_houseItem 65 = .ok (.bipush 9, 2) := dk_16 9 (dk_at dksX3_houseItem_2 18 rfl rfl)
theorem dX3_houseItem_67 : decode cX3_houseItem 67 = .ok (.invokevirtual 276, 3) := dk_182 1 20 (dk_at dksX3_houseItem_2 20 rfl rfl)
theorem dX3_houseItem_70 : decode cX3_houseItem 70 = .ok (.return_, 1) := dk_177 (dk_at dksX3_houseItem_2 23 rfl rfl)
abbrev cX3_putsBack : ByteArray := prog_17_method_5_code
def yX3_putsBack : MethodName := ⟨RX3, "putsBack", "()V"⟩
def dkwX3_putsBack_1 : List UInt8 := [167, 255, 235, 177]
abbrev dktX3_putsBack_1 : List UInt8 := dkwX3_putsBack_1 ++ []
def dkwX3_putsBack_0 : List UInt8 := [3, 60, 27, 16, 77, 162, 0, 21, 42, 180, 0, 7, 27, 42, 180, 0, 16, 27, 46, 79, 132, 1, 1]
abbrev dktX3_putsBack_0 : List UInt8 := dkwX3_putsBack_0 ++ dktX3_putsBack_1
theorem dksX3_putsBack_0 : cX3_putsBack.data.toList.drop 0 = dktX3_putsBack_0 := by decide +kernel
theorem dksX3_putsBack_1 : cX3_putsBack.data.toList.drop 23 = dktX3_putsBack_1 := dk_seg dksX3_putsBack_0 23 rfl rfl
theorem dX3_putsBack_0 : decode cX3_putsBack 0 = .ok (.iconst 0, 1) := dk_3 (dk_at dksX3_putsBack_0 0 rfl rfl)
theorem dX3_putsBack_1 : decode cX3_putsBack 1 = .ok (.istore_n 1, 1) := dk_60 (dk_at dksX3_putsBack_0 1 rfl rfl)
theorem dX3_putsBack_2 : decode cX3_putsBack 2 = .ok (.iload_n 1, 1) := dk_27 (dk_at dksX3_putsBack_0 2 rfl rfl)
theorem dX3_putsBack_3 : decode cX3_putsBack 3 = .ok (.bipush 77, 2) := dk_16 77 (dk_at dksX3_putsBack_0 3 rfl rfl)
theorem dX3_putsBack_5 : decode cX3_putsBack 5 = .ok (.if_icmp .ge 21, 3) := dk_162 0 21 (dk_at dksX3_putsBack_0 5 rfl rfl)
theorem dX3_putsBack_8 : decode cX3_putsBack 8 = .ok (.aload_n 0, 1) := dk_42 (dk_at dksX3_putsBack_0 8 rfl rfl)
theorem dX3_putsBack_9 : decode cX3_putsBack 9 = .ok (.getfield 7, 3) := dk_180 0 7 (dk_at dksX3_putsBack_0 9 rfl rfl)
theorem dX3_putsBack_12 : decode cX3_putsBack 12 = .ok (.iload_n 1, 1) := dk_27 (dk_at dksX3_putsBack_0 12 rfl rfl)
theorem dX3_putsBack_13 : decode cX3_putsBack 13 = .ok (.aload_n 0, 1) := dk_42 (dk_at dksX3_putsBack_0 13 rfl rfl)
theorem dX3_putsBack_14 : decode cX3_putsBack 14 = .ok (.getfield 16, 3) := dk_180 0 16 (dk_at dksX3_putsBack_0 14 rfl rfl)
theorem dX3_putsBack_17 : decode cX3_putsBack 17 = .ok (.iload_n 1, 1) := dk_27 (dk_at dksX3_putsBack_0 17 rfl rfl)
theorem dX3_putsBack_18 : decode cX3_putsBack 18 = .ok (.iaload, 1) := dk_46 (dk_at dksX3_putsBack_0 18 rfl rfl)
theorem dX3_putsBack_19 : decode cX3_putsBack 19 = .ok (.iastore, 1) := dk_79 (dk_at dksX3_putsBack_0 19 rfl rfl)
theorem dX3_putsBack_20 : decode cX3_putsBack 20 = .ok (.iinc 1 1, 3) := dk_132 1 1 (dk_at dksX3_putsBack_0 20 rfl rfl)
theorem dX3_putsBack_23 : decode cX3_putsBack 23 = .ok (.goto (-21), 3) := dk_167 255 235 (dk_at dksX3_putsBack_1 0 rfl rfl)
theorem dX3_putsBack_26 : decode cX3_putsBack 26 = .ok (.return_, 1) := dk_177 (dk_at dksX3_putsBack_1 3 rfl rfl)
abbrev cX3_sheet : ByteArray := prog_17_method_92_code
def yX3_sheet : MethodName := ⟨RX3, "sheet", "(III)I"⟩
def dkwX3_sheet_5 : List UInt8 := [172]
abbrev dktX3_sheet_5 : List UInt8 := dkwX3_sheet_5 ++ []
def dkwX3_sheet_4 : List UInt8 := [180, 0, 34, 16, 40, 27, 104, 21, 4, 96, 9, 80, 132, 4, 1, 167, 255, 233, 42, 180, 0, 31, 27, 46]
abbrev dktX3_sheet_4 : List UInt8 := dkwX3_sheet_4 ++ dktX3_sheet_5
def dkwX3_sheet_3 : List UInt8 := [27, 28, 154, 0, 7, 3, 167, 0, 4, 29, 79, 3, 54, 4, 21, 4, 16, 40, 162, 0, 22, 42]
abbrev dktX3_sheet_3 : List UInt8 := dkwX3_sheet_3 ++ dktX3_sheet_4
def dkwX3_sheet_2 : List UInt8 := [29, 16, 40, 164, 0, 10, 42, 18, 45, 182, 0, 74, 172, 42, 180, 0, 28, 27, 28, 79, 42, 180, 0, 31]
abbrev dktX3_sheet_2 : List UInt8 := dkwX3_sheet_2 ++ dktX3_sheet_3
def dkwX3_sheet_1 : List UInt8 := [16, 64, 159, 0, 10, 42, 18, 45, 182, 0, 74, 172, 29, 156, 0, 11, 42, 19, 1, 60, 182, 0, 74, 172]
abbrev dktX3_sheet_1 : List UInt8 := dkwX3_sheet_1 ++ dktX3_sheet_2
def dkwX3_sheet_0 : List UInt8 := [27, 184, 1, 57, 153, 0, 25, 28, 153, 0, 28, 28, 16, 8, 159, 0, 22, 28, 16, 16, 159, 0, 16, 28]
abbrev dktX3_sheet_0 : List UInt8 := dkwX3_sheet_0 ++ dktX3_sheet_1
theorem dksX3_sheet_0 : cX3_sheet.data.toList.drop 0 = dktX3_sheet_0 := by decide +kernel
theorem dksX3_sheet_1 : cX3_sheet.data.toList.drop 24 = dktX3_sheet_1 := dk_seg dksX3_sheet_0 24 rfl rfl
theorem dksX3_sheet_2 : cX3_sheet.data.toList.drop 48 = dktX3_sheet_2 := dk_seg dksX3_sheet_1 24 rfl rfl
theorem dksX3_sheet_3 : cX3_sheet.data.toList.drop 72 = dktX3_sheet_3 := dk_seg dksX3_sheet_2 24 rfl rfl
theorem dksX3_sheet_4 : cX3_sheet.data.toList.drop 94 = dktX3_sheet_4 := dk_seg dksX3_sheet_3 22 rfl rfl
theorem dksX3_sheet_5 : cX3_sheet.data.toList.drop 118 = dktX3_sheet_5 := dk_seg dksX3_sheet_4 24 rfl rfl
theorem dX3_sheet_0 : decode cX3_sheet 0 = .ok (.iload_n 1, 1) := dk_27 (dk_at dksX3_sheet_0 0 rfl rfl)
theorem dX3_sheet_1 : decode cX3_sheet 1 = .ok (.invokestatic 313, 3) := dk_184 1 57 (dk_at dksX3_sheet_0 1 rfl rfl)
theorem dX3_sheet_4 : decode cX3_sheet 4 = .ok (.ifCond .eq 25, 3) := dk_153 0 25 (dk_at dksX3_sheet_0 4 rfl rfl)
theorem dX3_sheet_7 : decode cX3_sheet 7 = .ok (.iload_n 2, 1) := dk_28 (dk_at dksX3_sheet_0 7 rfl rfl)
theorem dX3_sheet_8 : decode cX3_sheet 8 = .ok (.ifCond .eq 28, 3) := dk_153 0 28 (dk_at dksX3_sheet_0 8 rfl rfl)
theorem dX3_sheet_11 : decode cX3_sheet 11 = .ok (.iload_n 2, 1) := dk_28 (dk_at dksX3_sheet_0 11 rfl rfl)
theorem dX3_sheet_12 : decode cX3_sheet 12 = .ok (.bipush 8, 2) := dk_16 8 (dk_at dksX3_sheet_0 12 rfl rfl)
theorem dX3_sheet_14 : decode cX3_sheet 14 = .ok (.if_icmp .eq 22, 3) := dk_159 0 22 (dk_at dksX3_sheet_0 14 rfl rfl)
theorem dX3_sheet_17 : decode cX3_sheet 17 = .ok (.iload_n 2, 1) := dk_28 (dk_at dksX3_sheet_0 17 rfl rfl)
theorem dX3_sheet_18 : decode cX3_sheet 18 = .ok (.bipush 16, 2) := dk_16 16 (dk_at dksX3_sheet_0 18 rfl rfl)
theorem dX3_sheet_20 : decode cX3_sheet 20 = .ok (.if_icmp .eq 16, 3) := dk_159 0 16 (dk_at dksX3_sheet_0 20 rfl rfl)
theorem dX3_sheet_23 : decode cX3_sheet 23 = .ok (.iload_n 2, 1) := dk_28 (dk_at dksX3_sheet_0 23 rfl rfl)
theorem dX3_sheet_24 : decode cX3_sheet 24 = .ok (.bipush 64, 2) := dk_16 64 (dk_at dksX3_sheet_1 0 rfl rfl)
theorem dX3_sheet_26 : decode cX3_sheet 26 = .ok (.if_icmp .eq 10, 3) := dk_159 0 10 (dk_at dksX3_sheet_1 2 rfl rfl)
theorem dX3_sheet_29 : decode cX3_sheet 29 = .ok (.aload_n 0, 1) := dk_42 (dk_at dksX3_sheet_1 5 rfl rfl)
theorem dX3_sheet_30 : decode cX3_sheet 30 = .ok (.ldc 45, 2) := dk_18 45 (dk_at dksX3_sheet_1 6 rfl rfl)
theorem dX3_sheet_32 : decode cX3_sheet 32 = .ok (.invokevirtual 74, 3) := dk_182 0 74 (dk_at dksX3_sheet_1 8 rfl rfl)
theorem dX3_sheet_35 : decode cX3_sheet 35 = .ok (.ireturn, 1) := dk_172 (dk_at dksX3_sheet_1 11 rfl rfl)
theorem dX3_sheet_36 : decode cX3_sheet 36 = .ok (.iload_n 3, 1) := dk_29 (dk_at dksX3_sheet_1 12 rfl rfl)
theorem dX3_sheet_37 : decode cX3_sheet 37 = .ok (.ifCond .ge 11, 3) := dk_156 0 11 (dk_at dksX3_sheet_1 13 rfl rfl)
theorem dX3_sheet_40 : decode cX3_sheet 40 = .ok (.aload_n 0, 1) := dk_42 (dk_at dksX3_sheet_1 16 rfl rfl)
theorem dX3_sheet_41 : decode cX3_sheet 41 = .ok (.ldc_w 316, 3) := dk_19 1 60 (dk_at dksX3_sheet_1 17 rfl rfl)
theorem dX3_sheet_44 : decode cX3_sheet 44 = .ok (.invokevirtual 74, 3) := dk_182 0 74 (dk_at dksX3_sheet_1 20 rfl rfl)
theorem dX3_sheet_47 : decode cX3_sheet 47 = .ok (.ireturn, 1) := dk_172 (dk_at dksX3_sheet_1 23 rfl rfl)
theorem dX3_sheet_48 : decode cX3_sheet 48 = .ok (.iload_n 3, 1) := dk_29 (dk_at dksX3_sheet_2 0 rfl rfl)
theorem dX3_sheet_49 : decode cX3_sheet 49 = .ok (.bipush 40, 2) := dk_16 40 (dk_at dksX3_sheet_2 1 rfl rfl)
theorem dX3_sheet_51 : decode cX3_sheet 51 = .ok (.if_icmp .le 10, 3) := dk_164 0 10 (dk_at dksX3_sheet_2 3 rfl rfl)
theorem dX3_sheet_54 : decode cX3_sheet 54 = .ok (.aload_n 0, 1) := dk_42 (dk_at dksX3_sheet_2 6 rfl rfl)
theorem dX3_sheet_55 : decode cX3_sheet 55 = .ok (.ldc 45, 2) := dk_18 45 (dk_at dksX3_sheet_2 7 rfl rfl)
theorem dX3_sheet_57 : decode cX3_sheet 57 = .ok (.invokevirtual 74, 3) := dk_182 0 74 (dk_at dksX3_sheet_2 9 rfl rfl)
theorem dX3_sheet_60 : decode cX3_sheet 60 = .ok (.ireturn, 1) := dk_172 (dk_at dksX3_sheet_2 12 rfl rfl)
theorem dX3_sheet_61 : decode cX3_sheet 61 = .ok (.aload_n 0, 1) := dk_42 (dk_at dksX3_sheet_2 13 rfl rfl)
theorem dX3_sheet_62 : decode cX3_sheet 62 = .ok (.getfield 28, 3) := dk_180 0 28 (dk_at dksX3_sheet_2 14 rfl rfl)
theorem dX3_sheet_65 : decode cX3_sheet 65 = .ok (.iload_n 1, 1) := dk_27 (dk_at dksX3_sheet_2 17 rfl rfl)
theorem dX3_sheet_66 : decode cX3_sheet 66 = .ok (.iload_n 2, 1) := dk_28 (dk_at dksX3_sheet_2 18 rfl rfl)
theorem dX3_sheet_67 : decode cX3_sheet 67 = .ok (.iastore, 1) := dk_79 (dk_at dksX3_sheet_2 19 rfl rfl)
theorem dX3_sheet_68 : decode cX3_sheet 68 = .ok (.aload_n 0, 1) := dk_42 (dk_at dksX3_sheet_2 20 rfl rfl)
theorem dX3_sheet_69 : decode cX3_sheet 69 = .ok (.getfield 31, 3) := dk_180 0 31 (dk_at dksX3_sheet_2 21 rfl rfl)
theorem dX3_sheet_72 : decode cX3_sheet 72 = .ok (.iload_n 1, 1) := dk_27 (dk_at dksX3_sheet_3 0 rfl rfl)
theorem dX3_sheet_73 : decode cX3_sheet 73 = .ok (.iload_n 2, 1) := dk_28 (dk_at dksX3_sheet_3 1 rfl rfl)
theorem dX3_sheet_74 : decode cX3_sheet 74 = .ok (.ifCond .ne 7, 3) := dk_154 0 7 (dk_at dksX3_sheet_3 2 rfl rfl)
theorem dX3_sheet_77 : decode cX3_sheet 77 = .ok (.iconst 0, 1) := dk_3 (dk_at dksX3_sheet_3 5 rfl rfl)
theorem dX3_sheet_78 : decode cX3_sheet 78 = .ok (.goto 4, 3) := dk_167 0 4 (dk_at dksX3_sheet_3 6 rfl rfl)
theorem dX3_sheet_81 : decode cX3_sheet 81 = .ok (.iload_n 3, 1) := dk_29 (dk_at dksX3_sheet_3 9 rfl rfl)
theorem dX3_sheet_82 : decode cX3_sheet 82 = .ok (.iastore, 1) := dk_79 (dk_at dksX3_sheet_3 10 rfl rfl)
theorem dX3_sheet_83 : decode cX3_sheet 83 = .ok (.iconst 0, 1) := dk_3 (dk_at dksX3_sheet_3 11 rfl rfl)
theorem dX3_sheet_84 : decode cX3_sheet 84 = .ok (.istore 4, 2) := dk_54 4 (dk_at dksX3_sheet_3 12 rfl rfl)
theorem dX3_sheet_86 : decode cX3_sheet 86 = .ok (.iload 4, 2) := dk_21 4 (dk_at dksX3_sheet_3 14 rfl rfl)
theorem dX3_sheet_88 : decode cX3_sheet 88 = .ok (.bipush 40, 2) := dk_16 40 (dk_at dksX3_sheet_3 16 rfl rfl)
theorem dX3_sheet_90 : decode cX3_sheet 90 = .ok (.if_icmp .ge 22, 3) := dk_162 0 22 (dk_at dksX3_sheet_3 18 rfl rfl)
theorem dX3_sheet_93 : decode cX3_sheet 93 = .ok (.aload_n 0, 1) := dk_42 (dk_at dksX3_sheet_3 21 rfl rfl)
theorem dX3_sheet_94 : decode cX3_sheet 94 = .ok (.getfield 34, 3) := dk_180 0 34 (dk_at dksX3_sheet_4 0 rfl rfl)
theorem dX3_sheet_97 : decode cX3_sheet 97 = .ok (.bipush 40, 2) := dk_16 40 (dk_at dksX3_sheet_4 3 rfl rfl)
theorem dX3_sheet_99 : decode cX3_sheet 99 = .ok (.iload_n 1, 1) := dk_27 (dk_at dksX3_sheet_4 5 rfl rfl)
theorem dX3_sheet_100 : decode cX3_sheet 100 = .ok (.imul, 1) := dk_104 (dk_at dksX3_sheet_4 6 rfl rfl)
theorem dX3_sheet_101 : decode cX3_sheet 101 = .ok (.iload 4, 2) := dk_21 4 (dk_at dksX3_sheet_4 7 rfl rfl)
theorem dX3_sheet_103 : decode cX3_sheet 103 = .ok (.iadd, 1) := dk_96 (dk_at dksX3_sheet_4 9 rfl rfl)
theorem dX3_sheet_104 : decode cX3_sheet 104 = .ok (.lconst 0, 1) := dk_9 (dk_at dksX3_sheet_4 10 rfl rfl)
theorem dX3_sheet_105 : decode cX3_sheet 105 = .ok (.lastore, 1) := dk_80 (dk_at dksX3_sheet_4 11 rfl rfl)
theorem dX3_sheet_106 : decode cX3_sheet 106 = .ok (.iinc 4 1, 3) := dk_132 4 1 (dk_at dksX3_sheet_4 12 rfl rfl)
theorem dX3_sheet_109 : decode cX3_sheet 109 = .ok (.goto (-23), 3) := dk_167 255 233 (dk_at dksX3_sheet_4 15 rfl rfl)
theorem dX3_sheet_112 : decode cX3_sheet 112 = .ok (.aload_n 0, 1) := dk_42 (dk_at dksX3_sheet_4 18 rfl rfl)
theorem dX3_sheet_113 : decode cX3_sheet 113 = .ok (.getfield 31, 3) := dk_180 0 31 (dk_at dksX3_sheet_4 19 rfl rfl)
theorem dX3_sheet_116 : decode cX3_sheet 116 = .ok (.iload_n 1, 1) := dk_27 (dk_at dksX3_sheet_4 22 rfl rfl)
theorem dX3_sheet_117 : decode cX3_sheet 117 = .ok (.iaload, 1) := dk_46 (dk_at dksX3_sheet_4 23 rfl rfl)
theorem dX3_sheet_118 : decode cX3_sheet 118 = .ok (.ireturn, 1) := dk_172 (dk_at dksX3_sheet_5 0 rfl rfl)
abbrev cX3_isOne : ByteArray := prog_17_method_91_code
def yX3_isOne : MethodName := ⟨RX3, "isOne", "(I)Z"⟩
def dkwX3_isOne_0 : List UInt8 := [26, 133, 9, 20, 0, 61, 184, 0, 48, 172]
abbrev dktX3_isOne_0 : List UInt8 := dkwX3_isOne_0 ++ []
theorem dksX3_isOne_0 : cX3_isOne.data.toList.drop 0 = dktX3_isOne_0 := by decide +kernel
theorem dX3_isOne_0 : decode cX3_isOne 0 = .ok (.iload_n 0, 1) := dk_26 (dk_at dksX3_isOne_0 0 rfl rfl)
theorem dX3_isOne_1 : decode cX3_isOne 1 = .ok (.i2l, 1) := dk_133 (dk_at dksX3_isOne_0 1 rfl rfl)
theorem dX3_isOne_2 : decode cX3_isOne 2 = .ok (.lconst 0, 1) := dk_9 (dk_at dksX3_isOne_0 2 rfl rfl)
theorem dX3_isOne_3 : decode cX3_isOne 3 = .ok (.ldc2_w 61, 3) := dk_20 0 61 (dk_at dksX3_isOne_0 3 rfl rfl)
theorem dX3_isOne_6 : decode cX3_isOne 6 = .ok (.invokestatic 48, 3) := dk_184 0 48 (dk_at dksX3_isOne_0 6 rfl rfl)
theorem dX3_isOne_9 : decode cX3_isOne 9 = .ok (.ireturn, 1) := dk_172 (dk_at dksX3_isOne_0 9 rfl rfl)
abbrev cX3_write : ByteArray := prog_17_method_95_code
def yX3_write : MethodName := ⟨RX3, "write", "(IIJ)J"⟩
def dkwX3_write_3 : List UInt8 := [180, 0, 28, 27, 46, 33, 184, 1, 65, 80, 22, 6, 173]
abbrev dktX3_write_3 : List UInt8 := dkwX3_write_3 ++ []
def dkwX3_write_2 : List UInt8 := [180, 0, 34, 16, 40, 27, 104, 28, 96, 47, 55, 6, 42, 180, 0, 34, 16, 40, 27, 104, 28, 96, 42]
abbrev dktX3_write_2 : List UInt8 := dkwX3_write_2 ++ dktX3_write_3
def dkwX3_write_1 : List UInt8 := [180, 0, 31, 27, 46, 4, 100, 133, 184, 0, 48, 154, 0, 11, 42, 18, 45, 182, 0, 74, 133, 173, 42]
abbrev dktX3_write_1 : List UInt8 := dkwX3_write_1 ++ dktX3_write_2
def dkwX3_write_0 : List UInt8 := [42, 27, 182, 1, 62, 54, 5, 21, 5, 153, 0, 11, 42, 21, 5, 182, 0, 74, 133, 173, 28, 133, 9, 42]
abbrev dktX3_write_0 : List UInt8 := dkwX3_write_0 ++ dktX3_write_1
theorem dksX3_write_0 : cX3_write.data.toList.drop 0 = dktX3_write_0 := by decide +kernel
theorem dksX3_write_1 : cX3_write.data.toList.drop 24 = dktX3_write_1 := dk_seg dksX3_write_0 24 rfl rfl
theorem dksX3_write_2 : cX3_write.data.toList.drop 47 = dktX3_write_2 := dk_seg dksX3_write_1 23 rfl rfl
theorem dksX3_write_3 : cX3_write.data.toList.drop 70 = dktX3_write_3 := dk_seg dksX3_write_2 23 rfl rfl
theorem dX3_write_0 : decode cX3_write 0 = .ok (.aload_n 0, 1) := dk_42 (dk_at dksX3_write_0 0 rfl rfl)
theorem dX3_write_1 : decode cX3_write 1 = .ok (.iload_n 1, 1) := dk_27 (dk_at dksX3_write_0 1 rfl rfl)
theorem dX3_write_2 : decode cX3_write 2 = .ok (.invokevirtual 318, 3) := dk_182 1 62 (dk_at dksX3_write_0 2 rfl rfl)
theorem dX3_write_5 : decode cX3_write 5 = .ok (.istore 5, 2) := dk_54 5 (dk_at dksX3_write_0 5 rfl rfl)
theorem dX3_write_7 : decode cX3_write 7 = .ok (.iload 5, 2) := dk_21 5 (dk_at dksX3_write_0 7 rfl rfl)
theorem dX3_write_9 : decode cX3_write 9 = .ok (.ifCond .eq 11, 3) := dk_153 0 11 (dk_at dksX3_write_0 9 rfl rfl)
theorem dX3_write_12 : decode cX3_write 12 = .ok (.aload_n 0, 1) := dk_42 (dk_at dksX3_write_0 12 rfl rfl)
theorem dX3_write_13 : decode cX3_write 13 = .ok (.iload 5, 2) := dk_21 5 (dk_at dksX3_write_0 13 rfl rfl)
theorem dX3_write_15 : decode cX3_write 15 = .ok (.invokevirtual 74, 3) := dk_182 0 74 (dk_at dksX3_write_0 15 rfl rfl)
theorem dX3_write_18 : decode cX3_write 18 = .ok (.i2l, 1) := dk_133 (dk_at dksX3_write_0 18 rfl rfl)
theorem dX3_write_19 : decode cX3_write 19 = .ok (.lreturn, 1) := dk_173 (dk_at dksX3_write_0 19 rfl rfl)
theorem dX3_write_20 : decode cX3_write 20 = .ok (.iload_n 2, 1) := dk_28 (dk_at dksX3_write_0 20 rfl rfl)
theorem dX3_write_21 : decode cX3_write 21 = .ok (.i2l, 1) := dk_133 (dk_at dksX3_write_0 21 rfl rfl)
theorem dX3_write_22 : decode cX3_write 22 = .ok (.lconst 0, 1) := dk_9 (dk_at dksX3_write_0 22 rfl rfl)
theorem dX3_write_23 : decode cX3_write 23 = .ok (.aload_n 0, 1) := dk_42 (dk_at dksX3_write_0 23 rfl rfl)
theorem dX3_write_24 : decode cX3_write 24 = .ok (.getfield 31, 3) := dk_180 0 31 (dk_at dksX3_write_1 0 rfl rfl)
theorem dX3_write_27 : decode cX3_write 27 = .ok (.iload_n 1, 1) := dk_27 (dk_at dksX3_write_1 3 rfl rfl)
theorem dX3_write_28 : decode cX3_write 28 = .ok (.iaload, 1) := dk_46 (dk_at dksX3_write_1 4 rfl rfl)
theorem dX3_write_29 : decode cX3_write 29 = .ok (.iconst 1, 1) := dk_4 (dk_at dksX3_write_1 5 rfl rfl)
theorem dX3_write_30 : decode cX3_write 30 = .ok (.isub, 1) := dk_100 (dk_at dksX3_write_1 6 rfl rfl)
theorem dX3_write_31 : decode cX3_write 31 = .ok (.i2l, 1) := dk_133 (dk_at dksX3_write_1 7 rfl rfl)
theorem dX3_write_32 : decode cX3_write 32 = .ok (.invokestatic 48, 3) := dk_184 0 48 (dk_at dksX3_write_1 8 rfl rfl)
theorem dX3_write_35 : decode cX3_write 35 = .ok (.ifCond .ne 11, 3) := dk_154 0 11 (dk_at dksX3_write_1 11 rfl rfl)
theorem dX3_write_38 : decode cX3_write 38 = .ok (.aload_n 0, 1) := dk_42 (dk_at dksX3_write_1 14 rfl rfl)
theorem dX3_write_39 : decode cX3_write 39 = .ok (.ldc 45, 2) := dk_18 45 (dk_at dksX3_write_1 15 rfl rfl)
theorem dX3_write_41 : decode cX3_write 41 = .ok (.invokevirtual 74, 3) := dk_182 0 74 (dk_at dksX3_write_1 17 rfl rfl)
theorem dX3_write_44 : decode cX3_write 44 = .ok (.i2l, 1) := dk_133 (dk_at dksX3_write_1 20 rfl rfl)
theorem dX3_write_45 : decode cX3_write 45 = .ok (.lreturn, 1) := dk_173 (dk_at dksX3_write_1 21 rfl rfl)
theorem dX3_write_46 : decode cX3_write 46 = .ok (.aload_n 0, 1) := dk_42 (dk_at dksX3_write_1 22 rfl rfl)
theorem dX3_write_47 : decode cX3_write 47 = .ok (.getfield 34, 3) := dk_180 0 34 (dk_at dksX3_write_2 0 rfl rfl)
theorem dX3_write_50 : decode cX3_write 50 = .ok (.bipush 40, 2) := dk_16 40 (dk_at dksX3_write_2 3 rfl rfl)
theorem dX3_write_52 : decode cX3_write 52 = .ok (.iload_n 1, 1) := dk_27 (dk_at dksX3_write_2 5 rfl rfl)
theorem dX3_write_53 : decode cX3_write 53 = .ok (.imul, 1) := dk_104 (dk_at dksX3_write_2 6 rfl rfl)
theorem dX3_write_54 : decode cX3_write 54 = .ok (.iload_n 2, 1) := dk_28 (dk_at dksX3_write_2 7 rfl rfl)
theorem dX3_write_55 : decode cX3_write 55 = .ok (.iadd, 1) := dk_96 (dk_at dksX3_write_2 8 rfl rfl)
theorem dX3_write_56 : decode cX3_write 56 = .ok (.laload, 1) := dk_47 (dk_at dksX3_write_2 9 rfl rfl)
theorem dX3_write_57 : decode cX3_write 57 = .ok (.lstore 6, 2) := dk_55 6 (dk_at dksX3_write_2 10 rfl rfl)
theorem dX3_write_59 : decode cX3_write 59 = .ok (.aload_n 0, 1) := dk_42 (dk_at dksX3_write_2 12 rfl rfl)
theorem dX3_write_60 : decode cX3_write 60 = .ok (.getfield 34, 3) := dk_180 0 34 (dk_at dksX3_write_2 13 rfl rfl)
theorem dX3_write_63 : decode cX3_write 63 = .ok (.bipush 40, 2) := dk_16 40 (dk_at dksX3_write_2 16 rfl rfl)
theorem dX3_write_65 : decode cX3_write 65 = .ok (.iload_n 1, 1) := dk_27 (dk_at dksX3_write_2 18 rfl rfl)
theorem dX3_write_66 : decode cX3_write 66 = .ok (.imul, 1) := dk_104 (dk_at dksX3_write_2 19 rfl rfl)
theorem dX3_write_67 : decode cX3_write 67 = .ok (.iload_n 2, 1) := dk_28 (dk_at dksX3_write_2 20 rfl rfl)
theorem dX3_write_68 : decode cX3_write 68 = .ok (.iadd, 1) := dk_96 (dk_at dksX3_write_2 21 rfl rfl)
theorem dX3_write_69 : decode cX3_write 69 = .ok (.aload_n 0, 1) := dk_42 (dk_at dksX3_write_2 22 rfl rfl)
theorem dX3_write_70 : decode cX3_write 70 = .ok (.getfield 28, 3) := dk_180 0 28 (dk_at dksX3_write_3 0 rfl rfl)
theorem dX3_write_73 : decode cX3_write 73 = .ok (.iload_n 1, 1) := dk_27 (dk_at dksX3_write_3 3 rfl rfl)
theorem dX3_write_74 : decode cX3_write 74 = .ok (.iaload, 1) := dk_46 (dk_at dksX3_write_3 4 rfl rfl)
theorem dX3_write_75 : decode cX3_write 75 = .ok (.lload_n 3, 1) := dk_33 (dk_at dksX3_write_3 5 rfl rfl)
theorem dX3_write_76 : decode cX3_write 76 = .ok (.invokestatic 321, 3) := dk_184 1 65 (dk_at dksX3_write_3 6 rfl rfl)
theorem dX3_write_79 : decode cX3_write 79 = .ok (.lastore, 1) := dk_80 (dk_at dksX3_write_3 9 rfl rfl)
theorem dX3_write_80 : decode cX3_write 80 = .ok (.lload 6, 2) := dk_22 6 (dk_at dksX3_write_3 10 rfl rfl)
theorem dX3_write_82 : decode cX3_write 82 = .ok (.lreturn, 1) := dk_173 (dk_at dksX3_write_3 12 rfl rfl)
abbrev cX3_wrongSheet : ByteArray := prog_17_method_94_code
def yX3_wrongSheet : MethodName := ⟨RX3, "wrongSheet", "(I)I"⟩
def dkwX3_wrongSheet_1 : List UInt8 := [167, 0, 4, 3, 172]
abbrev dktX3_wrongSheet_1 : List UInt8 := dkwX3_wrongSheet_1 ++ []
def dkwX3_wrongSheet_0 : List UInt8 := [27, 184, 1, 57, 154, 0, 8, 18, 45, 167, 0, 19, 42, 180, 0, 28, 27, 46, 154, 0, 9, 19, 1, 61]
abbrev dktX3_wrongSheet_0 : List UInt8 := dkwX3_wrongSheet_0 ++ dktX3_wrongSheet_1
theorem dksX3_wrongSheet_0 : cX3_wrongSheet.data.toList.drop 0 = dktX3_wrongSheet_0 := by decide +kernel
theorem dksX3_wrongSheet_1 : cX3_wrongSheet.data.toList.drop 24 = dktX3_wrongSheet_1 := dk_seg dksX3_wrongSheet_0 24 rfl rfl
theorem dX3_wrongSheet_0 : decode cX3_wrongSheet 0 = .ok (.iload_n 1, 1) := dk_27 (dk_at dksX3_wrongSheet_0 0 rfl rfl)
theorem dX3_wrongSheet_1 : decode cX3_wrongSheet 1 = .ok (.invokestatic 313, 3) := dk_184 1 57 (dk_at dksX3_wrongSheet_0 1 rfl rfl)
theorem dX3_wrongSheet_4 : decode cX3_wrongSheet 4 = .ok (.ifCond .ne 8, 3) := dk_154 0 8 (dk_at dksX3_wrongSheet_0 4 rfl rfl)
theorem dX3_wrongSheet_7 : decode cX3_wrongSheet 7 = .ok (.ldc 45, 2) := dk_18 45 (dk_at dksX3_wrongSheet_0 7 rfl rfl)
theorem dX3_wrongSheet_9 : decode cX3_wrongSheet 9 = .ok (.goto 19, 3) := dk_167 0 19 (dk_at dksX3_wrongSheet_0 9 rfl rfl)
theorem dX3_wrongSheet_12 : decode cX3_wrongSheet 12 = .ok (.aload_n 0, 1) := dk_42 (dk_at dksX3_wrongSheet_0 12 rfl rfl)
theorem dX3_wrongSheet_13 : decode cX3_wrongSheet 13 = .ok (.getfield 28, 3) := dk_180 0 28 (dk_at dksX3_wrongSheet_0 13 rfl rfl)
theorem dX3_wrongSheet_16 : decode cX3_wrongSheet 16 = .ok (.iload_n 1, 1) := dk_27 (dk_at dksX3_wrongSheet_0 16 rfl rfl)
theorem dX3_wrongSheet_17 : decode cX3_wrongSheet 17 = .ok (.iaload, 1) := dk_46 (dk_at dksX3_wrongSheet_0 17 rfl rfl)
theorem dX3_wrongSheet_18 : decode cX3_wrongSheet 18 = .ok (.ifCond .ne 9, 3) := dk_154 0 9 (dk_at dksX3_wrongSheet_0 18 rfl rfl)
theorem dX3_wrongSheet_21 : decode cX3_wrongSheet 21 = .ok (.ldc_w 317, 3) := dk_19 1 61 (dk_at dksX3_wrongSheet_0 21 rfl rfl)
theorem dX3_wrongSheet_24 : decode cX3_wrongSheet 24 = .ok (.goto 4, 3) := dk_167 0 4 (dk_at dksX3_wrongSheet_1 0 rfl rfl)
theorem dX3_wrongSheet_27 : decode cX3_wrongSheet 27 = .ok (.iconst 0, 1) := dk_3 (dk_at dksX3_wrongSheet_1 3 rfl rfl)
theorem dX3_wrongSheet_28 : decode cX3_wrongSheet 28 = .ok (.ireturn, 1) := dk_172 (dk_at dksX3_wrongSheet_1 4 rfl rfl)
abbrev cX3_narrowed : ByteArray := prog_17_method_93_code
def yX3_narrowed : MethodName := ⟨RX3, "narrowed", "(IJ)J"⟩
def dkwX3_narrowed_1 : List UInt8 := [167, 0, 4, 31, 173]
abbrev dktX3_narrowed_1 : List UInt8 := dkwX3_narrowed_1 ++ []
def dkwX3_narrowed_0 : List UInt8 := [26, 16, 8, 160, 0, 10, 31, 136, 145, 133, 167, 0, 17, 26, 16, 16, 160, 0, 10, 31, 136, 147, 133]
abbrev dktX3_narrowed_0 : List UInt8 := dkwX3_narrowed_0 ++ dktX3_narrowed_1
theorem dksX3_narrowed_0 : cX3_narrowed.data.toList.drop 0 = dktX3_narrowed_0 := by decide +kernel
theorem dksX3_narrowed_1 : cX3_narrowed.data.toList.drop 23 = dktX3_narrowed_1 := dk_seg dksX3_narrowed_0 23 rfl rfl
theorem dX3_narrowed_0 : decode cX3_narrowed 0 = .ok (.iload_n 0, 1) := dk_26 (dk_at dksX3_narrowed_0 0 rfl rfl)
theorem dX3_narrowed_1 : decode cX3_narrowed 1 = .ok (.bipush 8, 2) := dk_16 8 (dk_at dksX3_narrowed_0 1 rfl rfl)
theorem dX3_narrowed_3 : decode cX3_narrowed 3 = .ok (.if_icmp .ne 10, 3) := dk_160 0 10 (dk_at dksX3_narrowed_0 3 rfl rfl)
theorem dX3_narrowed_6 : decode cX3_narrowed 6 = .ok (.lload_n 1, 1) := dk_31 (dk_at dksX3_narrowed_0 6 rfl rfl)
theorem dX3_narrowed_7 : decode cX3_narrowed 7 = .ok (.l2i, 1) := dk_136 (dk_at dksX3_narrowed_0 7 rfl rfl)
theorem dX3_narrowed_8 : decode cX3_narrowed 8 = .ok (.i2b, 1) := dk_145 (dk_at dksX3_narrowed_0 8 rfl rfl)
theorem dX3_narrowed_9 : decode cX3_narrowed 9 = .ok (.i2l, 1) := dk_133 (dk_at dksX3_narrowed_0 9 rfl rfl)
theorem dX3_narrowed_10 : decode cX3_narrowed 10 = .ok (.goto 17, 3) := dk_167 0 17 (dk_at dksX3_narrowed_0 10 rfl rfl)
theorem dX3_narrowed_13 : decode cX3_narrowed 13 = .ok (.iload_n 0, 1) := dk_26 (dk_at dksX3_narrowed_0 13 rfl rfl)
theorem dX3_narrowed_14 : decode cX3_narrowed 14 = .ok (.bipush 16, 2) := dk_16 16 (dk_at dksX3_narrowed_0 14 rfl rfl)
theorem dX3_narrowed_16 : decode cX3_narrowed 16 = .ok (.if_icmp .ne 10, 3) := dk_160 0 10 (dk_at dksX3_narrowed_0 16 rfl rfl)
theorem dX3_narrowed_19 : decode cX3_narrowed 19 = .ok (.lload_n 1, 1) := dk_31 (dk_at dksX3_narrowed_0 19 rfl rfl)
theorem dX3_narrowed_20 : decode cX3_narrowed 20 = .ok (.l2i, 1) := dk_136 (dk_at dksX3_narrowed_0 20 rfl rfl)
theorem dX3_narrowed_21 : decode cX3_narrowed 21 = .ok (.i2s, 1) := dk_147 (dk_at dksX3_narrowed_0 21 rfl rfl)
theorem dX3_narrowed_22 : decode cX3_narrowed 22 = .ok (.i2l, 1) := dk_133 (dk_at dksX3_narrowed_0 22 rfl rfl)
theorem dX3_narrowed_23 : decode cX3_narrowed 23 = .ok (.goto 4, 3) := dk_167 0 4 (dk_at dksX3_narrowed_1 0 rfl rfl)
theorem dX3_narrowed_26 : decode cX3_narrowed 26 = .ok (.lload_n 1, 1) := dk_31 (dk_at dksX3_narrowed_1 3 rfl rfl)
theorem dX3_narrowed_27 : decode cX3_narrowed 27 = .ok (.lreturn, 1) := dk_173 (dk_at dksX3_narrowed_1 4 rfl rfl)
abbrev cX3_copy : ByteArray := prog_17_method_96_code
def yX3_copy : MethodName := ⟨RX3, "copy", "(IIIII)I"⟩
def dkwX3_copy_8 : List UInt8 := [167, 255, 224, 21, 5, 172]
abbrev dktX3_copy_8 : List UInt8 := dkwX3_copy_8 ++ []
def dkwX3_copy_7 : List UInt8 := [180, 0, 34, 16, 40, 29, 104, 21, 4, 96, 21, 6, 96, 42, 180, 0, 38, 21, 6, 47, 80, 132, 6, 1]
abbrev dktX3_copy_7 : List UInt8 := dkwX3_copy_7 ++ dktX3_copy_8
def dkwX3_copy_6 : List UInt8 := [28, 96, 21, 6, 96, 47, 80, 132, 6, 1, 167, 255, 225, 3, 54, 6, 21, 6, 21, 5, 162, 0, 31, 42]
abbrev dktX3_copy_6 : List UInt8 := dkwX3_copy_6 ++ dktX3_copy_7
def dkwX3_copy_5 : List UInt8 := [3, 54, 6, 21, 6, 21, 5, 162, 0, 30, 42, 180, 0, 38, 21, 6, 42, 180, 0, 34, 16, 40, 27, 104]
abbrev dktX3_copy_5 : List UInt8 := dkwX3_copy_5 ++ dktX3_copy_6
def dkwX3_copy_4 : List UInt8 := [163, 0, 17, 21, 5, 42, 180, 0, 31, 29, 46, 21, 4, 100, 164, 0, 10, 42, 18, 45, 182, 0, 74, 172]
abbrev dktX3_copy_4 : List UInt8 := dkwX3_copy_4 ++ dktX3_copy_5
def dkwX3_copy_3 : List UInt8 := [155, 0, 40, 21, 4, 155, 0, 35, 21, 5, 155, 0, 30, 21, 5, 42, 180, 0, 31, 27, 46, 28, 100]
abbrev dktX3_copy_3 : List UInt8 := dkwX3_copy_3 ++ dktX3_copy_4
def dkwX3_copy_2 : List UInt8 := [172, 42, 180, 0, 28, 27, 46, 42, 180, 0, 28, 29, 46, 159, 0, 10, 42, 18, 121, 182, 0, 74, 172, 28]
abbrev dktX3_copy_2 : List UInt8 := dkwX3_copy_2 ++ dktX3_copy_3
def dkwX3_copy_1 : List UInt8 := [180, 0, 28, 27, 46, 153, 0, 12, 42, 180, 0, 28, 29, 46, 154, 0, 11, 42, 19, 1, 61, 182, 0, 74]
abbrev dktX3_copy_1 : List UInt8 := dkwX3_copy_1 ++ dktX3_copy_2
def dkwX3_copy_0 : List UInt8 := [27, 184, 1, 57, 153, 0, 10, 29, 184, 1, 57, 154, 0, 10, 42, 18, 45, 182, 0, 74, 172, 42]
abbrev dktX3_copy_0 : List UInt8 := dkwX3_copy_0 ++ dktX3_copy_1
theorem dksX3_copy_0 : cX3_copy.data.toList.drop 0 = dktX3_copy_0 := by decide +kernel
theorem dksX3_copy_1 : cX3_copy.data.toList.drop 22 = dktX3_copy_1 := dk_seg dksX3_copy_0 22 rfl rfl
theorem dksX3_copy_2 : cX3_copy.data.toList.drop 46 = dktX3_copy_2 := dk_seg dksX3_copy_1 24 rfl rfl
theorem dksX3_copy_3 : cX3_copy.data.toList.drop 70 = dktX3_copy_3 := dk_seg dksX3_copy_2 24 rfl rfl
theorem dksX3_copy_4 : cX3_copy.data.toList.drop 93 = dktX3_copy_4 := dk_seg dksX3_copy_3 23 rfl rfl
theorem dksX3_copy_5 : cX3_copy.data.toList.drop 117 = dktX3_copy_5 := dk_seg dksX3_copy_4 24 rfl rfl
theorem dksX3_copy_6 : cX3_copy.data.toList.drop 141 = dktX3_copy_6 := dk_seg dksX3_copy_5 24 rfl rfl
theorem dksX3_copy_7 : cX3_copy.data.toList.drop 165 = dktX3_copy_7 := dk_seg dksX3_copy_6 24 rfl rfl
theorem dksX3_copy_8 : cX3_copy.data.toList.drop 189 = dktX3_copy_8 := dk_seg dksX3_copy_7 24 rfl rfl
theorem dX3_copy_0 : decode cX3_copy 0 = .ok (.iload_n 1, 1) := dk_27 (dk_at dksX3_copy_0 0 rfl rfl)
theorem dX3_copy_1 : decode cX3_copy 1 = .ok (.invokestatic 313, 3) := dk_184 1 57 (dk_at dksX3_copy_0 1 rfl rfl)
theorem dX3_copy_4 : decode cX3_copy 4 = .ok (.ifCond .eq 10, 3) := dk_153 0 10 (dk_at dksX3_copy_0 4 rfl rfl)
theorem dX3_copy_7 : decode cX3_copy 7 = .ok (.iload_n 3, 1) := dk_29 (dk_at dksX3_copy_0 7 rfl rfl)
theorem dX3_copy_8 : decode cX3_copy 8 = .ok (.invokestatic 313, 3) := dk_184 1 57 (dk_at dksX3_copy_0 8 rfl rfl)
theorem dX3_copy_11 : decode cX3_copy 11 = .ok (.ifCond .ne 10, 3) := dk_154 0 10 (dk_at dksX3_copy_0 11 rfl rfl)
theorem dX3_copy_14 : decode cX3_copy 14 = .ok (.aload_n 0, 1) := dk_42 (dk_at dksX3_copy_0 14 rfl rfl)
theorem dX3_copy_15 : decode cX3_copy 15 = .ok (.ldc 45, 2) := dk_18 45 (dk_at dksX3_copy_0 15 rfl rfl)
theorem dX3_copy_17 : decode cX3_copy 17 = .ok (.invokevirtual 74, 3) := dk_182 0 74 (dk_at dksX3_copy_0 17 rfl rfl)
theorem dX3_copy_20 : decode cX3_copy 20 = .ok (.ireturn, 1) := dk_172 (dk_at dksX3_copy_0 20 rfl rfl)
theorem dX3_copy_21 : decode cX3_copy 21 = .ok (.aload_n 0, 1) := dk_42 (dk_at dksX3_copy_0 21 rfl rfl)
theorem dX3_copy_22 : decode cX3_copy 22 = .ok (.getfield 28, 3) := dk_180 0 28 (dk_at dksX3_copy_1 0 rfl rfl)
theorem dX3_copy_25 : decode cX3_copy 25 = .ok (.iload_n 1, 1) := dk_27 (dk_at dksX3_copy_1 3 rfl rfl)
theorem dX3_copy_26 : decode cX3_copy 26 = .ok (.iaload, 1) := dk_46 (dk_at dksX3_copy_1 4 rfl rfl)
theorem dX3_copy_27 : decode cX3_copy 27 = .ok (.ifCond .eq 12, 3) := dk_153 0 12 (dk_at dksX3_copy_1 5 rfl rfl)
theorem dX3_copy_30 : decode cX3_copy 30 = .ok (.aload_n 0, 1) := dk_42 (dk_at dksX3_copy_1 8 rfl rfl)
theorem dX3_copy_31 : decode cX3_copy 31 = .ok (.getfield 28, 3) := dk_180 0 28 (dk_at dksX3_copy_1 9 rfl rfl)
theorem dX3_copy_34 : decode cX3_copy 34 = .ok (.iload_n 3, 1) := dk_29 (dk_at dksX3_copy_1 12 rfl rfl)
theorem dX3_copy_35 : decode cX3_copy 35 = .ok (.iaload, 1) := dk_46 (dk_at dksX3_copy_1 13 rfl rfl)
theorem dX3_copy_36 : decode cX3_copy 36 = .ok (.ifCond .ne 11, 3) := dk_154 0 11 (dk_at dksX3_copy_1 14 rfl rfl)
theorem dX3_copy_39 : decode cX3_copy 39 = .ok (.aload_n 0, 1) := dk_42 (dk_at dksX3_copy_1 17 rfl rfl)
theorem dX3_copy_40 : decode cX3_copy 40 = .ok (.ldc_w 317, 3) := dk_19 1 61 (dk_at dksX3_copy_1 18 rfl rfl)
theorem dX3_copy_43 : decode cX3_copy 43 = .ok (.invokevirtual 74, 3) := dk_182 0 74 (dk_at dksX3_copy_1 21 rfl rfl)
theorem dX3_copy_46 : decode cX3_copy 46 = .ok (.ireturn, 1) := dk_172 (dk_at dksX3_copy_2 0 rfl rfl)
theorem dX3_copy_47 : decode cX3_copy 47 = .ok (.aload_n 0, 1) := dk_42 (dk_at dksX3_copy_2 1 rfl rfl)
theorem dX3_copy_48 : decode cX3_copy 48 = .ok (.getfield 28, 3) := dk_180 0 28 (dk_at dksX3_copy_2 2 rfl rfl)
theorem dX3_copy_51 : decode cX3_copy 51 = .ok (.iload_n 1, 1) := dk_27 (dk_at dksX3_copy_2 5 rfl rfl)
theorem dX3_copy_52 : decode cX3_copy 52 = .ok (.iaload, 1) := dk_46 (dk_at dksX3_copy_2 6 rfl rfl)
theorem dX3_copy_53 : decode cX3_copy 53 = .ok (.aload_n 0, 1) := dk_42 (dk_at dksX3_copy_2 7 rfl rfl)
theorem dX3_copy_54 : decode cX3_copy 54 = .ok (.getfield 28, 3) := dk_180 0 28 (dk_at dksX3_copy_2 8 rfl rfl)
theorem dX3_copy_57 : decode cX3_copy 57 = .ok (.iload_n 3, 1) := dk_29 (dk_at dksX3_copy_2 11 rfl rfl)
theorem dX3_copy_58 : decode cX3_copy 58 = .ok (.iaload, 1) := dk_46 (dk_at dksX3_copy_2 12 rfl rfl)
theorem dX3_copy_59 : decode cX3_copy 59 = .ok (.if_icmp .eq 10, 3) := dk_159 0 10 (dk_at dksX3_copy_2 13 rfl rfl)
theorem dX3_copy_62 : decode cX3_copy 62 = .ok (.aload_n 0, 1) := dk_42 (dk_at dksX3_copy_2 16 rfl rfl)
theorem dX3_copy_63 : decode cX3_copy 63 = .ok (.ldc 121, 2) := dk_18 121 (dk_at dksX3_copy_2 17 rfl rfl)
theorem dX3_copy_65 : decode cX3_copy 65 = .ok (.invokevirtual 74, 3) := dk_182 0 74 (dk_at dksX3_copy_2 19 rfl rfl)
theorem dX3_copy_68 : decode cX3_copy 68 = .ok (.ireturn, 1) := dk_172 (dk_at dksX3_copy_2 22 rfl rfl)
theorem dX3_copy_69 : decode cX3_copy 69 = .ok (.iload_n 2, 1) := dk_28 (dk_at dksX3_copy_2 23 rfl rfl)
theorem dX3_copy_70 : decode cX3_copy 70 = .ok (.ifCond .lt 40, 3) := dk_155 0 40 (dk_at dksX3_copy_3 0 rfl rfl)
theorem dX3_copy_73 : decode cX3_copy 73 = .ok (.iload 4, 2) := dk_21 4 (dk_at dksX3_copy_3 3 rfl rfl)
theorem dX3_copy_75 : decode cX3_copy 75 = .ok (.ifCond .lt 35, 3) := dk_155 0 35 (dk_at dksX3_copy_3 5 rfl rfl)
theorem dX3_copy_78 : decode cX3_copy 78 = .ok (.iload 5, 2) := dk_21 5 (dk_at dksX3_copy_3 8 rfl rfl)
theorem dX3_copy_80 : decode cX3_copy 80 = .ok (.ifCond .lt 30, 3) := dk_155 0 30 (dk_at dksX3_copy_3 10 rfl rfl)
theorem dX3_copy_83 : decode cX3_copy 83 = .ok (.iload 5, 2) := dk_21 5 (dk_at dksX3_copy_3 13 rfl rfl)
theorem dX3_copy_85 : decode cX3_copy 85 = .ok (.aload_n 0, 1) := dk_42 (dk_at dksX3_copy_3 15 rfl rfl)
theorem dX3_copy_86 : decode cX3_copy 86 = .ok (.getfield 31, 3) := dk_180 0 31 (dk_at dksX3_copy_3 16 rfl rfl)
theorem dX3_copy_89 : decode cX3_copy 89 = .ok (.iload_n 1, 1) := dk_27 (dk_at dksX3_copy_3 19 rfl rfl)
theorem dX3_copy_90 : decode cX3_copy 90 = .ok (.iaload, 1) := dk_46 (dk_at dksX3_copy_3 20 rfl rfl)
theorem dX3_copy_91 : decode cX3_copy 91 = .ok (.iload_n 2, 1) := dk_28 (dk_at dksX3_copy_3 21 rfl rfl)
theorem dX3_copy_92 : decode cX3_copy 92 = .ok (.isub, 1) := dk_100 (dk_at dksX3_copy_3 22 rfl rfl)
theorem dX3_copy_93 : decode cX3_copy 93 = .ok (.if_icmp .gt 17, 3) := dk_163 0 17 (dk_at dksX3_copy_4 0 rfl rfl)
theorem dX3_copy_96 : decode cX3_copy 96 = .ok (.iload 5, 2) := dk_21 5 (dk_at dksX3_copy_4 3 rfl rfl)
theorem dX3_copy_98 : decode cX3_copy 98 = .ok (.aload_n 0, 1) := dk_42 (dk_at dksX3_copy_4 5 rfl rfl)
theorem dX3_copy_99 : decode cX3_copy 99 = .ok (.getfield 31, 3) := dk_180 0 31 (dk_at dksX3_copy_4 6 rfl rfl)
theorem dX3_copy_102 : decode cX3_copy 102 = .ok (.iload_n 3, 1) := dk_29 (dk_at dksX3_copy_4 9 rfl rfl)
theorem dX3_copy_103 : decode cX3_copy 103 = .ok (.iaload, 1) := dk_46 (dk_at dksX3_copy_4 10 rfl rfl)
theorem dX3_copy_104 : decode cX3_copy 104 = .ok (.iload 4, 2) := dk_21 4 (dk_at dksX3_copy_4 11 rfl rfl)
theorem dX3_copy_106 : decode cX3_copy 106 = .ok (.isub, 1) := dk_100 (dk_at dksX3_copy_4 13 rfl rfl)
theorem dX3_copy_107 : decode cX3_copy 107 = .ok (.if_icmp .le 10, 3) := dk_164 0 10 (dk_at dksX3_copy_4 14 rfl rfl)
theorem dX3_copy_110 : decode cX3_copy 110 = .ok (.aload_n 0, 1) := dk_42 (dk_at dksX3_copy_4 17 rfl rfl)
theorem dX3_copy_111 : decode cX3_copy 111 = .ok (.ldc 45, 2) := dk_18 45 (dk_at dksX3_copy_4 18 rfl rfl)
theorem dX3_copy_113 : decode cX3_copy 113 = .ok (.invokevirtual 74, 3) := dk_182 0 74 (dk_at dksX3_copy_4 20 rfl rfl)
theorem dX3_copy_116 : decode cX3_copy 116 = .ok (.ireturn, 1) := dk_172 (dk_at dksX3_copy_4 23 rfl rfl)
theorem dX3_copy_117 : decode cX3_copy 117 = .ok (.iconst 0, 1) := dk_3 (dk_at dksX3_copy_5 0 rfl rfl)
theorem dX3_copy_118 : decode cX3_copy 118 = .ok (.istore 6, 2) := dk_54 6 (dk_at dksX3_copy_5 1 rfl rfl)
theorem dX3_copy_120 : decode cX3_copy 120 = .ok (.iload 6, 2) := dk_21 6 (dk_at dksX3_copy_5 3 rfl rfl)
theorem dX3_copy_122 : decode cX3_copy 122 = .ok (.iload 5, 2) := dk_21 5 (dk_at dksX3_copy_5 5 rfl rfl)
theorem dX3_copy_124 : decode cX3_copy 124 = .ok (.if_icmp .ge 30, 3) := dk_162 0 30 (dk_at dksX3_copy_5 7 rfl rfl)
theorem dX3_copy_127 : decode cX3_copy 127 = .ok (.aload_n 0, 1) := dk_42 (dk_at dksX3_copy_5 10 rfl rfl)
theorem dX3_copy_128 : decode cX3_copy 128 = .ok (.getfield 38, 3) := dk_180 0 38 (dk_at dksX3_copy_5 11 rfl rfl)
theorem dX3_copy_131 : decode cX3_copy 131 = .ok (.iload 6, 2) := dk_21 6 (dk_at dksX3_copy_5 14 rfl rfl)
theorem dX3_copy_133 : decode cX3_copy 133 = .ok (.aload_n 0, 1) := dk_42 (dk_at dksX3_copy_5 16 rfl rfl)
theorem dX3_copy_134 : decode cX3_copy 134 = .ok (.getfield 34, 3) := dk_180 0 34 (dk_at dksX3_copy_5 17 rfl rfl)
theorem dX3_copy_137 : decode cX3_copy 137 = .ok (.bipush 40, 2) := dk_16 40 (dk_at dksX3_copy_5 20 rfl rfl)
theorem dX3_copy_139 : decode cX3_copy 139 = .ok (.iload_n 1, 1) := dk_27 (dk_at dksX3_copy_5 22 rfl rfl)
theorem dX3_copy_140 : decode cX3_copy 140 = .ok (.imul, 1) := dk_104 (dk_at dksX3_copy_5 23 rfl rfl)
theorem dX3_copy_141 : decode cX3_copy 141 = .ok (.iload_n 2, 1) := dk_28 (dk_at dksX3_copy_6 0 rfl rfl)
theorem dX3_copy_142 : decode cX3_copy 142 = .ok (.iadd, 1) := dk_96 (dk_at dksX3_copy_6 1 rfl rfl)
theorem dX3_copy_143 : decode cX3_copy 143 = .ok (.iload 6, 2) := dk_21 6 (dk_at dksX3_copy_6 2 rfl rfl)
theorem dX3_copy_145 : decode cX3_copy 145 = .ok (.iadd, 1) := dk_96 (dk_at dksX3_copy_6 4 rfl rfl)
theorem dX3_copy_146 : decode cX3_copy 146 = .ok (.laload, 1) := dk_47 (dk_at dksX3_copy_6 5 rfl rfl)
theorem dX3_copy_147 : decode cX3_copy 147 = .ok (.lastore, 1) := dk_80 (dk_at dksX3_copy_6 6 rfl rfl)
theorem dX3_copy_148 : decode cX3_copy 148 = .ok (.iinc 6 1, 3) := dk_132 6 1 (dk_at dksX3_copy_6 7 rfl rfl)
theorem dX3_copy_151 : decode cX3_copy 151 = .ok (.goto (-31), 3) := dk_167 255 225 (dk_at dksX3_copy_6 10 rfl rfl)
theorem dX3_copy_154 : decode cX3_copy 154 = .ok (.iconst 0, 1) := dk_3 (dk_at dksX3_copy_6 13 rfl rfl)
theorem dX3_copy_155 : decode cX3_copy 155 = .ok (.istore 6, 2) := dk_54 6 (dk_at dksX3_copy_6 14 rfl rfl)
theorem dX3_copy_157 : decode cX3_copy 157 = .ok (.iload 6, 2) := dk_21 6 (dk_at dksX3_copy_6 16 rfl rfl)
theorem dX3_copy_159 : decode cX3_copy 159 = .ok (.iload 5, 2) := dk_21 5 (dk_at dksX3_copy_6 18 rfl rfl)
theorem dX3_copy_161 : decode cX3_copy 161 = .ok (.if_icmp .ge 31, 3) := dk_162 0 31 (dk_at dksX3_copy_6 20 rfl rfl)
theorem dX3_copy_164 : decode cX3_copy 164 = .ok (.aload_n 0, 1) := dk_42 (dk_at dksX3_copy_6 23 rfl rfl)
theorem dX3_copy_165 : decode cX3_copy 165 = .ok (.getfield 34, 3) := dk_180 0 34 (dk_at dksX3_copy_7 0 rfl rfl)
theorem dX3_copy_168 : decode cX3_copy 168 = .ok (.bipush 40, 2) := dk_16 40 (dk_at dksX3_copy_7 3 rfl rfl)
theorem dX3_copy_170 : decode cX3_copy 170 = .ok (.iload_n 3, 1) := dk_29 (dk_at dksX3_copy_7 5 rfl rfl)
theorem dX3_copy_171 : decode cX3_copy 171 = .ok (.imul, 1) := dk_104 (dk_at dksX3_copy_7 6 rfl rfl)
theorem dX3_copy_172 : decode cX3_copy 172 = .ok (.iload 4, 2) := dk_21 4 (dk_at dksX3_copy_7 7 rfl rfl)
theorem dX3_copy_174 : decode cX3_copy 174 = .ok (.iadd, 1) := dk_96 (dk_at dksX3_copy_7 9 rfl rfl)
theorem dX3_copy_175 : decode cX3_copy 175 = .ok (.iload 6, 2) := dk_21 6 (dk_at dksX3_copy_7 10 rfl rfl)
theorem dX3_copy_177 : decode cX3_copy 177 = .ok (.iadd, 1) := dk_96 (dk_at dksX3_copy_7 12 rfl rfl)
theorem dX3_copy_178 : decode cX3_copy 178 = .ok (.aload_n 0, 1) := dk_42 (dk_at dksX3_copy_7 13 rfl rfl)
theorem dX3_copy_179 : decode cX3_copy 179 = .ok (.getfield 38, 3) := dk_180 0 38 (dk_at dksX3_copy_7 14 rfl rfl)
theorem dX3_copy_182 : decode cX3_copy 182 = .ok (.iload 6, 2) := dk_21 6 (dk_at dksX3_copy_7 17 rfl rfl)
theorem dX3_copy_184 : decode cX3_copy 184 = .ok (.laload, 1) := dk_47 (dk_at dksX3_copy_7 19 rfl rfl)
theorem dX3_copy_185 : decode cX3_copy 185 = .ok (.lastore, 1) := dk_80 (dk_at dksX3_copy_7 20 rfl rfl)
theorem dX3_copy_186 : decode cX3_copy 186 = .ok (.iinc 6 1, 3) := dk_132 6 1 (dk_at dksX3_copy_7 21 rfl rfl)
theorem dX3_copy_189 : decode cX3_copy 189 = .ok (.goto (-32), 3) := dk_167 255 224 (dk_at dksX3_copy_8 0 rfl rfl)
theorem dX3_copy_192 : decode cX3_copy 192 = .ok (.iload 5, 2) := dk_21 5 (dk_at dksX3_copy_8 3 rfl rfl)
theorem dX3_copy_194 : decode cX3_copy 194 = .ok (.ireturn, 1) := dk_172 (dk_at dksX3_copy_8 5 rfl rfl)
abbrev cX3_lays : ByteArray := prog_17_method_97_code
def yX3_lays : MethodName := ⟨RX3, "lays", "(I)I"⟩
def dkwX3_lays_5 : List UInt8 := [29, 172]
abbrev dktX3_lays_5 : List UInt8 := dkwX3_lays_5 ++ []
def dkwX3_lays_4 : List UInt8 := [5, 182, 0, 84, 79, 29, 21, 5, 153, 0, 7, 4, 167, 0, 4, 3, 96, 62, 132, 4, 1, 167, 255, 162]
abbrev dktX3_lays_4 : List UInt8 := dkwX3_lays_4 ++ dktX3_lays_5
def dkwX3_lays_3 : List UInt8 := [21, 5, 153, 0, 19, 42, 180, 0, 34, 16, 40, 27, 104, 21, 4, 96, 47, 136, 167, 0, 10, 42, 21, 4]
abbrev dktX3_lays_3 : List UInt8 := dkwX3_lays_3 ++ dktX3_lays_4
def dkwX3_lays_2 : List UInt8 := [21, 4, 96, 47, 9, 20, 0, 65, 184, 0, 48, 54, 5, 42, 180, 0, 7, 21, 4, 5, 184, 0, 41]
abbrev dktX3_lays_2 : List UInt8 := dkwX3_lays_2 ++ dktX3_lays_3
def dkwX3_lays_1 : List UInt8 := [180, 0, 31, 27, 46, 162, 0, 89, 21, 4, 16, 8, 162, 0, 82, 42, 180, 0, 34, 16, 40, 27, 104]
abbrev dktX3_lays_1 : List UInt8 := dkwX3_lays_1 ++ dktX3_lays_2
def dkwX3_lays_0 : List UInt8 := [42, 27, 182, 1, 62, 61, 28, 153, 0, 9, 42, 28, 182, 0, 74, 172, 3, 62, 3, 54, 4, 21, 4, 42]
abbrev dktX3_lays_0 : List UInt8 := dkwX3_lays_0 ++ dktX3_lays_1
theorem dksX3_lays_0 : cX3_lays.data.toList.drop 0 = dktX3_lays_0 := by decide +kernel
theorem dksX3_lays_1 : cX3_lays.data.toList.drop 24 = dktX3_lays_1 := dk_seg dksX3_lays_0 24 rfl rfl
theorem dksX3_lays_2 : cX3_lays.data.toList.drop 47 = dktX3_lays_2 := dk_seg dksX3_lays_1 23 rfl rfl
theorem dksX3_lays_3 : cX3_lays.data.toList.drop 70 = dktX3_lays_3 := dk_seg dksX3_lays_2 23 rfl rfl
theorem dksX3_lays_4 : cX3_lays.data.toList.drop 94 = dktX3_lays_4 := dk_seg dksX3_lays_3 24 rfl rfl
theorem dksX3_lays_5 : cX3_lays.data.toList.drop 118 = dktX3_lays_5 := dk_seg dksX3_lays_4 24 rfl rfl
theorem dX3_lays_0 : decode cX3_lays 0 = .ok (.aload_n 0, 1) := dk_42 (dk_at dksX3_lays_0 0 rfl rfl)
theorem dX3_lays_1 : decode cX3_lays 1 = .ok (.iload_n 1, 1) := dk_27 (dk_at dksX3_lays_0 1 rfl rfl)
theorem dX3_lays_2 : decode cX3_lays 2 = .ok (.invokevirtual 318, 3) := dk_182 1 62 (dk_at dksX3_lays_0 2 rfl rfl)
theorem dX3_lays_5 : decode cX3_lays 5 = .ok (.istore_n 2, 1) := dk_61 (dk_at dksX3_lays_0 5 rfl rfl)
theorem dX3_lays_6 : decode cX3_lays 6 = .ok (.iload_n 2, 1) := dk_28 (dk_at dksX3_lays_0 6 rfl rfl)
theorem dX3_lays_7 : decode cX3_lays 7 = .ok (.ifCond .eq 9, 3) := dk_153 0 9 (dk_at dksX3_lays_0 7 rfl rfl)
theorem dX3_lays_10 : decode cX3_lays 10 = .ok (.aload_n 0, 1) := dk_42 (dk_at dksX3_lays_0 10 rfl rfl)
theorem dX3_lays_11 : decode cX3_lays 11 = .ok (.iload_n 2, 1) := dk_28 (dk_at dksX3_lays_0 11 rfl rfl)
theorem dX3_lays_12 : decode cX3_lays 12 = .ok (.invokevirtual 74, 3) := dk_182 0 74 (dk_at dksX3_lays_0 12 rfl rfl)
theorem dX3_lays_15 : decode cX3_lays 15 = .ok (.ireturn, 1) := dk_172 (dk_at dksX3_lays_0 15 rfl rfl)
theorem dX3_lays_16 : decode cX3_lays 16 = .ok (.iconst 0, 1) := dk_3 (dk_at dksX3_lays_0 16 rfl rfl)
theorem dX3_lays_17 : decode cX3_lays 17 = .ok (.istore_n 3, 1) := dk_62 (dk_at dksX3_lays_0 17 rfl rfl)
theorem dX3_lays_18 : decode cX3_lays 18 = .ok (.iconst 0, 1) := dk_3 (dk_at dksX3_lays_0 18 rfl rfl)
theorem dX3_lays_19 : decode cX3_lays 19 = .ok (.istore 4, 2) := dk_54 4 (dk_at dksX3_lays_0 19 rfl rfl)
theorem dX3_lays_21 : decode cX3_lays 21 = .ok (.iload 4, 2) := dk_21 4 (dk_at dksX3_lays_0 21 rfl rfl)
theorem dX3_lays_23 : decode cX3_lays 23 = .ok (.aload_n 0, 1) := dk_42 (dk_at dksX3_lays_0 23 rfl rfl)
theorem dX3_lays_24 : decode cX3_lays 24 = .ok (.getfield 31, 3) := dk_180 0 31 (dk_at dksX3_lays_1 0 rfl rfl)
theorem dX3_lays_27 : decode cX3_lays 27 = .ok (.iload_n 1, 1) := dk_27 (dk_at dksX3_lays_1 3 rfl rfl)
theorem dX3_lays_28 : decode cX3_lays 28 = .ok (.iaload, 1) := dk_46 (dk_at dksX3_lays_1 4 rfl rfl)
theorem dX3_lays_29 : decode cX3_lays 29 = .ok (.if_icmp .ge 89, 3) := dk_162 0 89 (dk_at dksX3_lays_1 5 rfl rfl)
theorem dX3_lays_32 : decode cX3_lays 32 = .ok (.iload 4, 2) := dk_21 4 (dk_at dksX3_lays_1 8 rfl rfl)
theorem dX3_lays_34 : decode cX3_lays 34 = .ok (.bipush 8, 2) := dk_16 8 (dk_at dksX3_lays_1 10 rfl rfl)
theorem dX3_lays_36 : decode cX3_lays 36 = .ok (.if_icmp .ge 82, 3) := dk_162 0 82 (dk_at dksX3_lays_1 12 rfl rfl)
theorem dX3_lays_39 : decode cX3_lays 39 = .ok (.aload_n 0, 1) := dk_42 (dk_at dksX3_lays_1 15 rfl rfl)
theorem dX3_lays_40 : decode cX3_lays 40 = .ok (.getfield 34, 3) := dk_180 0 34 (dk_at dksX3_lays_1 16 rfl rfl)
theorem dX3_lays_43 : decode cX3_lays 43 = .ok (.bipush 40, 2) := dk_16 40 (dk_at dksX3_lays_1 19 rfl rfl)
theorem dX3_lays_45 : decode cX3_lays 45 = .ok (.iload_n 1, 1) := dk_27 (dk_at dksX3_lays_1 21 rfl rfl)
theorem dX3_lays_46 : decode cX3_lays 46 = .ok (.imul, 1) := dk_104 (dk_at dksX3_lays_1 22 rfl rfl)
theorem dX3_lays_47 : decode cX3_lays 47 = .ok (.iload 4, 2) := dk_21 4 (dk_at dksX3_lays_2 0 rfl rfl)
theorem dX3_lays_49 : decode cX3_lays 49 = .ok (.iadd, 1) := dk_96 (dk_at dksX3_lays_2 2 rfl rfl)
theorem dX3_lays_50 : decode cX3_lays 50 = .ok (.laload, 1) := dk_47 (dk_at dksX3_lays_2 3 rfl rfl)
theorem dX3_lays_51 : decode cX3_lays 51 = .ok (.lconst 0, 1) := dk_9 (dk_at dksX3_lays_2 4 rfl rfl)
theorem dX3_lays_52 : decode cX3_lays 52 = .ok (.ldc2_w 65, 3) := dk_20 0 65 (dk_at dksX3_lays_2 5 rfl rfl)
theorem dX3_lays_55 : decode cX3_lays 55 = .ok (.invokestatic 48, 3) := dk_184 0 48 (dk_at dksX3_lays_2 8 rfl rfl)
theorem dX3_lays_58 : decode cX3_lays 58 = .ok (.istore 5, 2) := dk_54 5 (dk_at dksX3_lays_2 11 rfl rfl)
theorem dX3_lays_60 : decode cX3_lays 60 = .ok (.aload_n 0, 1) := dk_42 (dk_at dksX3_lays_2 13 rfl rfl)
theorem dX3_lays_61 : decode cX3_lays 61 = .ok (.getfield 7, 3) := dk_180 0 7 (dk_at dksX3_lays_2 14 rfl rfl)
theorem dX3_lays_64 : decode cX3_lays 64 = .ok (.iload 4, 2) := dk_21 4 (dk_at dksX3_lays_2 17 rfl rfl)
theorem dX3_lays_66 : decode cX3_lays 66 = .ok (.iconst 2, 1) := dk_5 (dk_at dksX3_lays_2 19 rfl rfl)
theorem dX3_lays_67 : decode cX3_lays 67 = .ok (.invokestatic 41, 3) := dk_184 0 41 (dk_at dksX3_lays_2 20 rfl rfl)
theorem dX3_lays_70 : decode cX3_lays 70 = .ok (.iload 5, 2) := dk_21 5 (dk_at dksX3_lays_3 0 rfl rfl)
theorem dX3_lays_72 : decode cX3_lays 72 = .ok (.ifCond .eq 19, 3) := dk_153 0 19 (dk_at dksX3_lays_3 2 rfl rfl)
theorem dX3_lays_75 : decode cX3_lays 75 = .ok (.aload_n 0, 1) := dk_42 (dk_at dksX3_lays_3 5 rfl rfl)
theorem dX3_lays_76 : decode cX3_lays 76 = .ok (.getfield 34, 3) := dk_180 0 34 (dk_at dksX3_lays_3 6 rfl rfl)
theorem dX3_lays_79 : decode cX3_lays 79 = .ok (.bipush 40, 2) := dk_16 40 (dk_at dksX3_lays_3 9 rfl rfl)
theorem dX3_lays_81 : decode cX3_lays 81 = .ok (.iload_n 1, 1) := dk_27 (dk_at dksX3_lays_3 11 rfl rfl)
theorem dX3_lays_82 : decode cX3_lays 82 = .ok (.imul, 1) := dk_104 (dk_at dksX3_lays_3 12 rfl rfl)
theorem dX3_lays_83 : decode cX3_lays 83 = .ok (.iload 4, 2) := dk_21 4 (dk_at dksX3_lays_3 13 rfl rfl)
theorem dX3_lays_85 : decode cX3_lays 85 = .ok (.iadd, 1) := dk_96 (dk_at dksX3_lays_3 15 rfl rfl)
theorem dX3_lays_86 : decode cX3_lays 86 = .ok (.laload, 1) := dk_47 (dk_at dksX3_lays_3 16 rfl rfl)
theorem dX3_lays_87 : decode cX3_lays 87 = .ok (.l2i, 1) := dk_136 (dk_at dksX3_lays_3 17 rfl rfl)
theorem dX3_lays_88 : decode cX3_lays 88 = .ok (.goto 10, 3) := dk_167 0 10 (dk_at dksX3_lays_3 18 rfl rfl)
theorem dX3_lays_91 : decode cX3_lays 91 = .ok (.aload_n 0, 1) := dk_42 (dk_at dksX3_lays_3 21 rfl rfl)
theorem dX3_lays_92 : decode cX3_lays 92 = .ok (.iload 4, 2) := dk_21 4 (dk_at dksX3_lays_3 22 rfl rfl)
theorem dX3_lays_94 : decode cX3_lays 94 = .ok (.iconst 2, 1) := dk_5 (dk_at dksX3_lays_4 0 rfl rfl)
theorem dX3_lays_95 : decode cX3_lays 95 = .ok (.invokevirtual 84, 3) := dk_182 0 84 (dk_at dksX3_lays_4 1 rfl rfl)
theorem dX3_lays_98 : decode cX3_lays 98 = .ok (.iastore, 1) := dk_79 (dk_at dksX3_lays_4 4 rfl rfl)
theorem dX3_lays_99 : decode cX3_lays 99 = .ok (.iload_n 3, 1) := dk_29 (dk_at dksX3_lays_4 5 rfl rfl)
theorem dX3_lays_100 : decode cX3_lays 100 = .ok (.iload 5, 2) := dk_21 5 (dk_at dksX3_lays_4 6 rfl rfl)
theorem dX3_lays_102 : decode cX3_lays 102 = .ok (.ifCond .eq 7, 3) := dk_153 0 7 (dk_at dksX3_lays_4 8 rfl rfl)
theorem dX3_lays_105 : decode cX3_lays 105 = .ok (.iconst 1, 1) := dk_4 (dk_at dksX3_lays_4 11 rfl rfl)
theorem dX3_lays_106 : decode cX3_lays 106 = .ok (.goto 4, 3) := dk_167 0 4 (dk_at dksX3_lays_4 12 rfl rfl)
theorem dX3_lays_109 : decode cX3_lays 109 = .ok (.iconst 0, 1) := dk_3 (dk_at dksX3_lays_4 15 rfl rfl)
theorem dX3_lays_110 : decode cX3_lays 110 = .ok (.iadd, 1) := dk_96 (dk_at dksX3_lays_4 16 rfl rfl)
theorem dX3_lays_111 : decode cX3_lays 111 = .ok (.istore_n 3, 1) := dk_62 (dk_at dksX3_lays_4 17 rfl rfl)
theorem dX3_lays_112 : decode cX3_lays 112 = .ok (.iinc 4 1, 3) := dk_132 4 1 (dk_at dksX3_lays_4 18 rfl rfl)
theorem dX3_lays_115 : decode cX3_lays 115 = .ok (.goto (-94), 3) := dk_167 255 162 (dk_at dksX3_lays_4 21 rfl rfl)
theorem dX3_lays_118 : decode cX3_lays 118 = .ok (.iload_n 3, 1) := dk_29 (dk_at dksX3_lays_5 0 rfl rfl)
theorem dX3_lays_119 : decode cX3_lays 119 = .ok (.ireturn, 1) := dk_172 (dk_at dksX3_lays_5 1 rfl rfl)
abbrev cX3_book : ByteArray := prog_17_method_99_code
def yX3_book : MethodName := ⟨RX3, "book", "(II)I"⟩
def dkwX3_book_3 : List UInt8 := [167, 255, 210, 42, 42, 180, 0, 31, 27, 46, 182, 0, 187, 172]
abbrev dktX3_book_3 : List UInt8 := dkwX3_book_3 ++ []
def dkwX3_book_2 : List UInt8 := [180, 0, 28, 27, 46, 42, 28, 4, 182, 0, 84, 133, 184, 1, 65, 80, 42, 182, 0, 163, 132, 4, 1]
abbrev dktX3_book_2 : List UInt8 := dkwX3_book_2 ++ dktX3_book_3
def dkwX3_book_1 : List UInt8 := [21, 4, 42, 180, 0, 31, 27, 46, 162, 0, 41, 42, 180, 0, 34, 16, 40, 27, 104, 21, 4, 96, 42]
abbrev dktX3_book_1 : List UInt8 := dkwX3_book_1 ++ dktX3_book_2
def dkwX3_book_0 : List UInt8 := [42, 27, 28, 182, 1, 69, 62, 29, 153, 0, 9, 42, 29, 182, 0, 74, 172, 42, 182, 0, 184, 3, 54, 4]
abbrev dktX3_book_0 : List UInt8 := dkwX3_book_0 ++ dktX3_book_1
theorem dksX3_book_0 : cX3_book.data.toList.drop 0 = dktX3_book_0 := by decide +kernel
theorem dksX3_book_1 : cX3_book.data.toList.drop 24 = dktX3_book_1 := dk_seg dksX3_book_0 24 rfl rfl
theorem dksX3_book_2 : cX3_book.data.toList.drop 47 = dktX3_book_2 := dk_seg dksX3_book_1 23 rfl rfl
theorem dksX3_book_3 : cX3_book.data.toList.drop 70 = dktX3_book_3 := dk_seg dksX3_book_2 23 rfl rfl
theorem dX3_book_0 : decode cX3_book 0 = .ok (.aload_n 0, 1) := dk_42 (dk_at dksX3_book_0 0 rfl rfl)
theorem dX3_book_1 : decode cX3_book 1 = .ok (.iload_n 1, 1) := dk_27 (dk_at dksX3_book_0 1 rfl rfl)
theorem dX3_book_2 : decode cX3_book 2 = .ok (.iload_n 2, 1) := dk_28 (dk_at dksX3_book_0 2 rfl rfl)
theorem dX3_book_3 : decode cX3_book 3 = .ok (.invokevirtual 325, 3) := dk_182 1 69 (dk_at dksX3_book_0 3 rfl rfl)
theorem dX3_book_6 : decode cX3_book 6 = .ok (.istore_n 3, 1) := dk_62 (dk_at dksX3_book_0 6 rfl rfl)
theorem dX3_book_7 : decode cX3_book 7 = .ok (.iload_n 3, 1) := dk_29 (dk_at dksX3_book_0 7 rfl rfl)
theorem dX3_book_8 : decode cX3_book 8 = .ok (.ifCond .eq 9, 3) := dk_153 0 9 (dk_at dksX3_book_0 8 rfl rfl)
theorem dX3_book_11 : decode cX3_book 11 = .ok (.aload_n 0, 1) := dk_42 (dk_at dksX3_book_0 11 rfl rfl)
theorem dX3_book_12 : decode cX3_book 12 = .ok (.iload_n 3, 1) := dk_29 (dk_at dksX3_book_0 12 rfl rfl)
theorem dX3_book_13 : decode cX3_book 13 = .ok (.invokevirtual 74, 3) := dk_182 0 74 (dk_at dksX3_book_0 13 rfl rfl)
theorem dX3_book_16 : decode cX3_book 16 = .ok (.ireturn, 1) := dk_172 (dk_at dksX3_book_0 16 rfl rfl)
theorem dX3_book_17 : decode cX3_book 17 = .ok (.aload_n 0, 1) := dk_42 (dk_at dksX3_book_0 17 rfl rfl)
theorem dX3_book_18 : decode cX3_book 18 = .ok (.invokevirtual 184, 3) := dk_182 0 184 (dk_at dksX3_book_0 18 rfl rfl)
theorem dX3_book_21 : decode cX3_book 21 = .ok (.iconst 0, 1) := dk_3 (dk_at dksX3_book_0 21 rfl rfl)
theorem dX3_book_22 : decode cX3_book 22 = .ok (.istore 4, 2) := dk_54 4 (dk_at dksX3_book_0 22 rfl rfl)
theorem dX3_book_24 : decode cX3_book 24 = .ok (.iload 4, 2) := dk_21 4 (dk_at dksX3_book_1 0 rfl rfl)
theorem dX3_book_26 : decode cX3_book 26 = .ok (.aload_n 0, 1) := dk_42 (dk_at dksX3_book_1 2 rfl rfl)
theorem dX3_book_27 : decode cX3_book 27 = .ok (.getfield 31, 3) := dk_180 0 31 (dk_at dksX3_book_1 3 rfl rfl)
theorem dX3_book_30 : decode cX3_book 30 = .ok (.iload_n 1, 1) := dk_27 (dk_at dksX3_book_1 6 rfl rfl)
theorem dX3_book_31 : decode cX3_book 31 = .ok (.iaload, 1) := dk_46 (dk_at dksX3_book_1 7 rfl rfl)
theorem dX3_book_32 : decode cX3_book 32 = .ok (.if_icmp .ge 41, 3) := dk_162 0 41 (dk_at dksX3_book_1 8 rfl rfl)
theorem dX3_book_35 : decode cX3_book 35 = .ok (.aload_n 0, 1) := dk_42 (dk_at dksX3_book_1 11 rfl rfl)
theorem dX3_book_36 : decode cX3_book 36 = .ok (.getfield 34, 3) := dk_180 0 34 (dk_at dksX3_book_1 12 rfl rfl)
theorem dX3_book_39 : decode cX3_book 39 = .ok (.bipush 40, 2) := dk_16 40 (dk_at dksX3_book_1 15 rfl rfl)
theorem dX3_book_41 : decode cX3_book 41 = .ok (.iload_n 1, 1) := dk_27 (dk_at dksX3_book_1 17 rfl rfl)
theorem dX3_book_42 : decode cX3_book 42 = .ok (.imul, 1) := dk_104 (dk_at dksX3_book_1 18 rfl rfl)
theorem dX3_book_43 : decode cX3_book 43 = .ok (.iload 4, 2) := dk_21 4 (dk_at dksX3_book_1 19 rfl rfl)
theorem dX3_book_45 : decode cX3_book 45 = .ok (.iadd, 1) := dk_96 (dk_at dksX3_book_1 21 rfl rfl)
theorem dX3_book_46 : decode cX3_book 46 = .ok (.aload_n 0, 1) := dk_42 (dk_at dksX3_book_1 22 rfl rfl)
theorem dX3_book_47 : decode cX3_book 47 = .ok (.getfield 28, 3) := dk_180 0 28 (dk_at dksX3_book_2 0 rfl rfl)
theorem dX3_book_50 : decode cX3_book 50 = .ok (.iload_n 1, 1) := dk_27 (dk_at dksX3_book_2 3 rfl rfl)
theorem dX3_book_51 : decode cX3_book 51 = .ok (.iaload, 1) := dk_46 (dk_at dksX3_book_2 4 rfl rfl)
theorem dX3_book_52 : decode cX3_book 52 = .ok (.aload_n 0, 1) := dk_42 (dk_at dksX3_book_2 5 rfl rfl)
theorem dX3_book_53 : decode cX3_book 53 = .ok (.iload_n 2, 1) := dk_28 (dk_at dksX3_book_2 6 rfl rfl)
theorem dX3_book_54 : decode cX3_book 54 = .ok (.iconst 1, 1) := dk_4 (dk_at dksX3_book_2 7 rfl rfl)
theorem dX3_book_55 : decode cX3_book 55 = .ok (.invokevirtual 84, 3) := dk_182 0 84 (dk_at dksX3_book_2 8 rfl rfl)
theorem dX3_book_58 : decode cX3_book 58 = .ok (.i2l, 1) := dk_133 (dk_at dksX3_book_2 11 rfl rfl)
theorem dX3_book_59 : decode cX3_book 59 = .ok (.invokestatic 321, 3) := dk_184 1 65 (dk_at dksX3_book_2 12 rfl rfl)
theorem dX3_book_62 : decode cX3_book 62 = .ok (.lastore, 1) := dk_80 (dk_at dksX3_book_2 15 rfl rfl)
theorem dX3_book_63 : decode cX3_book 63 = .ok (.aload_n 0, 1) := dk_42 (dk_at dksX3_book_2 16 rfl rfl)
theorem dX3_book_64 : decode cX3_book 64 = .ok (.invokevirtual 163, 3) := dk_182 0 163 (dk_at dksX3_book_2 17 rfl rfl)
theorem dX3_book_67 : decode cX3_book 67 = .ok (.iinc 4 1, 3) := dk_132 4 1 (dk_at dksX3_book_2 20 rfl rfl)
theorem dX3_book_70 : decode cX3_book 70 = .ok (.goto (-46), 3) := dk_167 255 210 (dk_at dksX3_book_3 0 rfl rfl)
theorem dX3_book_73 : decode cX3_book 73 = .ok (.aload_n 0, 1) := dk_42 (dk_at dksX3_book_3 3 rfl rfl)
theorem dX3_book_74 : decode cX3_book 74 = .ok (.aload_n 0, 1) := dk_42 (dk_at dksX3_book_3 4 rfl rfl)
theorem dX3_book_75 : decode cX3_book 75 = .ok (.getfield 31, 3) := dk_180 0 31 (dk_at dksX3_book_3 5 rfl rfl)
theorem dX3_book_78 : decode cX3_book 78 = .ok (.iload_n 1, 1) := dk_27 (dk_at dksX3_book_3 8 rfl rfl)
theorem dX3_book_79 : decode cX3_book 79 = .ok (.iaload, 1) := dk_46 (dk_at dksX3_book_3 9 rfl rfl)
theorem dX3_book_80 : decode cX3_book 80 = .ok (.invokevirtual 187, 3) := dk_182 0 187 (dk_at dksX3_book_3 10 rfl rfl)
theorem dX3_book_83 : decode cX3_book 83 = .ok (.ireturn, 1) := dk_172 (dk_at dksX3_book_3 13 rfl rfl)
abbrev cX3_wrongBook : ByteArray := prog_17_method_98_code
def yX3_wrongBook : MethodName := ⟨RX3, "wrongBook", "(II)I"⟩
def dkwX3_wrongBook_1 : List UInt8 := [167, 0, 5, 18, 45, 172]
abbrev dktX3_wrongBook_1 : List UInt8 := dkwX3_wrongBook_1 ++ []
def dkwX3_wrongBook_0 : List UInt8 := [42, 27, 182, 1, 62, 62, 29, 153, 0, 7, 29, 167, 0, 16, 28, 184, 0, 67, 153, 0, 7, 3]
abbrev dktX3_wrongBook_0 : List UInt8 := dkwX3_wrongBook_0 ++ dktX3_wrongBook_1
theorem dksX3_wrongBook_0 : cX3_wrongBook.data.toList.drop 0 = dktX3_wrongBook_0 := by decide +kernel
theorem dksX3_wrongBook_1 : cX3_wrongBook.data.toList.drop 22 = dktX3_wrongBook_1 := dk_seg dksX3_wrongBook_0 22 rfl rfl
theorem dX3_wrongBook_0 : decode cX3_wrongBook 0 = .ok (.aload_n 0, 1) := dk_42 (dk_at dksX3_wrongBook_0 0 rfl rfl)
theorem dX3_wrongBook_1 : decode cX3_wrongBook 1 = .ok (.iload_n 1, 1) := dk_27 (dk_at dksX3_wrongBook_0 1 rfl rfl)
theorem dX3_wrongBook_2 : decode cX3_wrongBook 2 = .ok (.invokevirtual 318, 3) := dk_182 1 62 (dk_at dksX3_wrongBook_0 2 rfl rfl)
theorem dX3_wrongBook_5 : decode cX3_wrongBook 5 = .ok (.istore_n 3, 1) := dk_62 (dk_at dksX3_wrongBook_0 5 rfl rfl)
theorem dX3_wrongBook_6 : decode cX3_wrongBook 6 = .ok (.iload_n 3, 1) := dk_29 (dk_at dksX3_wrongBook_0 6 rfl rfl)
theorem dX3_wrongBook_7 : decode cX3_wrongBook 7 = .ok (.ifCond .eq 7, 3) := dk_153 0 7 (dk_at dksX3_wrongBook_0 7 rfl rfl)
theorem dX3_wrongBook_10 : decode cX3_wrongBook 10 = .ok (.iload_n 3, 1) := dk_29 (dk_at dksX3_wrongBook_0 10 rfl rfl)
theorem dX3_wrongBook_11 : decode cX3_wrongBook 11 = .ok (.goto 16, 3) := dk_167 0 16 (dk_at dksX3_wrongBook_0 11 rfl rfl)
theorem dX3_wrongBook_14 : decode cX3_wrongBook 14 = .ok (.iload_n 2, 1) := dk_28 (dk_at dksX3_wrongBook_0 14 rfl rfl)
theorem dX3_wrongBook_15 : decode cX3_wrongBook 15 = .ok (.invokestatic 67, 3) := dk_184 0 67 (dk_at dksX3_wrongBook_0 15 rfl rfl)
theorem dX3_wrongBook_18 : decode cX3_wrongBook 18 = .ok (.ifCond .eq 7, 3) := dk_153 0 7 (dk_at dksX3_wrongBook_0 18 rfl rfl)
theorem dX3_wrongBook_21 : decode cX3_wrongBook 21 = .ok (.iconst 0, 1) := dk_3 (dk_at dksX3_wrongBook_0 21 rfl rfl)
theorem dX3_wrongBook_22 : decode cX3_wrongBook 22 = .ok (.goto 5, 3) := dk_167 0 5 (dk_at dksX3_wrongBook_1 0 rfl rfl)
theorem dX3_wrongBook_25 : decode cX3_wrongBook 25 = .ok (.ldc 45, 2) := dk_18 45 (dk_at dksX3_wrongBook_1 3 rfl rfl)
theorem dX3_wrongBook_27 : decode cX3_wrongBook 27 = .ok (.ireturn, 1) := dk_172 (dk_at dksX3_wrongBook_1 5 rfl rfl)
abbrev cX3_read : ByteArray := prog_17_method_101_code
def yX3_read : MethodName := ⟨RX3, "read", "(II)I"⟩
def dkwX3_read_4 : List UInt8 := [167, 0, 4, 3, 96, 182, 0, 187, 54, 5, 132, 6, 1, 167, 255, 183, 21, 5, 172]
abbrev dktX3_read_4 : List UInt8 := dkwX3_read_4 ++ []
def dkwX3_read_3 : List UInt8 := [184, 0, 56, 21, 6, 16, 6, 112, 79, 42, 21, 5, 42, 27, 28, 182, 1, 72, 153, 0, 7, 4]
abbrev dktX3_read_3 : List UInt8 := dkwX3_read_3 ++ dktX3_read_4
def dkwX3_read_2 : List UInt8 := [21, 4, 21, 6, 16, 6, 108, 122, 4, 126, 4, 160, 0, 45, 42, 180, 0, 7, 21, 6, 16, 6, 108, 3]
abbrev dktX3_read_2 : List UInt8 := dkwX3_read_2 ++ dktX3_read_3
def dkwX3_read_1 : List UInt8 := [42, 182, 0, 184, 3, 54, 5, 3, 54, 6, 21, 6, 16, 6, 42, 180, 0, 7, 3, 46, 104, 162, 0, 65]
abbrev dktX3_read_1 : List UInt8 := dkwX3_read_1 ++ dktX3_read_2
def dkwX3_read_0 : List UInt8 := [42, 27, 28, 182, 1, 69, 62, 29, 153, 0, 9, 42, 29, 182, 0, 74, 172, 42, 28, 182, 0, 87, 54, 4]
abbrev dktX3_read_0 : List UInt8 := dkwX3_read_0 ++ dktX3_read_1
theorem dksX3_read_0 : cX3_read.data.toList.drop 0 = dktX3_read_0 := by decide +kernel
theorem dksX3_read_1 : cX3_read.data.toList.drop 24 = dktX3_read_1 := dk_seg dksX3_read_0 24 rfl rfl
theorem dksX3_read_2 : cX3_read.data.toList.drop 48 = dktX3_read_2 := dk_seg dksX3_read_1 24 rfl rfl
theorem dksX3_read_3 : cX3_read.data.toList.drop 72 = dktX3_read_3 := dk_seg dksX3_read_2 24 rfl rfl
theorem dksX3_read_4 : cX3_read.data.toList.drop 94 = dktX3_read_4 := dk_seg dksX3_read_3 22 rfl rfl
theorem dX3_read_0 : decode cX3_read 0 = .ok (.aload_n 0, 1) := dk_42 (dk_at dksX3_read_0 0 rfl rfl)
theorem dX3_read_1 : decode cX3_read 1 = .ok (.iload_n 1, 1) := dk_27 (dk_at dksX3_read_0 1 rfl rfl)
theorem dX3_read_2 : decode cX3_read 2 = .ok (.iload_n 2, 1) := dk_28 (dk_at dksX3_read_0 2 rfl rfl)
theorem dX3_read_3 : decode cX3_read 3 = .ok (.invokevirtual 325, 3) := dk_182 1 69 (dk_at dksX3_read_0 3 rfl rfl)
theorem dX3_read_6 : decode cX3_read 6 = .ok (.istore_n 3, 1) := dk_62 (dk_at dksX3_read_0 6 rfl rfl)
theorem dX3_read_7 : decode cX3_read 7 = .ok (.iload_n 3, 1) := dk_29 (dk_at dksX3_read_0 7 rfl rfl)
theorem dX3_read_8 : decode cX3_read 8 = .ok (.ifCond .eq 9, 3) := dk_153 0 9 (dk_at dksX3_read_0 8 rfl rfl)
theorem dX3_read_11 : decode cX3_read 11 = .ok (.aload_n 0, 1) := dk_42 (dk_at dksX3_read_0 11 rfl rfl)
theorem dX3_read_12 : decode cX3_read 12 = .ok (.iload_n 3, 1) := dk_29 (dk_at dksX3_read_0 12 rfl rfl)
theorem dX3_read_13 : decode cX3_read 13 = .ok (.invokevirtual 74, 3) := dk_182 0 74 (dk_at dksX3_read_0 13 rfl rfl)
theorem dX3_read_16 : decode cX3_read 16 = .ok (.ireturn, 1) := dk_172 (dk_at dksX3_read_0 16 rfl rfl)
theorem dX3_read_17 : decode cX3_read 17 = .ok (.aload_n 0, 1) := dk_42 (dk_at dksX3_read_0 17 rfl rfl)
theorem dX3_read_18 : decode cX3_read 18 = .ok (.iload_n 2, 1) := dk_28 (dk_at dksX3_read_0 18 rfl rfl)
theorem dX3_read_19 : decode cX3_read 19 = .ok (.invokevirtual 87, 3) := dk_182 0 87 (dk_at dksX3_read_0 19 rfl rfl)
theorem dX3_read_22 : decode cX3_read 22 = .ok (.istore 4, 2) := dk_54 4 (dk_at dksX3_read_0 22 rfl rfl)
theorem dX3_read_24 : decode cX3_read 24 = .ok (.aload_n 0, 1) := dk_42 (dk_at dksX3_read_1 0 rfl rfl)
theorem dX3_read_25 : decode cX3_read 25 = .ok (.invokevirtual 184, 3) := dk_182 0 184 (dk_at dksX3_read_1 1 rfl rfl)
theorem dX3_read_28 : decode cX3_read 28 = .ok (.iconst 0, 1) := dk_3 (dk_at dksX3_read_1 4 rfl rfl)
theorem dX3_read_29 : decode cX3_read 29 = .ok (.istore 5, 2) := dk_54 5 (dk_at dksX3_read_1 5 rfl rfl)
theorem dX3_read_31 : decode cX3_read 31 = .ok (.iconst 0, 1) := dk_3 (dk_at dksX3_read_1 7 rfl rfl)
theorem dX3_read_32 : decode cX3_read 32 = .ok (.istore 6, 2) := dk_54 6 (dk_at dksX3_read_1 8 rfl rfl)
theorem dX3_read_34 : decode cX3_read 34 = .ok (.iload 6, 2) := dk_21 6 (dk_at dksX3_read_1 10 rfl rfl)
theorem dX3_read_36 : decode cX3_read 36 = .ok (.bipush 6, 2) := dk_16 6 (dk_at dksX3_read_1 12 rfl rfl)
theorem dX3_read_38 : decode cX3_read 38 = .ok (.aload_n 0, 1) := dk_42 (dk_at dksX3_read_1 14 rfl rfl)
theorem dX3_read_39 : decode cX3_read 39 = .ok (.getfield 7, 3) := dk_180 0 7 (dk_at dksX3_read_1 15 rfl rfl)
theorem dX3_read_42 : decode cX3_read 42 = .ok (.iconst 0, 1) := dk_3 (dk_at dksX3_read_1 18 rfl rfl)
theorem dX3_read_43 : decode cX3_read 43 = .ok (.iaload, 1) := dk_46 (dk_at dksX3_read_1 19 rfl rfl)
theorem dX3_read_44 : decode cX3_read 44 = .ok (.imul, 1) := dk_104 (dk_at dksX3_read_1 20 rfl rfl)
theorem dX3_read_45 : decode cX3_read 45 = .ok (.if_icmp .ge 65, 3) := dk_162 0 65 (dk_at dksX3_read_1 21 rfl rfl)
theorem dX3_read_48 : decode cX3_read 48 = .ok (.iload 4, 2) := dk_21 4 (dk_at dksX3_read_2 0 rfl rfl)
theorem dX3_read_50 : decode cX3_read 50 = .ok (.iload 6, 2) := dk_21 6 (dk_at dksX3_read_2 2 rfl rfl)
theorem dX3_read_52 : decode cX3_read 52 = .ok (.bipush 6, 2) := dk_16 6 (dk_at dksX3_read_2 4 rfl rfl)
theorem dX3_read_54 : decode cX3_read 54 = .ok (.idiv, 1) := dk_108 (dk_at dksX3_read_2 6 rfl rfl)
theorem dX3_read_55 : decode cX3_read 55 = .ok (.ishr, 1) := dk_122 (dk_at dksX3_read_2 7 rfl rfl)
theorem dX3_read_56 : decode cX3_read 56 = .ok (.iconst 1, 1) := dk_4 (dk_at dksX3_read_2 8 rfl rfl)
theorem dX3_read_57 : decode cX3_read 57 = .ok (.iand, 1) := dk_126 (dk_at dksX3_read_2 9 rfl rfl)
theorem dX3_read_58 : decode cX3_read 58 = .ok (.iconst 1, 1) := dk_4 (dk_at dksX3_read_2 10 rfl rfl)
theorem dX3_read_59 : decode cX3_read 59 = .ok (.if_icmp .ne 45, 3) := dk_160 0 45 (dk_at dksX3_read_2 11 rfl rfl)
theorem dX3_read_62 : decode cX3_read 62 = .ok (.aload_n 0, 1) := dk_42 (dk_at dksX3_read_2 14 rfl rfl)
theorem dX3_read_63 : decode cX3_read 63 = .ok (.getfield 7, 3) := dk_180 0 7 (dk_at dksX3_read_2 15 rfl rfl)
theorem dX3_read_66 : decode cX3_read 66 = .ok (.iload 6, 2) := dk_21 6 (dk_at dksX3_read_2 18 rfl rfl)
theorem dX3_read_68 : decode cX3_read 68 = .ok (.bipush 6, 2) := dk_16 6 (dk_at dksX3_read_2 20 rfl rfl)
theorem dX3_read_70 : decode cX3_read 70 = .ok (.idiv, 1) := dk_108 (dk_at dksX3_read_2 22 rfl rfl)
theorem dX3_read_71 : decode cX3_read 71 = .ok (.iconst 0, 1) := dk_3 (dk_at dksX3_read_2 23 rfl rfl)
theorem dX3_read_72 : decode cX3_read 72 = .ok (.invokestatic 56, 3) := dk_184 0 56 (dk_at dksX3_read_3 0 rfl rfl)
theorem dX3_read_75 : decode cX3_read 75 = .ok (.iload 6, 2) := dk_21 6 (dk_at dksX3_read_3 3 rfl rfl)
theorem dX3_read_77 : decode cX3_read 77 = .ok (.bipush 6, 2) := dk_16 6 (dk_at dksX3_read_3 5 rfl rfl)
theorem dX3_read_79 : decode cX3_read 79 = .ok (.irem, 1) := dk_112 (dk_at dksX3_read_3 7 rfl rfl)
theorem dX3_read_80 : decode cX3_read 80 = .ok (.iastore, 1) := dk_79 (dk_at dksX3_read_3 8 rfl rfl)
theorem dX3_read_81 : decode cX3_read 81 = .ok (.aload_n 0, 1) := dk_42 (dk_at dksX3_read_3 9 rfl rfl)
theorem dX3_read_82 : decode cX3_read 82 = .ok (.iload 5, 2) := dk_21 5 (dk_at dksX3_read_3 10 rfl rfl)
theorem dX3_read_84 : decode cX3_read 84 = .ok (.aload_n 0, 1) := dk_42 (dk_at dksX3_read_3 12 rfl rfl)
theorem dX3_read_85 : decode cX3_read 85 = .ok (.iload_n 1, 1) := dk_27 (dk_at dksX3_read_3 13 rfl rfl)
theorem dX3_read_86 : decode cX3_read 86 = .ok (.iload_n 2, 1) := dk_28 (dk_at dksX3_read_3 14 rfl rfl)
theorem dX3_read_87 : decode cX3_read 87 = .ok (.invokevirtual 328, 3) := dk_182 1 72 (dk_at dksX3_read_3 15 rfl rfl)
theorem dX3_read_90 : decode cX3_read 90 = .ok (.ifCond .eq 7, 3) := dk_153 0 7 (dk_at dksX3_read_3 18 rfl rfl)
theorem dX3_read_93 : decode cX3_read 93 = .ok (.iconst 1, 1) := dk_4 (dk_at dksX3_read_3 21 rfl rfl)
theorem dX3_read_94 : decode cX3_read 94 = .ok (.goto 4, 3) := dk_167 0 4 (dk_at dksX3_read_4 0 rfl rfl)
theorem dX3_read_97 : decode cX3_read 97 = .ok (.iconst 0, 1) := dk_3 (dk_at dksX3_read_4 3 rfl rfl)
theorem dX3_read_98 : decode cX3_read 98 = .ok (.iadd, 1) := dk_96 (dk_at dksX3_read_4 4 rfl rfl)
theorem dX3_read_99 : decode cX3_read 99 = .ok (.invokevirtual 187, 3) := dk_182 0 187 (dk_at dksX3_read_4 5 rfl rfl)
theorem dX3_read_102 : decode cX3_read 102 = .ok (.istore 5, 2) := dk_54 5 (dk_at dksX3_read_4 8 rfl rfl)
theorem dX3_read_104 : decode cX3_read 104 = .ok (.iinc 6 1, 3) := dk_132 6 1 (dk_at dksX3_read_4 10 rfl rfl)
theorem dX3_read_107 : decode cX3_read 107 = .ok (.goto (-73), 3) := dk_167 255 183 (dk_at dksX3_read_4 13 rfl rfl)
theorem dX3_read_110 : decode cX3_read 110 = .ok (.iload 5, 2) := dk_21 5 (dk_at dksX3_read_4 16 rfl rfl)
theorem dX3_read_112 : decode cX3_read 112 = .ok (.ireturn, 1) := dk_172 (dk_at dksX3_read_4 18 rfl rfl)
abbrev cX3_isBook : ByteArray := prog_17_method_100_code
def yX3_isBook : MethodName := ⟨RX3, "isBook", "(II)Z"⟩
def dkwX3_isBook_1 : List UInt8 := [28, 4, 182, 0, 84, 133, 148, 153, 0, 5, 3, 172, 42, 182, 0, 163, 132, 3, 1, 167, 255, 215, 4, 172]
abbrev dktX3_isBook_1 : List UInt8 := dkwX3_isBook_1 ++ []
def dkwX3_isBook_0 : List UInt8 := [3, 62, 29, 42, 180, 0, 31, 27, 46, 162, 0, 37, 42, 180, 0, 34, 16, 40, 27, 104, 29, 96, 47, 42]
abbrev dktX3_isBook_0 : List UInt8 := dkwX3_isBook_0 ++ dktX3_isBook_1
theorem dksX3_isBook_0 : cX3_isBook.data.toList.drop 0 = dktX3_isBook_0 := by decide +kernel
theorem dksX3_isBook_1 : cX3_isBook.data.toList.drop 24 = dktX3_isBook_1 := dk_seg dksX3_isBook_0 24 rfl rfl
theorem dX3_isBook_0 : decode cX3_isBook 0 = .ok (.iconst 0, 1) := dk_3 (dk_at dksX3_isBook_0 0 rfl rfl)
theorem dX3_isBook_1 : decode cX3_isBook 1 = .ok (.istore_n 3, 1) := dk_62 (dk_at dksX3_isBook_0 1 rfl rfl)
theorem dX3_isBook_2 : decode cX3_isBook 2 = .ok (.iload_n 3, 1) := dk_29 (dk_at dksX3_isBook_0 2 rfl rfl)
theorem dX3_isBook_3 : decode cX3_isBook 3 = .ok (.aload_n 0, 1) := dk_42 (dk_at dksX3_isBook_0 3 rfl rfl)
theorem dX3_isBook_4 : decode cX3_isBook 4 = .ok (.getfield 31, 3) := dk_180 0 31 (dk_at dksX3_isBook_0 4 rfl rfl)
theorem dX3_isBook_7 : decode cX3_isBook 7 = .ok (.iload_n 1, 1) := dk_27 (dk_at dksX3_isBook_0 7 rfl rfl)
theorem dX3_isBook_8 : decode cX3_isBook 8 = .ok (.iaload, 1) := dk_46 (dk_at dksX3_isBook_0 8 rfl rfl)
theorem dX3_isBook_9 : decode cX3_isBook 9 = .ok (.if_icmp .ge 37, 3) := dk_162 0 37 (dk_at dksX3_isBook_0 9 rfl rfl)
theorem dX3_isBook_12 : decode cX3_isBook 12 = .ok (.aload_n 0, 1) := dk_42 (dk_at dksX3_isBook_0 12 rfl rfl)
theorem dX3_isBook_13 : decode cX3_isBook 13 = .ok (.getfield 34, 3) := dk_180 0 34 (dk_at dksX3_isBook_0 13 rfl rfl)
theorem dX3_isBook_16 : decode cX3_isBook 16 = .ok (.bipush 40, 2) := dk_16 40 (dk_at dksX3_isBook_0 16 rfl rfl)
theorem dX3_isBook_18 : decode cX3_isBook 18 = .ok (.iload_n 1, 1) := dk_27 (dk_at dksX3_isBook_0 18 rfl rfl)
theorem dX3_isBook_19 : decode cX3_isBook 19 = .ok (.imul, 1) := dk_104 (dk_at dksX3_isBook_0 19 rfl rfl)
theorem dX3_isBook_20 : decode cX3_isBook 20 = .ok (.iload_n 3, 1) := dk_29 (dk_at dksX3_isBook_0 20 rfl rfl)
theorem dX3_isBook_21 : decode cX3_isBook 21 = .ok (.iadd, 1) := dk_96 (dk_at dksX3_isBook_0 21 rfl rfl)
theorem dX3_isBook_22 : decode cX3_isBook 22 = .ok (.laload, 1) := dk_47 (dk_at dksX3_isBook_0 22 rfl rfl)
theorem dX3_isBook_23 : decode cX3_isBook 23 = .ok (.aload_n 0, 1) := dk_42 (dk_at dksX3_isBook_0 23 rfl rfl)
theorem dX3_isBook_24 : decode cX3_isBook 24 = .ok (.iload_n 2, 1) := dk_28 (dk_at dksX3_isBook_1 0 rfl rfl)
theorem dX3_isBook_25 : decode cX3_isBook 25 = .ok (.iconst 1, 1) := dk_4 (dk_at dksX3_isBook_1 1 rfl rfl)
theorem dX3_isBook_26 : decode cX3_isBook 26 = .ok (.invokevirtual 84, 3) := dk_182 0 84 (dk_at dksX3_isBook_1 2 rfl rfl)
theorem dX3_isBook_29 : decode cX3_isBook 29 = .ok (.i2l, 1) := dk_133 (dk_at dksX3_isBook_1 5 rfl rfl)
theorem dX3_isBook_30 : decode cX3_isBook 30 = .ok (.lcmp, 1) := dk_148 (dk_at dksX3_isBook_1 6 rfl rfl)
theorem dX3_isBook_31 : decode cX3_isBook 31 = .ok (.ifCond .eq 5, 3) := dk_153 0 5 (dk_at dksX3_isBook_1 7 rfl rfl)
theorem dX3_isBook_34 : decode cX3_isBook 34 = .ok (.iconst 0, 1) := dk_3 (dk_at dksX3_isBook_1 10 rfl rfl)
theorem dX3_isBook_35 : decode cX3_isBook 35 = .ok (.ireturn, 1) := dk_172 (dk_at dksX3_isBook_1 11 rfl rfl)
theorem dX3_isBook_36 : decode cX3_isBook 36 = .ok (.aload_n 0, 1) := dk_42 (dk_at dksX3_isBook_1 12 rfl rfl)
theorem dX3_isBook_37 : decode cX3_isBook 37 = .ok (.invokevirtual 163, 3) := dk_182 0 163 (dk_at dksX3_isBook_1 13 rfl rfl)
theorem dX3_isBook_40 : decode cX3_isBook 40 = .ok (.iinc 3 1, 3) := dk_132 3 1 (dk_at dksX3_isBook_1 16 rfl rfl)
theorem dX3_isBook_43 : decode cX3_isBook 43 = .ok (.goto (-41), 3) := dk_167 255 215 (dk_at dksX3_isBook_1 19 rfl rfl)
theorem dX3_isBook_46 : decode cX3_isBook 46 = .ok (.iconst 1, 1) := dk_4 (dk_at dksX3_isBook_1 22 rfl rfl)
theorem dX3_isBook_47 : decode cX3_isBook 47 = .ok (.ireturn, 1) := dk_172 (dk_at dksX3_isBook_1 23 rfl rfl)
abbrev cX3_image : ByteArray := prog_17_method_102_code
def yX3_image : MethodName := ⟨RX3, "image", "()I"⟩
def dkwX3_image_1 : List UInt8 := [167, 255, 235, 42, 4, 181, 1, 75, 4, 172]
abbrev dktX3_image_1 : List UInt8 := dkwX3_image_1 ++ []
def dkwX3_image_0 : List UInt8 := [3, 60, 27, 16, 77, 162, 0, 21, 42, 180, 0, 13, 27, 42, 180, 0, 7, 27, 46, 79, 132, 1, 1]
abbrev dktX3_image_0 : List UInt8 := dkwX3_image_0 ++ dktX3_image_1
theorem dksX3_image_0 : cX3_image.data.toList.drop 0 = dktX3_image_0 := by decide +kernel
theorem dksX3_image_1 : cX3_image.data.toList.drop 23 = dktX3_image_1 := dk_seg dksX3_image_0 23 rfl rfl
theorem dX3_image_0 : decode cX3_image 0 = .ok (.iconst 0, 1) := dk_3 (dk_at dksX3_image_0 0 rfl rfl)
theorem dX3_image_1 : decode cX3_image 1 = .ok (.istore_n 1, 1) := dk_60 (dk_at dksX3_image_0 1 rfl rfl)
theorem dX3_image_2 : decode cX3_image 2 = .ok (.iload_n 1, 1) := dk_27 (dk_at dksX3_image_0 2 rfl rfl)
theorem dX3_image_3 : decode cX3_image 3 = .ok (.bipush 77, 2) := dk_16 77 (dk_at dksX3_image_0 3 rfl rfl)
theorem dX3_image_5 : decode cX3_image 5 = .ok (.if_icmp .ge 21, 3) := dk_162 0 21 (dk_at dksX3_image_0 5 rfl rfl)
theorem dX3_image_8 : decode cX3_image 8 = .ok (.aload_n 0, 1) := dk_42 (dk_at dksX3_image_0 8 rfl rfl)
theorem dX3_image_9 : decode cX3_image 9 = .ok (.getfield 13, 3) := dk_180 0 13 (dk_at dksX3_image_0 9 rfl rfl)
theorem dX3_image_12 : decode cX3_image 12 = .ok (.iload_n 1, 1) := dk_27 (dk_at dksX3_image_0 12 rfl rfl)
theorem dX3_image_13 : decode cX3_image 13 = .ok (.aload_n 0, 1) := dk_42 (dk_at dksX3_image_0 13 rfl rfl)
theorem dX3_image_14 : decode cX3_image 14 = .ok (.getfield 7, 3) := dk_180 0 7 (dk_at dksX3_image_0 14 rfl rfl)
theorem dX3_image_17 : decode cX3_image 17 = .ok (.iload_n 1, 1) := dk_27 (dk_at dksX3_image_0 17 rfl rfl)
theorem dX3_image_18 : decode cX3_image 18 = .ok (.iaload, 1) := dk_46 (dk_at dksX3_image_0 18 rfl rfl)
theorem dX3_image_19 : decode cX3_image 19 = .ok (.iastore, 1) := dk_79 (dk_at dksX3_image_0 19 rfl rfl)
theorem dX3_image_20 : decode cX3_image 20 = .ok (.iinc 1 1, 3) := dk_132 1 1 (dk_at dksX3_image_0 20 rfl rfl)
theorem dX3_image_23 : decode cX3_image 23 = .ok (.goto (-21), 3) := dk_167 255 235 (dk_at dksX3_image_1 0 rfl rfl)
theorem dX3_image_26 : decode cX3_image 26 = .ok (.aload_n 0, 1) := dk_42 (dk_at dksX3_image_1 3 rfl rfl)
theorem dX3_image_27 : decode cX3_image 27 = .ok (.iconst 1, 1) := dk_4 (dk_at dksX3_image_1 4 rfl rfl)
theorem dX3_image_28 : decode cX3_image 28 = .ok (.putfield 331, 3) := dk_181 1 75 (dk_at dksX3_image_1 5 rfl rfl)
theorem dX3_image_31 : decode cX3_image 31 = .ok (.iconst 1, 1) := dk_4 (dk_at dksX3_image_1 8 rfl rfl)
theorem dX3_image_32 : decode cX3_image 32 = .ok (.ireturn, 1) := dk_172 (dk_at dksX3_image_1 9 rfl rfl)
abbrev cX3_undo : ByteArray := prog_17_method_103_code
def yX3_undo : MethodName := ⟨RX3, "undo", "()I"⟩
def dkwX3_undo_1 : List UInt8 := [180, 0, 7, 27, 42, 180, 0, 13, 27, 46, 79, 132, 1, 1, 167, 255, 235, 42, 180, 0, 7, 3, 46, 172]
abbrev dktX3_undo_1 : List UInt8 := dkwX3_undo_1 ++ []
def dkwX3_undo_0 : List UInt8 := [42, 180, 1, 75, 154, 0, 10, 42, 18, 196, 182, 0, 74, 172, 3, 60, 27, 16, 77, 162, 0, 21, 42]
abbrev dktX3_undo_0 : List UInt8 := dkwX3_undo_0 ++ dktX3_undo_1
theorem dksX3_undo_0 : cX3_undo.data.toList.drop 0 = dktX3_undo_0 := by decide +kernel
theorem dksX3_undo_1 : cX3_undo.data.toList.drop 23 = dktX3_undo_1 := dk_seg dksX3_undo_0 23 rfl rfl
theorem dX3_undo_0 : decode cX3_undo 0 = .ok (.aload_n 0, 1) := dk_42 (dk_at dksX3_undo_0 0 rfl rfl)
theorem dX3_undo_1 : decode cX3_undo 1 = .ok (.getfield 331, 3) := dk_180 1 75 (dk_at dksX3_undo_0 1 rfl rfl)
theorem dX3_undo_4 : decode cX3_undo 4 = .ok (.ifCond .ne 10, 3) := dk_154 0 10 (dk_at dksX3_undo_0 4 rfl rfl)
theorem dX3_undo_7 : decode cX3_undo 7 = .ok (.aload_n 0, 1) := dk_42 (dk_at dksX3_undo_0 7 rfl rfl)
theorem dX3_undo_8 : decode cX3_undo 8 = .ok (.ldc 196, 2) := dk_18 196 (dk_at dksX3_undo_0 8 rfl rfl)
theorem dX3_undo_10 : decode cX3_undo 10 = .ok (.invokevirtual 74, 3) := dk_182 0 74 (dk_at dksX3_undo_0 10 rfl rfl)
theorem dX3_undo_13 : decode cX3_undo 13 = .ok (.ireturn, 1) := dk_172 (dk_at dksX3_undo_0 13 rfl rfl)
theorem dX3_undo_14 : decode cX3_undo 14 = .ok (.iconst 0, 1) := dk_3 (dk_at dksX3_undo_0 14 rfl rfl)
theorem dX3_undo_15 : decode cX3_undo 15 = .ok (.istore_n 1, 1) := dk_60 (dk_at dksX3_undo_0 15 rfl rfl)
theorem dX3_undo_16 : decode cX3_undo 16 = .ok (.iload_n 1, 1) := dk_27 (dk_at dksX3_undo_0 16 rfl rfl)
theorem dX3_undo_17 : decode cX3_undo 17 = .ok (.bipush 77, 2) := dk_16 77 (dk_at dksX3_undo_0 17 rfl rfl)
theorem dX3_undo_19 : decode cX3_undo 19 = .ok (.if_icmp .ge 21, 3) := dk_162 0 21 (dk_at dksX3_undo_0 19 rfl rfl)
theorem dX3_undo_22 : decode cX3_undo 22 = .ok (.aload_n 0, 1) := dk_42 (dk_at dksX3_undo_0 22 rfl rfl)
theorem dX3_undo_23 : decode cX3_undo 23 = .ok (.getfield 7, 3) := dk_180 0 7 (dk_at dksX3_undo_1 0 rfl rfl)
theorem dX3_undo_26 : decode cX3_undo 26 = .ok (.iload_n 1, 1) := dk_27 (dk_at dksX3_undo_1 3 rfl rfl)
theorem dX3_undo_27 : decode cX3_undo 27 = .ok (.aload_n 0, 1) := dk_42 (dk_at dksX3_undo_1 4 rfl rfl)
theorem dX3_undo_28 : decode cX3_undo 28 = .ok (.getfield 13, 3) := dk_180 0 13 (dk_at dksX3_undo_1 5 rfl rfl)
theorem dX3_undo_31 : decode cX3_undo 31 = .ok (.iload_n 1, 1) := dk_27 (dk_at dksX3_undo_1 8 rfl rfl)
theorem dX3_undo_32 : decode cX3_undo 32 = .ok (.iaload, 1) := dk_46 (dk_at dksX3_undo_1 9 rfl rfl)
theorem dX3_undo_33 : decode cX3_undo 33 = .ok (.iastore, 1) := dk_79 (dk_at dksX3_undo_1 10 rfl rfl)
theorem dX3_undo_34 : decode cX3_undo 34 = .ok (.iinc 1 1, 3) := dk_132 1 1 (dk_at dksX3_undo_1 11 rfl rfl)
theorem dX3_undo_37 : decode cX3_undo 37 = .ok (.goto (-21), 3) := dk_167 255 235 (dk_at dksX3_undo_1 14 rfl rfl)
theorem dX3_undo_40 : decode cX3_undo 40 = .ok (.aload_n 0, 1) := dk_42 (dk_at dksX3_undo_1 17 rfl rfl)
theorem dX3_undo_41 : decode cX3_undo 41 = .ok (.getfield 7, 3) := dk_180 0 7 (dk_at dksX3_undo_1 18 rfl rfl)
theorem dX3_undo_44 : decode cX3_undo 44 = .ok (.iconst 0, 1) := dk_3 (dk_at dksX3_undo_1 21 rfl rfl)
theorem dX3_undo_45 : decode cX3_undo 45 = .ok (.iaload, 1) := dk_46 (dk_at dksX3_undo_1 22 rfl rfl)
theorem dX3_undo_46 : decode cX3_undo 46 = .ok (.ireturn, 1) := dk_172 (dk_at dksX3_undo_1 23 rfl rfl)
abbrev cX3_tear : ByteArray := prog_17_method_104_code
def yX3_tear : MethodName := ⟨RX3, "tear", "()I"⟩
def dkwX3_tear_0 : List UInt8 := [42, 180, 1, 75, 153, 0, 7, 4, 167, 0, 4, 3, 60, 42, 3, 181, 1, 75, 27, 172]
abbrev dktX3_tear_0 : List UInt8 := dkwX3_tear_0 ++ []
theorem dksX3_tear_0 : cX3_tear.data.toList.drop 0 = dktX3_tear_0 := by decide +kernel
theorem dX3_tear_0 : decode cX3_tear 0 = .ok (.aload_n 0, 1) := dk_42 (dk_at dksX3_tear_0 0 rfl rfl)
theorem dX3_tear_1 : decode cX3_tear 1 = .ok (.getfield 331, 3) := dk_180 1 75 (dk_at dksX3_tear_0 1 rfl rfl)
theorem dX3_tear_4 : decode cX3_tear 4 = .ok (.ifCond .eq 7, 3) := dk_153 0 7 (dk_at dksX3_tear_0 4 rfl rfl)
theorem dX3_tear_7 : decode cX3_tear 7 = .ok (.iconst 1, 1) := dk_4 (dk_at dksX3_tear_0 7 rfl rfl)
theorem dX3_tear_8 : decode cX3_tear 8 = .ok (.goto 4, 3) := dk_167 0 4 (dk_at dksX3_tear_0 8 rfl rfl)
theorem dX3_tear_11 : decode cX3_tear 11 = .ok (.iconst 0, 1) := dk_3 (dk_at dksX3_tear_0 11 rfl rfl)
theorem dX3_tear_12 : decode cX3_tear 12 = .ok (.istore_n 1, 1) := dk_60 (dk_at dksX3_tear_0 12 rfl rfl)
theorem dX3_tear_13 : decode cX3_tear 13 = .ok (.aload_n 0, 1) := dk_42 (dk_at dksX3_tear_0 13 rfl rfl)
theorem dX3_tear_14 : decode cX3_tear 14 = .ok (.iconst 0, 1) := dk_3 (dk_at dksX3_tear_0 14 rfl rfl)
theorem dX3_tear_15 : decode cX3_tear 15 = .ok (.putfield 331, 3) := dk_181 1 75 (dk_at dksX3_tear_0 15 rfl rfl)
theorem dX3_tear_18 : decode cX3_tear 18 = .ok (.iload_n 1, 1) := dk_27 (dk_at dksX3_tear_0 18 rfl rfl)
theorem dX3_tear_19 : decode cX3_tear 19 = .ok (.ireturn, 1) := dk_172 (dk_at dksX3_tear_0 19 rfl rfl)
abbrev cX3_count : ByteArray := prog_17_method_106_code
def yX3_count : MethodName := ⟨RX3, "count", "(I)I"⟩
def dkwX3_count_3 : List UInt8 := [184, 0, 122, 100, 172, 42, 182, 1, 78, 172, 42, 18, 45, 182, 0, 74, 172]
abbrev dktX3_count_3 : List UInt8 := dkwX3_count_3 ++ []
def dkwX3_count_2 : List UInt8 := [42, 180, 0, 7, 3, 46, 172, 42, 180, 0, 208, 172, 42, 180, 0, 7, 3, 46, 42, 2, 182, 0, 87]
abbrev dktX3_count_2 : List UInt8 := dkwX3_count_2 ++ dktX3_count_3
def dkwX3_count_1 : List UInt8 := [170, 0, 0, 0, 0, 0, 64, 0, 0, 0, 0, 0, 0, 0, 3, 0, 0, 0, 31, 0, 0, 0, 38, 0, 0, 0, 43, 0, 0, 0, 59]
abbrev dktX3_count_1 : List UInt8 := dkwX3_count_1 ++ dktX3_count_2
def dkwX3_count_0 : List UInt8 := [27]
abbrev dktX3_count_0 : List UInt8 := dkwX3_count_0 ++ dktX3_count_1
theorem dksX3_count_0 : cX3_count.data.toList.drop 0 = dktX3_count_0 := by decide +kernel
theorem dksX3_count_1 : cX3_count.data.toList.drop 1 = dktX3_count_1 := dk_seg dksX3_count_0 1 rfl rfl
theorem dksX3_count_2 : cX3_count.data.toList.drop 32 = dktX3_count_2 := dk_seg dksX3_count_1 31 rfl rfl
theorem dksX3_count_3 : cX3_count.data.toList.drop 55 = dktX3_count_3 := dk_seg dksX3_count_2 23 rfl rfl
theorem dX3_count_0 : decode cX3_count 0 = .ok (.iload_n 1, 1) := dk_27 (dk_at dksX3_count_0 0 rfl rfl)
theorem dX3_count_1 : decode cX3_count 1 = .ok (.tableswitch 64 0 3 #[31, 38, 43, 59], 31) := by decide +kernel
theorem dX3_count_32 : decode cX3_count 32 = .ok (.aload_n 0, 1) := dk_42 (dk_at dksX3_count_2 0 rfl rfl)
theorem dX3_count_33 : decode cX3_count 33 = .ok (.getfield 7, 3) := dk_180 0 7 (dk_at dksX3_count_2 1 rfl rfl)
theorem dX3_count_36 : decode cX3_count 36 = .ok (.iconst 0, 1) := dk_3 (dk_at dksX3_count_2 4 rfl rfl)
theorem dX3_count_37 : decode cX3_count 37 = .ok (.iaload, 1) := dk_46 (dk_at dksX3_count_2 5 rfl rfl)
theorem dX3_count_38 : decode cX3_count 38 = .ok (.ireturn, 1) := dk_172 (dk_at dksX3_count_2 6 rfl rfl)
theorem dX3_count_39 : decode cX3_count 39 = .ok (.aload_n 0, 1) := dk_42 (dk_at dksX3_count_2 7 rfl rfl)
theorem dX3_count_40 : decode cX3_count 40 = .ok (.getfield 208, 3) := dk_180 0 208 (dk_at dksX3_count_2 8 rfl rfl)
theorem dX3_count_43 : decode cX3_count 43 = .ok (.ireturn, 1) := dk_172 (dk_at dksX3_count_2 11 rfl rfl)
theorem dX3_count_44 : decode cX3_count 44 = .ok (.aload_n 0, 1) := dk_42 (dk_at dksX3_count_2 12 rfl rfl)
theorem dX3_count_45 : decode cX3_count 45 = .ok (.getfield 7, 3) := dk_180 0 7 (dk_at dksX3_count_2 13 rfl rfl)
theorem dX3_count_48 : decode cX3_count 48 = .ok (.iconst 0, 1) := dk_3 (dk_at dksX3_count_2 16 rfl rfl)
theorem dX3_count_49 : decode cX3_count 49 = .ok (.iaload, 1) := dk_46 (dk_at dksX3_count_2 17 rfl rfl)
theorem dX3_count_50 : decode cX3_count 50 = .ok (.aload_n 0, 1) := dk_42 (dk_at dksX3_count_2 18 rfl rfl)
theorem dX3_count_51 : decode cX3_count 51 = .ok (.iconst (-1), 1) := dk_2 (dk_at dksX3_count_2 19 rfl rfl)
theorem dX3_count_52 : decode cX3_count 52 = .ok (.invokevirtual 87, 3) := dk_182 0 87 (dk_at dksX3_count_2 20 rfl rfl)
theorem dX3_count_55 : decode cX3_count 55 = .ok (.invokestatic 122, 3) := dk_184 0 122 (dk_at dksX3_count_3 0 rfl rfl)
theorem dX3_count_58 : decode cX3_count 58 = .ok (.isub, 1) := dk_100 (dk_at dksX3_count_3 3 rfl rfl)
theorem dX3_count_59 : decode cX3_count 59 = .ok (.ireturn, 1) := dk_172 (dk_at dksX3_count_3 4 rfl rfl)
theorem dX3_count_60 : decode cX3_count 60 = .ok (.aload_n 0, 1) := dk_42 (dk_at dksX3_count_3 5 rfl rfl)
theorem dX3_count_61 : decode cX3_count 61 = .ok (.invokevirtual 334, 3) := dk_182 1 78 (dk_at dksX3_count_3 6 rfl rfl)
theorem dX3_count_64 : decode cX3_count 64 = .ok (.ireturn, 1) := dk_172 (dk_at dksX3_count_3 9 rfl rfl)
theorem dX3_count_65 : decode cX3_count 65 = .ok (.aload_n 0, 1) := dk_42 (dk_at dksX3_count_3 10 rfl rfl)
theorem dX3_count_66 : decode cX3_count 66 = .ok (.ldc 45, 2) := dk_18 45 (dk_at dksX3_count_3 11 rfl rfl)
theorem dX3_count_68 : decode cX3_count 68 = .ok (.invokevirtual 74, 3) := dk_182 0 74 (dk_at dksX3_count_3 13 rfl rfl)
theorem dX3_count_71 : decode cX3_count 71 = .ok (.ireturn, 1) := dk_172 (dk_at dksX3_count_3 16 rfl rfl)
abbrev cX3_bedsAll : ByteArray := prog_17_method_105_code
def yX3_bedsAll : MethodName := ⟨RX3, "bedsAll", "()I"⟩
def dkwX3_bedsAll_1 : List UInt8 := [167, 255, 238, 27, 172]
abbrev dktX3_bedsAll_1 : List UInt8 := dkwX3_bedsAll_1 ++ []
def dkwX3_bedsAll_0 : List UInt8 := [3, 60, 3, 61, 28, 16, 8, 162, 0, 18, 27, 42, 28, 3, 182, 0, 84, 96, 60, 132, 2, 1]
abbrev dktX3_bedsAll_0 : List UInt8 := dkwX3_bedsAll_0 ++ dktX3_bedsAll_1
theorem dksX3_bedsAll_0 : cX3_bedsAll.data.toList.drop 0 = dktX3_bedsAll_0 := by decide +kernel
theorem dksX3_bedsAll_1 : cX3_bedsAll.data.toList.drop 22 = dktX3_bedsAll_1 := dk_seg dksX3_bedsAll_0 22 rfl rfl
theorem dX3_bedsAll_0 : decode cX3_bedsAll 0 = .ok (.iconst 0, 1) := dk_3 (dk_at dksX3_bedsAll_0 0 rfl rfl)
theorem dX3_bedsAll_1 : decode cX3_bedsAll 1 = .ok (.istore_n 1, 1) := dk_60 (dk_at dksX3_bedsAll_0 1 rfl rfl)
theorem dX3_bedsAll_2 : decode cX3_bedsAll 2 = .ok (.iconst 0, 1) := dk_3 (dk_at dksX3_bedsAll_0 2 rfl rfl)
theorem dX3_bedsAll_3 : decode cX3_bedsAll 3 = .ok (.istore_n 2, 1) := dk_61 (dk_at dksX3_bedsAll_0 3 rfl rfl)
theorem dX3_bedsAll_4 : decode cX3_bedsAll 4 = .ok (.iload_n 2, 1) := dk_28 (dk_at dksX3_bedsAll_0 4 rfl rfl)
theorem dX3_bedsAll_5 : decode cX3_bedsAll 5 = .ok (.bipush 8, 2) := dk_16 8 (dk_at dksX3_bedsAll_0 5 rfl rfl)
theorem dX3_bedsAll_7 : decode cX3_bedsAll 7 = .ok (.if_icmp .ge 18, 3) := dk_162 0 18 (dk_at dksX3_bedsAll_0 7 rfl rfl)
theorem dX3_bedsAll_10 : decode cX3_bedsAll 10 = .ok (.iload_n 1, 1) := dk_27 (dk_at dksX3_bedsAll_0 10 rfl rfl)
theorem dX3_bedsAll_11 : decode cX3_bedsAll 11 = .ok (.aload_n 0, 1) := dk_42 (dk_at dksX3_bedsAll_0 11 rfl rfl)
theorem dX3_bedsAll_12 : decode cX3_bedsAll 12 = .ok (.iload_n 2, 1) := dk_28 (dk_at dksX3_bedsAll_0 12 rfl rfl)
theorem dX3_bedsAll_13 : decode cX3_bedsAll 13 = .ok (.iconst 0, 1) := dk_3 (dk_at dksX3_bedsAll_0 13 rfl rfl)
theorem dX3_bedsAll_14 : decode cX3_bedsAll 14 = .ok (.invokevirtual 84, 3) := dk_182 0 84 (dk_at dksX3_bedsAll_0 14 rfl rfl)
theorem dX3_bedsAll_17 : decode cX3_bedsAll 17 = .ok (.iadd, 1) := dk_96 (dk_at dksX3_bedsAll_0 17 rfl rfl)
theorem dX3_bedsAll_18 : decode cX3_bedsAll 18 = .ok (.istore_n 1, 1) := dk_60 (dk_at dksX3_bedsAll_0 18 rfl rfl)
theorem dX3_bedsAll_19 : decode cX3_bedsAll 19 = .ok (.iinc 2 1, 3) := dk_132 2 1 (dk_at dksX3_bedsAll_0 19 rfl rfl)
theorem dX3_bedsAll_22 : decode cX3_bedsAll 22 = .ok (.goto (-18), 3) := dk_167 255 238 (dk_at dksX3_bedsAll_1 0 rfl rfl)
theorem dX3_bedsAll_25 : decode cX3_bedsAll 25 = .ok (.iload_n 1, 1) := dk_27 (dk_at dksX3_bedsAll_1 3 rfl rfl)
theorem dX3_bedsAll_26 : decode cX3_bedsAll 26 = .ok (.ireturn, 1) := dk_172 (dk_at dksX3_bedsAll_1 4 rfl rfl)
abbrev cX3_status : ByteArray := prog_17_method_107_code
def yX3_status : MethodName := ⟨RX3, "status", "(I)I"⟩
def dkwX3_status_2 : List UInt8 := [167, 0, 4, 3, 96, 61, 132, 3, 1, 167, 255, 225, 28, 172]
abbrev dktX3_status_2 : List UInt8 := dkwX3_status_2 ++ []
def dkwX3_status_1 : List UInt8 := [62, 29, 16, 7, 162, 0, 31, 28, 27, 155, 0, 8, 29, 27, 160, 0, 12, 42, 180, 0, 22, 29, 46]
abbrev dktX3_status_1 : List UInt8 := dkwX3_status_1 ++ dktX3_status_2
def dkwX3_status_0 : List UInt8 := [27, 133, 20, 1, 81, 20, 1, 83, 184, 0, 48, 154, 0, 10, 42, 18, 45, 182, 0, 74, 172, 3, 61, 3]
abbrev dktX3_status_0 : List UInt8 := dkwX3_status_0 ++ dktX3_status_1
theorem dksX3_status_0 : cX3_status.data.toList.drop 0 = dktX3_status_0 := by decide +kernel
theorem dksX3_status_1 : cX3_status.data.toList.drop 24 = dktX3_status_1 := dk_seg dksX3_status_0 24 rfl rfl
theorem dksX3_status_2 : cX3_status.data.toList.drop 47 = dktX3_status_2 := dk_seg dksX3_status_1 23 rfl rfl
theorem dX3_status_0 : decode cX3_status 0 = .ok (.iload_n 1, 1) := dk_27 (dk_at dksX3_status_0 0 rfl rfl)
theorem dX3_status_1 : decode cX3_status 1 = .ok (.i2l, 1) := dk_133 (dk_at dksX3_status_0 1 rfl rfl)
theorem dX3_status_2 : decode cX3_status 2 = .ok (.ldc2_w 337, 3) := dk_20 1 81 (dk_at dksX3_status_0 2 rfl rfl)
theorem dX3_status_5 : decode cX3_status 5 = .ok (.ldc2_w 339, 3) := dk_20 1 83 (dk_at dksX3_status_0 5 rfl rfl)
theorem dX3_status_8 : decode cX3_status 8 = .ok (.invokestatic 48, 3) := dk_184 0 48 (dk_at dksX3_status_0 8 rfl rfl)
theorem dX3_status_11 : decode cX3_status 11 = .ok (.ifCond .ne 10, 3) := dk_154 0 10 (dk_at dksX3_status_0 11 rfl rfl)
theorem dX3_status_14 : decode cX3_status 14 = .ok (.aload_n 0, 1) := dk_42 (dk_at dksX3_status_0 14 rfl rfl)
theorem dX3_status_15 : decode cX3_status 15 = .ok (.ldc 45, 2) := dk_18 45 (dk_at dksX3_status_0 15 rfl rfl)
theorem dX3_status_17 : decode cX3_status 17 = .ok (.invokevirtual 74, 3) := dk_182 0 74 (dk_at dksX3_status_0 17 rfl rfl)
theorem dX3_status_20 : decode cX3_status 20 = .ok (.ireturn, 1) := dk_172 (dk_at dksX3_status_0 20 rfl rfl)
theorem dX3_status_21 : decode cX3_status 21 = .ok (.iconst 0, 1) := dk_3 (dk_at dksX3_status_0 21 rfl rfl)
theorem dX3_status_22 : decode cX3_status 22 = .ok (.istore_n 2, 1) := dk_61 (dk_at dksX3_status_0 22 rfl rfl)
theorem dX3_status_23 : decode cX3_status 23 = .ok (.iconst 0, 1) := dk_3 (dk_at dksX3_status_0 23 rfl rfl)
theorem dX3_status_24 : decode cX3_status 24 = .ok (.istore_n 3, 1) := dk_62 (dk_at dksX3_status_1 0 rfl rfl)
theorem dX3_status_25 : decode cX3_status 25 = .ok (.iload_n 3, 1) := dk_29 (dk_at dksX3_status_1 1 rfl rfl)
theorem dX3_status_26 : decode cX3_status 26 = .ok (.bipush 7, 2) := dk_16 7 (dk_at dksX3_status_1 2 rfl rfl)
theorem dX3_status_28 : decode cX3_status 28 = .ok (.if_icmp .ge 31, 3) := dk_162 0 31 (dk_at dksX3_status_1 4 rfl rfl)
theorem dX3_status_31 : decode cX3_status 31 = .ok (.iload_n 2, 1) := dk_28 (dk_at dksX3_status_1 7 rfl rfl)
theorem dX3_status_32 : decode cX3_status 32 = .ok (.iload_n 1, 1) := dk_27 (dk_at dksX3_status_1 8 rfl rfl)
theorem dX3_status_33 : decode cX3_status 33 = .ok (.ifCond .lt 8, 3) := dk_155 0 8 (dk_at dksX3_status_1 9 rfl rfl)
theorem dX3_status_36 : decode cX3_status 36 = .ok (.iload_n 3, 1) := dk_29 (dk_at dksX3_status_1 12 rfl rfl)
theorem dX3_status_37 : decode cX3_status 37 = .ok (.iload_n 1, 1) := dk_27 (dk_at dksX3_status_1 13 rfl rfl)
theorem dX3_status_38 : decode cX3_status 38 = .ok (.if_icmp .ne 12, 3) := dk_160 0 12 (dk_at dksX3_status_1 14 rfl rfl)
theorem dX3_status_41 : decode cX3_status 41 = .ok (.aload_n 0, 1) := dk_42 (dk_at dksX3_status_1 17 rfl rfl)
theorem dX3_status_42 : decode cX3_status 42 = .ok (.getfield 22, 3) := dk_180 0 22 (dk_at dksX3_status_1 18 rfl rfl)
theorem dX3_status_45 : decode cX3_status 45 = .ok (.iload_n 3, 1) := dk_29 (dk_at dksX3_status_1 21 rfl rfl)
theorem dX3_status_46 : decode cX3_status 46 = .ok (.iaload, 1) := dk_46 (dk_at dksX3_status_1 22 rfl rfl)
theorem dX3_status_47 : decode cX3_status 47 = .ok (.goto 4, 3) := dk_167 0 4 (dk_at dksX3_status_2 0 rfl rfl)
theorem dX3_status_50 : decode cX3_status 50 = .ok (.iconst 0, 1) := dk_3 (dk_at dksX3_status_2 3 rfl rfl)
theorem dX3_status_51 : decode cX3_status 51 = .ok (.iadd, 1) := dk_96 (dk_at dksX3_status_2 4 rfl rfl)
theorem dX3_status_52 : decode cX3_status 52 = .ok (.istore_n 2, 1) := dk_61 (dk_at dksX3_status_2 5 rfl rfl)
theorem dX3_status_53 : decode cX3_status 53 = .ok (.iinc 3 1, 3) := dk_132 3 1 (dk_at dksX3_status_2 6 rfl rfl)
theorem dX3_status_56 : decode cX3_status 56 = .ok (.goto (-31), 3) := dk_167 255 225 (dk_at dksX3_status_2 9 rfl rfl)
theorem dX3_status_59 : decode cX3_status 59 = .ok (.iload_n 2, 1) := dk_28 (dk_at dksX3_status_2 12 rfl rfl)
theorem dX3_status_60 : decode cX3_status 60 = .ok (.ireturn, 1) := dk_172 (dk_at dksX3_status_2 13 rfl rfl)
theorem q86 : (Jvm.Cond.initialized "RumourBedsModel") ∈ lw_all := lw_g (lw_at lw_m1 4 rfl) rfl
theorem q1040 : (Jvm.Cond.instantiable "RumourBedsModel" (16 : Nat)) ∈ lw_all := lw_g (lw_at lw_m4 238 rfl) rfl
theorem q1042 : (Jvm.Cond.instanceMethod ({ cls := "RumourBedsModel", name := "<init>", desc := "()V" } : Jvm.MethodName)) ∈ lw_all := lw_g (lw_at lw_m5 0 rfl) rfl
theorem q1043 : (Jvm.Cond.code ({ cls := "RumourBedsModel", name := "<init>", desc := "()V" } : Jvm.MethodName) prog_17_method_1_code (2 : Nat) (Option.none : Option Jvm.ClassFile.FieldType)) ∈ lw_all := lw_g (lw_at lw_m5 1 rfl) rfl
theorem q1044 : (Jvm.Cond.methodLink "RumourBedsModel" (1 : Nat) ({ cls := "java/lang/Object", name := "<init>", desc := "()V" } : Jvm.MethodName)) ∈ lw_all := lw_g (lw_at lw_m5 2 rfl) rfl
theorem q1045 : (Jvm.Cond.methodLink "RumourBedsModel" (41 : Nat) ({ cls := "RumourBedsModel", name := "partOf", desc := "(II)I" } : Jvm.MethodName)) ∈ lw_all := lw_g (lw_at lw_m5 3 rfl) rfl
theorem q1046 : (Jvm.Cond.static ({ cls := "RumourBedsModel", name := "partOf", desc := "(II)I" } : Jvm.MethodName)) ∈ lw_all := lw_g (lw_at lw_m5 4 rfl) rfl
theorem q1047 : (Jvm.Cond.code ({ cls := "RumourBedsModel", name := "partOf", desc := "(II)I" } : Jvm.MethodName) prog_17_method_13_code (2 : Nat) (Option.some Jvm.ClassFile.FieldType.int)) ∈ lw_all := lw_g (lw_at lw_m5 5 rfl) rfl
theorem q1048 : (Jvm.Cond.fieldLink "RumourBedsModel" (7 : Nat) "RumourBedsModel" "s" "[I") ∈ lw_all := lw_g (lw_at lw_m5 6 rfl) rfl
theorem q1049 : (Jvm.Cond.fieldLink "RumourBedsModel" (13 : Nat) "RumourBedsModel" "keptS" "[I") ∈ lw_all := lw_g (lw_at lw_m5 7 rfl) rfl
theorem q1050 : (Jvm.Cond.fieldLink "RumourBedsModel" (16 : Nat) "RumourBedsModel" "other" "[I") ∈ lw_all := lw_g (lw_at lw_m5 8 rfl) rfl
theorem q1051 : (Jvm.Cond.fieldLink "RumourBedsModel" (19 : Nat) "RumourBedsModel" "aside" "[I") ∈ lw_all := lw_g (lw_at lw_m5 9 rfl) rfl
theorem q1052 : (Jvm.Cond.fieldLink "RumourBedsModel" (22 : Nat) "RumourBedsModel" "statuses" "[I") ∈ lw_all := lw_g (lw_at lw_m5 10 rfl) rfl
theorem q1053 : (Jvm.Cond.fieldLink "RumourBedsModel" (331 : Nat) "RumourBedsModel" "isKept" "Z") ∈ lw_all := lw_g (lw_at lw_m5 11 rfl) rfl
theorem q1054 : (Jvm.Cond.fieldLink "RumourBedsModel" (25 : Nat) "RumourBedsModel" "tape" "[I") ∈ lw_all := lw_g (lw_at lw_m5 12 rfl) rfl
theorem q1055 : (Jvm.Cond.fieldLink "RumourBedsModel" (208 : Nat) "RumourBedsModel" "taped" "I") ∈ lw_all := lw_g (lw_at lw_m5 13 rfl) rfl
theorem q1056 : (Jvm.Cond.fieldLink "RumourBedsModel" (223 : Nat) "RumourBedsModel" "from" "I") ∈ lw_all := lw_g (lw_at lw_m5 14 rfl) rfl
theorem q1057 : (Jvm.Cond.fieldLink "RumourBedsModel" (220 : Nat) "RumourBedsModel" "to" "I") ∈ lw_all := lw_g (lw_at lw_m5 15 rfl) rfl
theorem q1058 : (Jvm.Cond.fieldLink "RumourBedsModel" (246 : Nat) "RumourBedsModel" "value" "I") ∈ lw_all := lw_g (lw_at lw_m5 16 rfl) rfl
theorem q1059 : (Jvm.Cond.fieldLink "RumourBedsModel" (235 : Nat) "RumourBedsModel" "isWrong" "Z") ∈ lw_all := lw_g (lw_at lw_m5 17 rfl) rfl
theorem q1060 : (Jvm.Cond.fieldLink "RumourBedsModel" (28 : Nat) "RumourBedsModel" "bitsOf" "[I") ∈ lw_all := lw_g (lw_at lw_m5 18 rfl) rfl
theorem q1061 : (Jvm.Cond.fieldLink "RumourBedsModel" (31 : Nat) "RumourBedsModel" "sizeOf" "[I") ∈ lw_all := lw_g (lw_at lw_m5 19 rfl) rfl
theorem q1062 : (Jvm.Cond.fieldLink "RumourBedsModel" (34 : Nat) "RumourBedsModel" "numbers" "[J") ∈ lw_all := lw_g (lw_at lw_m5 20 rfl) rfl
theorem q1063 : (Jvm.Cond.fieldLink "RumourBedsModel" (38 : Nat) "RumourBedsModel" "moved" "[J") ∈ lw_all := lw_g (lw_at lw_m5 21 rfl) rfl
theorem q1064 : (Jvm.Cond.laysFinal "RumourBedsModel" "RumourBedsModel" "s" "[I") ∈ lw_all := lw_g (lw_at lw_m5 22 rfl) rfl
theorem q1065 : (Jvm.Cond.soleField "RumourBedsModel" "s") ∈ lw_all := lw_g (lw_at lw_m5 23 rfl) rfl
theorem q1066 : (Jvm.Cond.laysFinal "RumourBedsModel" "RumourBedsModel" "keptS" "[I") ∈ lw_all := lw_g (lw_at lw_m5 24 rfl) rfl
theorem q1067 : (Jvm.Cond.soleField "RumourBedsModel" "keptS") ∈ lw_all := lw_g (lw_at lw_m5 25 rfl) rfl
theorem q1068 : (Jvm.Cond.laysFinal "RumourBedsModel" "RumourBedsModel" "other" "[I") ∈ lw_all := lw_g (lw_at lw_m5 26 rfl) rfl
theorem q1069 : (Jvm.Cond.soleField "RumourBedsModel" "other") ∈ lw_all := lw_g (lw_at lw_m5 27 rfl) rfl
theorem q1070 : (Jvm.Cond.laysFinal "RumourBedsModel" "RumourBedsModel" "aside" "[I") ∈ lw_all := lw_g (lw_at lw_m5 28 rfl) rfl
theorem q1071 : (Jvm.Cond.soleField "RumourBedsModel" "aside") ∈ lw_all := lw_g (lw_at lw_m5 29 rfl) rfl
theorem q1072 : (Jvm.Cond.laysFinal "RumourBedsModel" "RumourBedsModel" "statuses" "[I") ∈ lw_all := lw_g (lw_at lw_m5 30 rfl) rfl
theorem q1073 : (Jvm.Cond.soleField "RumourBedsModel" "statuses") ∈ lw_all := lw_g (lw_at lw_m5 31 rfl) rfl
theorem q1074 : (Jvm.Cond.lays "RumourBedsModel" "RumourBedsModel" "isKept" "Z") ∈ lw_all := lw_g (lw_at lw_m5 32 rfl) rfl
theorem q1075 : (Jvm.Cond.soleField "RumourBedsModel" "isKept") ∈ lw_all := lw_g (lw_at lw_m5 33 rfl) rfl
theorem q1076 : (Jvm.Cond.laysFinal "RumourBedsModel" "RumourBedsModel" "tape" "[I") ∈ lw_all := lw_g (lw_at lw_m5 34 rfl) rfl
theorem q1077 : (Jvm.Cond.soleField "RumourBedsModel" "tape") ∈ lw_all := lw_g (lw_at lw_m5 35 rfl) rfl
theorem q1078 : (Jvm.Cond.lays "RumourBedsModel" "RumourBedsModel" "taped" "I") ∈ lw_all := lw_g (lw_at lw_m5 36 rfl) rfl
theorem q1079 : (Jvm.Cond.soleField "RumourBedsModel" "taped") ∈ lw_all := lw_g (lw_at lw_m5 37 rfl) rfl
theorem q1080 : (Jvm.Cond.lays "RumourBedsModel" "RumourBedsModel" "from" "I") ∈ lw_all := lw_g (lw_at lw_m5 38 rfl) rfl
theorem q1081 : (Jvm.Cond.soleField "RumourBedsModel" "from") ∈ lw_all := lw_g (lw_at lw_m5 39 rfl) rfl
theorem q1082 : (Jvm.Cond.lays "RumourBedsModel" "RumourBedsModel" "to" "I") ∈ lw_all := lw_g (lw_at lw_m5 40 rfl) rfl
theorem q1083 : (Jvm.Cond.soleField "RumourBedsModel" "to") ∈ lw_all := lw_g (lw_at lw_m5 41 rfl) rfl
theorem q1084 : (Jvm.Cond.lays "RumourBedsModel" "RumourBedsModel" "value" "I") ∈ lw_all := lw_g (lw_at lw_m5 42 rfl) rfl
theorem q1085 : (Jvm.Cond.soleField "RumourBedsModel" "value") ∈ lw_all := lw_g (lw_at lw_m5 43 rfl) rfl
theorem q1086 : (Jvm.Cond.lays "RumourBedsModel" "RumourBedsModel" "isWrong" "Z") ∈ lw_all := lw_g (lw_at lw_m5 44 rfl) rfl
theorem q1087 : (Jvm.Cond.soleField "RumourBedsModel" "isWrong") ∈ lw_all := lw_g (lw_at lw_m5 45 rfl) rfl
theorem q1088 : (Jvm.Cond.laysFinal "RumourBedsModel" "RumourBedsModel" "bitsOf" "[I") ∈ lw_all := lw_g (lw_at lw_m5 46 rfl) rfl
theorem q1089 : (Jvm.Cond.soleField "RumourBedsModel" "bitsOf") ∈ lw_all := lw_g (lw_at lw_m5 47 rfl) rfl
theorem q1090 : (Jvm.Cond.laysFinal "RumourBedsModel" "RumourBedsModel" "sizeOf" "[I") ∈ lw_all := lw_g (lw_at lw_m5 48 rfl) rfl
theorem q1091 : (Jvm.Cond.soleField "RumourBedsModel" "sizeOf") ∈ lw_all := lw_g (lw_at lw_m5 49 rfl) rfl
theorem q1092 : (Jvm.Cond.laysFinal "RumourBedsModel" "RumourBedsModel" "numbers" "[J") ∈ lw_all := lw_g (lw_at lw_m5 50 rfl) rfl
theorem q1093 : (Jvm.Cond.soleField "RumourBedsModel" "numbers") ∈ lw_all := lw_g (lw_at lw_m5 51 rfl) rfl
theorem q1094 : (Jvm.Cond.laysFinal "RumourBedsModel" "RumourBedsModel" "moved" "[J") ∈ lw_all := lw_g (lw_at lw_m5 52 rfl) rfl
theorem q1095 : (Jvm.Cond.soleField "RumourBedsModel" "moved") ∈ lw_all := lw_g (lw_at lw_m5 53 rfl) rfl
theorem q1096 : (Jvm.Cond.superclass "RumourBedsModel" "java/lang/Object") ∈ lw_all := lw_g (lw_at lw_m5 54 rfl) rfl
theorem q1098 : (Jvm.Cond.instanceMethod ({ cls := "RumourBedsModel", name := "house", desc := "(III)I" } : Jvm.MethodName)) ∈ lw_all := lw_g (lw_at lw_m5 56 rfl) rfl
theorem q1099 : (Jvm.Cond.selects "RumourBedsModel" ({ cls := "RumourBedsModel", name := "house", desc := "(III)I" } : Jvm.MethodName) ({ cls := "RumourBedsModel", name := "house", desc := "(III)I" } : Jvm.MethodName)) ∈ lw_all := lw_g (lw_at lw_m5 57 rfl) rfl
theorem q1100 : (Jvm.Cond.code ({ cls := "RumourBedsModel", name := "house", desc := "(III)I" } : Jvm.MethodName) prog_17_method_17_code (5 : Nat) (Option.some Jvm.ClassFile.FieldType.int)) ∈ lw_all := lw_g (lw_at lw_m5 58 rfl) rfl
theorem q1101 : (Jvm.Cond.constantLong "RumourBedsModel" (59 : Nat) (2 : Int64)) ∈ lw_all := lw_g (lw_at lw_m5 59 rfl) rfl
theorem q1102 : (Jvm.Cond.methodLink "RumourBedsModel" (48 : Nat) ({ cls := "RumourBedsModel", name := "in", desc := "(JJJ)Z" } : Jvm.MethodName)) ∈ lw_all := lw_g (lw_at lw_m5 60 rfl) rfl
theorem q1103 : (Jvm.Cond.static ({ cls := "RumourBedsModel", name := "in", desc := "(JJJ)Z" } : Jvm.MethodName)) ∈ lw_all := lw_g (lw_at lw_m5 61 rfl) rfl
theorem q1104 : (Jvm.Cond.code ({ cls := "RumourBedsModel", name := "in", desc := "(JJJ)Z" } : Jvm.MethodName) prog_17_method_2_code (6 : Nat) (Option.some Jvm.ClassFile.FieldType.boolean)) ∈ lw_all := lw_g (lw_at lw_m5 62 rfl) rfl
theorem q1105 : (Jvm.Cond.constantLong "RumourBedsModel" (61 : Nat) (3 : Int64)) ∈ lw_all := lw_g (lw_at lw_m5 63 rfl) rfl
theorem q1106 : (Jvm.Cond.constantLong "RumourBedsModel" (63 : Nat) (999 : Int64)) ∈ lw_all := lw_g (lw_at lw_m5 64 rfl) rfl
theorem q1107 : (Jvm.Cond.constantLong "RumourBedsModel" (65 : Nat) (9 : Int64)) ∈ lw_all := lw_g (lw_at lw_m5 65 rfl) rfl
theorem q1108 : (Jvm.Cond.methodLink "RumourBedsModel" (67 : Nat) ({ cls := "RumourBedsModel", name := "isHouse", desc := "(I)Z" } : Jvm.MethodName)) ∈ lw_all := lw_g (lw_at lw_m5 66 rfl) rfl
theorem q1109 : (Jvm.Cond.static ({ cls := "RumourBedsModel", name := "isHouse", desc := "(I)Z" } : Jvm.MethodName)) ∈ lw_all := lw_g (lw_at lw_m5 67 rfl) rfl
theorem q1110 : (Jvm.Cond.code ({ cls := "RumourBedsModel", name := "isHouse", desc := "(I)Z" } : Jvm.MethodName) prog_17_method_9_code (1 : Nat) (Option.some Jvm.ClassFile.FieldType.boolean)) ∈ lw_all := lw_g (lw_at lw_m5 68 rfl) rfl
theorem q1111 : (Jvm.Cond.constantLong "RumourBedsModel" (46 : Nat) (7 : Int64)) ∈ lw_all := lw_g (lw_at lw_m5 69 rfl) rfl
theorem q1112 : (Jvm.Cond.methodLink "RumourBedsModel" (71 : Nat) ({ cls := "RumourBedsModel", name := "becomes", desc := "(II)I" } : Jvm.MethodName)) ∈ lw_all := lw_g (lw_at lw_m5 70 rfl) rfl
theorem q1113 : (Jvm.Cond.privateMethod ({ cls := "RumourBedsModel", name := "becomes", desc := "(II)I" } : Jvm.MethodName)) ∈ lw_tbl := lw_at lw_m5 71 rfl
theorem q1114 : (Jvm.Cond.instanceMethod ({ cls := "RumourBedsModel", name := "becomes", desc := "(II)I" } : Jvm.MethodName)) ∈ lw_all := lw_g (lw_at lw_m5 72 rfl) rfl
theorem q1115 : (Jvm.Cond.code ({ cls := "RumourBedsModel", name := "becomes", desc := "(II)I" } : Jvm.MethodName) prog_17_method_8_code (4 : Nat) (Option.some Jvm.ClassFile.FieldType.int)) ∈ lw_all := lw_g (lw_at lw_m5 73 rfl) rfl
theorem q1116 : (Jvm.Cond.constant "RumourBedsModel" (45 : Nat) (-1000000001 : Int32)) ∈ lw_all := lw_g (lw_at lw_m5 74 rfl) rfl
theorem q1117 : (Jvm.Cond.methodLink "RumourBedsModel" (74 : Nat) ({ cls := "RumourBedsModel", name := "finds", desc := "(I)I" } : Jvm.MethodName)) ∈ lw_all := lw_g (lw_at lw_m5 75 rfl) rfl
theorem q1118 : (Jvm.Cond.privateMethod ({ cls := "RumourBedsModel", name := "finds", desc := "(I)I" } : Jvm.MethodName)) ∈ lw_tbl := lw_at lw_m5 76 rfl
theorem q1119 : (Jvm.Cond.instanceMethod ({ cls := "RumourBedsModel", name := "finds", desc := "(I)I" } : Jvm.MethodName)) ∈ lw_all := lw_g (lw_at lw_m5 77 rfl) rfl
theorem q1120 : (Jvm.Cond.code ({ cls := "RumourBedsModel", name := "finds", desc := "(I)I" } : Jvm.MethodName) prog_17_method_3_code (2 : Nat) (Option.some Jvm.ClassFile.FieldType.int)) ∈ lw_all := lw_g (lw_at lw_m5 78 rfl) rfl
theorem q1122 : (Jvm.Cond.instanceMethod ({ cls := "RumourBedsModel", name := "houseOf", desc := "(II)I" } : Jvm.MethodName)) ∈ lw_all := lw_g (lw_at lw_m5 80 rfl) rfl
theorem q1123 : (Jvm.Cond.selects "RumourBedsModel" ({ cls := "RumourBedsModel", name := "houseOf", desc := "(II)I" } : Jvm.MethodName) ({ cls := "RumourBedsModel", name := "houseOf", desc := "(II)I" } : Jvm.MethodName)) ∈ lw_all := lw_g (lw_at lw_m5 81 rfl) rfl
theorem q1124 : (Jvm.Cond.code ({ cls := "RumourBedsModel", name := "houseOf", desc := "(II)I" } : Jvm.MethodName) prog_17_method_22_code (3 : Nat) (Option.some Jvm.ClassFile.FieldType.int)) ∈ lw_all := lw_g (lw_at lw_m5 82 rfl) rfl
theorem q1125 : (Jvm.Cond.constantLong "RumourBedsModel" (52 : Nat) (5 : Int64)) ∈ lw_all := lw_g (lw_at lw_m5 83 rfl) rfl
theorem q1126 : (Jvm.Cond.methodLink "RumourBedsModel" (84 : Nat) ({ cls := "RumourBedsModel", name := "has", desc := "(II)I" } : Jvm.MethodName)) ∈ lw_all := lw_g (lw_at lw_m5 84 rfl) rfl
theorem q1127 : (Jvm.Cond.privateMethod ({ cls := "RumourBedsModel", name := "has", desc := "(II)I" } : Jvm.MethodName)) ∈ lw_tbl := lw_at lw_m5 85 rfl
theorem q1128 : (Jvm.Cond.instanceMethod ({ cls := "RumourBedsModel", name := "has", desc := "(II)I" } : Jvm.MethodName)) ∈ lw_all := lw_g (lw_at lw_m5 86 rfl) rfl
theorem q1129 : (Jvm.Cond.code ({ cls := "RumourBedsModel", name := "has", desc := "(II)I" } : Jvm.MethodName) prog_17_method_16_code (3 : Nat) (Option.some Jvm.ClassFile.FieldType.int)) ∈ lw_all := lw_g (lw_at lw_m5 87 rfl) rfl
theorem q1130 : (Jvm.Cond.methodLink "RumourBedsModel" (87 : Nat) ({ cls := "RumourBedsModel", name := "thoseAt", desc := "(I)I" } : Jvm.MethodName)) ∈ lw_all := lw_g (lw_at lw_m5 88 rfl) rfl
theorem q1131 : (Jvm.Cond.privateMethod ({ cls := "RumourBedsModel", name := "thoseAt", desc := "(I)I" } : Jvm.MethodName)) ∈ lw_tbl := lw_at lw_m5 89 rfl
theorem q1132 : (Jvm.Cond.instanceMethod ({ cls := "RumourBedsModel", name := "thoseAt", desc := "(I)I" } : Jvm.MethodName)) ∈ lw_all := lw_g (lw_at lw_m5 90 rfl) rfl
theorem q1133 : (Jvm.Cond.code ({ cls := "RumourBedsModel", name := "thoseAt", desc := "(I)I" } : Jvm.MethodName) prog_17_method_18_code (4 : Nat) (Option.some Jvm.ClassFile.FieldType.int)) ∈ lw_all := lw_g (lw_at lw_m5 91 rfl) rfl
theorem q1134 : (Jvm.Cond.methodLink "RumourBedsModel" (78 : Nat) ({ cls := "RumourBedsModel", name := "its", desc := "(II)I" } : Jvm.MethodName)) ∈ lw_all := lw_g (lw_at lw_m5 92 rfl) rfl
theorem q1135 : (Jvm.Cond.privateMethod ({ cls := "RumourBedsModel", name := "its", desc := "(II)I" } : Jvm.MethodName)) ∈ lw_tbl := lw_at lw_m5 93 rfl
theorem q1136 : (Jvm.Cond.instanceMethod ({ cls := "RumourBedsModel", name := "its", desc := "(II)I" } : Jvm.MethodName)) ∈ lw_all := lw_g (lw_at lw_m5 94 rfl) rfl
theorem q1137 : (Jvm.Cond.code ({ cls := "RumourBedsModel", name := "its", desc := "(II)I" } : Jvm.MethodName) prog_17_method_15_code (3 : Nat) (Option.some Jvm.ClassFile.FieldType.int)) ∈ lw_all := lw_g (lw_at lw_m5 95 rfl) rfl
theorem q1138 : (Jvm.Cond.methodLink "RumourBedsModel" (56 : Nat) ({ cls := "RumourBedsModel", name := "spotOf", desc := "(II)I" } : Jvm.MethodName)) ∈ lw_all := lw_g (lw_at lw_m5 96 rfl) rfl
theorem q1139 : (Jvm.Cond.static ({ cls := "RumourBedsModel", name := "spotOf", desc := "(II)I" } : Jvm.MethodName)) ∈ lw_all := lw_g (lw_at lw_m5 97 rfl) rfl
theorem q1140 : (Jvm.Cond.code ({ cls := "RumourBedsModel", name := "spotOf", desc := "(II)I" } : Jvm.MethodName) prog_17_method_14_code (2 : Nat) (Option.some Jvm.ClassFile.FieldType.int)) ∈ lw_all := lw_g (lw_at lw_m5 98 rfl) rfl
theorem q1141 : (Jvm.Cond.methodLink "RumourBedsModel" (90 : Nat) ({ cls := "RumourBedsModel", name := "eventsAt", desc := "(I)I" } : Jvm.MethodName)) ∈ lw_all := lw_g (lw_at lw_m5 99 rfl) rfl
theorem q1142 : (Jvm.Cond.privateMethod ({ cls := "RumourBedsModel", name := "eventsAt", desc := "(I)I" } : Jvm.MethodName)) ∈ lw_tbl := lw_at lw_m5 100 rfl
theorem q1143 : (Jvm.Cond.instanceMethod ({ cls := "RumourBedsModel", name := "eventsAt", desc := "(I)I" } : Jvm.MethodName)) ∈ lw_all := lw_g (lw_at lw_m5 101 rfl) rfl
theorem q1144 : (Jvm.Cond.code ({ cls := "RumourBedsModel", name := "eventsAt", desc := "(I)I" } : Jvm.MethodName) prog_17_method_20_code (4 : Nat) (Option.some Jvm.ClassFile.FieldType.int)) ∈ lw_all := lw_g (lw_at lw_m5 102 rfl) rfl
theorem q1145 : (Jvm.Cond.methodLink "RumourBedsModel" (93 : Nat) ({ cls := "RumourBedsModel", name := "eatenAt", desc := "(I)I" } : Jvm.MethodName)) ∈ lw_all := lw_g (lw_at lw_m5 103 rfl) rfl
theorem q1146 : (Jvm.Cond.privateMethod ({ cls := "RumourBedsModel", name := "eatenAt", desc := "(I)I" } : Jvm.MethodName)) ∈ lw_tbl := lw_at lw_m5 104 rfl
theorem q1147 : (Jvm.Cond.instanceMethod ({ cls := "RumourBedsModel", name := "eatenAt", desc := "(I)I" } : Jvm.MethodName)) ∈ lw_all := lw_g (lw_at lw_m5 105 rfl) rfl
theorem q1148 : (Jvm.Cond.code ({ cls := "RumourBedsModel", name := "eatenAt", desc := "(I)I" } : Jvm.MethodName) prog_17_method_21_code (4 : Nat) (Option.some Jvm.ClassFile.FieldType.int)) ∈ lw_all := lw_g (lw_at lw_m5 106 rfl) rfl
theorem q1149 : (Jvm.Cond.methodLink "RumourBedsModel" (81 : Nat) ({ cls := "RumourBedsModel", name := "eats", desc := "(I)I" } : Jvm.MethodName)) ∈ lw_all := lw_g (lw_at lw_m5 107 rfl) rfl
theorem q1150 : (Jvm.Cond.privateMethod ({ cls := "RumourBedsModel", name := "eats", desc := "(I)I" } : Jvm.MethodName)) ∈ lw_tbl := lw_at lw_m5 108 rfl
theorem q1151 : (Jvm.Cond.instanceMethod ({ cls := "RumourBedsModel", name := "eats", desc := "(I)I" } : Jvm.MethodName)) ∈ lw_all := lw_g (lw_at lw_m5 109 rfl) rfl
theorem q1152 : (Jvm.Cond.code ({ cls := "RumourBedsModel", name := "eats", desc := "(I)I" } : Jvm.MethodName) prog_17_method_25_code (4 : Nat) (Option.some Jvm.ClassFile.FieldType.int)) ∈ lw_all := lw_g (lw_at lw_m5 110 rfl) rfl
theorem q1154 : (Jvm.Cond.instanceMethod ({ cls := "RumourBedsModel", name := "rumour", desc := "(II)I" } : Jvm.MethodName)) ∈ lw_all := lw_g (lw_at lw_m5 112 rfl) rfl
theorem q1155 : (Jvm.Cond.selects "RumourBedsModel" ({ cls := "RumourBedsModel", name := "rumour", desc := "(II)I" } : Jvm.MethodName) ({ cls := "RumourBedsModel", name := "rumour", desc := "(II)I" } : Jvm.MethodName)) ∈ lw_all := lw_g (lw_at lw_m5 113 rfl) rfl
theorem q1156 : (Jvm.Cond.code ({ cls := "RumourBedsModel", name := "rumour", desc := "(II)I" } : Jvm.MethodName) prog_17_method_24_code (3 : Nat) (Option.some Jvm.ClassFile.FieldType.int)) ∈ lw_all := lw_g (lw_at lw_m5 114 rfl) rfl
theorem q1157 : (Jvm.Cond.methodLink "RumourBedsModel" (96 : Nat) ({ cls := "RumourBedsModel", name := "isKind", desc := "(I)Z" } : Jvm.MethodName)) ∈ lw_all := lw_g (lw_at lw_m5 115 rfl) rfl
theorem q1158 : (Jvm.Cond.static ({ cls := "RumourBedsModel", name := "isKind", desc := "(I)Z" } : Jvm.MethodName)) ∈ lw_all := lw_g (lw_at lw_m5 116 rfl) rfl
theorem q1159 : (Jvm.Cond.code ({ cls := "RumourBedsModel", name := "isKind", desc := "(I)Z" } : Jvm.MethodName) prog_17_method_11_code (1 : Nat) (Option.some Jvm.ClassFile.FieldType.boolean)) ∈ lw_all := lw_g (lw_at lw_m5 117 rfl) rfl
theorem q1160 : (Jvm.Cond.methodLink "RumourBedsModel" (99 : Nat) ({ cls := "RumourBedsModel", name := "isEvent", desc := "(I)Z" } : Jvm.MethodName)) ∈ lw_all := lw_g (lw_at lw_m5 118 rfl) rfl
theorem q1161 : (Jvm.Cond.static ({ cls := "RumourBedsModel", name := "isEvent", desc := "(I)Z" } : Jvm.MethodName)) ∈ lw_all := lw_g (lw_at lw_m5 119 rfl) rfl
theorem q1162 : (Jvm.Cond.code ({ cls := "RumourBedsModel", name := "isEvent", desc := "(I)Z" } : Jvm.MethodName) prog_17_method_12_code (1 : Nat) (Option.some Jvm.ClassFile.FieldType.boolean)) ∈ lw_all := lw_g (lw_at lw_m5 120 rfl) rfl
theorem q1163 : (Jvm.Cond.constantLong "RumourBedsModel" (54 : Nat) (15 : Int64)) ∈ lw_all := lw_g (lw_at lw_m5 121 rfl) rfl
theorem q1164 : (Jvm.Cond.constant "RumourBedsModel" (102 : Nat) (-1000000002 : Int32)) ∈ lw_all := lw_g (lw_at lw_m5 122 rfl) rfl
theorem q1165 : (Jvm.Cond.methodLink "RumourBedsModel" (103 : Nat) ({ cls := "RumourBedsModel", name := "adds", desc := "(II)I" } : Jvm.MethodName)) ∈ lw_all := lw_g (lw_at lw_m5 123 rfl) rfl
theorem q1166 : (Jvm.Cond.privateMethod ({ cls := "RumourBedsModel", name := "adds", desc := "(II)I" } : Jvm.MethodName)) ∈ lw_tbl := lw_at lw_m5 124 rfl
theorem q1167 : (Jvm.Cond.instanceMethod ({ cls := "RumourBedsModel", name := "adds", desc := "(II)I" } : Jvm.MethodName)) ∈ lw_all := lw_g (lw_at lw_m5 125 rfl) rfl
theorem q1168 : (Jvm.Cond.code ({ cls := "RumourBedsModel", name := "adds", desc := "(II)I" } : Jvm.MethodName) prog_17_method_23_code (4 : Nat) (Option.some Jvm.ClassFile.FieldType.int)) ∈ lw_all := lw_g (lw_at lw_m5 126 rfl) rfl
theorem q1170 : (Jvm.Cond.instanceMethod ({ cls := "RumourBedsModel", name := "of", desc := "(II)I" } : Jvm.MethodName)) ∈ lw_all := lw_g (lw_at lw_m5 128 rfl) rfl
theorem q1171 : (Jvm.Cond.selects "RumourBedsModel" ({ cls := "RumourBedsModel", name := "of", desc := "(II)I" } : Jvm.MethodName) ({ cls := "RumourBedsModel", name := "of", desc := "(II)I" } : Jvm.MethodName)) ∈ lw_all := lw_g (lw_at lw_m5 129 rfl) rfl
theorem q1172 : (Jvm.Cond.code ({ cls := "RumourBedsModel", name := "of", desc := "(II)I" } : Jvm.MethodName) prog_17_method_28_code (3 : Nat) (Option.some Jvm.ClassFile.FieldType.int)) ∈ lw_all := lw_g (lw_at lw_m5 130 rfl) rfl
theorem q1173 : (Jvm.Cond.methodLink "RumourBedsModel" (106 : Nat) ({ cls := "RumourBedsModel", name := "isRumour", desc := "(I)Z" } : Jvm.MethodName)) ∈ lw_all := lw_g (lw_at lw_m5 131 rfl) rfl
theorem q1174 : (Jvm.Cond.privateMethod ({ cls := "RumourBedsModel", name := "isRumour", desc := "(I)Z" } : Jvm.MethodName)) ∈ lw_tbl := lw_at lw_m5 132 rfl
theorem q1175 : (Jvm.Cond.instanceMethod ({ cls := "RumourBedsModel", name := "isRumour", desc := "(I)Z" } : Jvm.MethodName)) ∈ lw_all := lw_g (lw_at lw_m5 133 rfl) rfl
theorem q1176 : (Jvm.Cond.code ({ cls := "RumourBedsModel", name := "isRumour", desc := "(I)Z" } : Jvm.MethodName) prog_17_method_10_code (2 : Nat) (Option.some Jvm.ClassFile.FieldType.boolean)) ∈ lw_all := lw_g (lw_at lw_m5 134 rfl) rfl
theorem q1177 : (Jvm.Cond.methodLink "RumourBedsModel" (109 : Nat) ({ cls := "RumourBedsModel", name := "needs", desc := "(I)I" } : Jvm.MethodName)) ∈ lw_all := lw_g (lw_at lw_m5 135 rfl) rfl
theorem q1178 : (Jvm.Cond.privateMethod ({ cls := "RumourBedsModel", name := "needs", desc := "(I)I" } : Jvm.MethodName)) ∈ lw_tbl := lw_at lw_m5 136 rfl
theorem q1179 : (Jvm.Cond.instanceMethod ({ cls := "RumourBedsModel", name := "needs", desc := "(I)I" } : Jvm.MethodName)) ∈ lw_all := lw_g (lw_at lw_m5 137 rfl) rfl
theorem q1180 : (Jvm.Cond.code ({ cls := "RumourBedsModel", name := "needs", desc := "(I)I" } : Jvm.MethodName) prog_17_method_26_code (3 : Nat) (Option.some Jvm.ClassFile.FieldType.int)) ∈ lw_all := lw_g (lw_at lw_m5 138 rfl) rfl
theorem q1181 : (Jvm.Cond.methodLink "RumourBedsModel" (112 : Nat) ({ cls := "RumourBedsModel", name := "grows", desc := "(I)I" } : Jvm.MethodName)) ∈ lw_all := lw_g (lw_at lw_m5 139 rfl) rfl
theorem q1182 : (Jvm.Cond.privateMethod ({ cls := "RumourBedsModel", name := "grows", desc := "(I)I" } : Jvm.MethodName)) ∈ lw_tbl := lw_at lw_m5 140 rfl
theorem q1183 : (Jvm.Cond.instanceMethod ({ cls := "RumourBedsModel", name := "grows", desc := "(I)I" } : Jvm.MethodName)) ∈ lw_all := lw_g (lw_at lw_m5 141 rfl) rfl
theorem q1184 : (Jvm.Cond.code ({ cls := "RumourBedsModel", name := "grows", desc := "(I)I" } : Jvm.MethodName) prog_17_method_27_code (2 : Nat) (Option.some Jvm.ClassFile.FieldType.int)) ∈ lw_all := lw_g (lw_at lw_m5 142 rfl) rfl
theorem q1186 : (Jvm.Cond.instanceMethod ({ cls := "RumourBedsModel", name := "set", desc := "(III)I" } : Jvm.MethodName)) ∈ lw_all := lw_g (lw_at lw_m5 144 rfl) rfl
theorem q1187 : (Jvm.Cond.selects "RumourBedsModel" ({ cls := "RumourBedsModel", name := "set", desc := "(III)I" } : Jvm.MethodName) ({ cls := "RumourBedsModel", name := "set", desc := "(III)I" } : Jvm.MethodName)) ∈ lw_all := lw_g (lw_at lw_m5 145 rfl) rfl
theorem q1188 : (Jvm.Cond.code ({ cls := "RumourBedsModel", name := "set", desc := "(III)I" } : Jvm.MethodName) prog_17_method_29_code (5 : Nat) (Option.some Jvm.ClassFile.FieldType.int)) ∈ lw_all := lw_g (lw_at lw_m5 146 rfl) rfl
theorem q1189 : (Jvm.Cond.constantLong "RumourBedsModel" (115 : Nat) (99 : Int64)) ∈ lw_all := lw_g (lw_at lw_m5 147 rfl) rfl
theorem q1191 : (Jvm.Cond.instanceMethod ({ cls := "RumourBedsModel", name := "turn", desc := "(II)I" } : Jvm.MethodName)) ∈ lw_all := lw_g (lw_at lw_m5 149 rfl) rfl
theorem q1192 : (Jvm.Cond.selects "RumourBedsModel" ({ cls := "RumourBedsModel", name := "turn", desc := "(II)I" } : Jvm.MethodName) ({ cls := "RumourBedsModel", name := "turn", desc := "(II)I" } : Jvm.MethodName)) ∈ lw_all := lw_g (lw_at lw_m5 150 rfl) rfl
theorem q1193 : (Jvm.Cond.code ({ cls := "RumourBedsModel", name := "turn", desc := "(II)I" } : Jvm.MethodName) prog_17_method_30_code (3 : Nat) (Option.some Jvm.ClassFile.FieldType.int)) ∈ lw_all := lw_g (lw_at lw_m5 151 rfl) rfl
theorem q1195 : (Jvm.Cond.instanceMethod ({ cls := "RumourBedsModel", name := "as", desc := "(II)I" } : Jvm.MethodName)) ∈ lw_all := lw_g (lw_at lw_m5 153 rfl) rfl
theorem q1196 : (Jvm.Cond.selects "RumourBedsModel" ({ cls := "RumourBedsModel", name := "as", desc := "(II)I" } : Jvm.MethodName) ({ cls := "RumourBedsModel", name := "as", desc := "(II)I" } : Jvm.MethodName)) ∈ lw_all := lw_g (lw_at lw_m5 154 rfl) rfl
theorem q1197 : (Jvm.Cond.code ({ cls := "RumourBedsModel", name := "as", desc := "(II)I" } : Jvm.MethodName) prog_17_method_32_code (3 : Nat) (Option.some Jvm.ClassFile.FieldType.int)) ∈ lw_all := lw_g (lw_at lw_m5 155 rfl) rfl
theorem q1198 : (Jvm.Cond.methodLink "RumourBedsModel" (117 : Nat) ({ cls := "RumourBedsModel", name := "isUnder", desc := "(II)Z" } : Jvm.MethodName)) ∈ lw_all := lw_g (lw_at lw_m5 156 rfl) rfl
theorem q1199 : (Jvm.Cond.static ({ cls := "RumourBedsModel", name := "isUnder", desc := "(II)Z" } : Jvm.MethodName)) ∈ lw_all := lw_g (lw_at lw_m5 157 rfl) rfl
theorem q1200 : (Jvm.Cond.code ({ cls := "RumourBedsModel", name := "isUnder", desc := "(II)Z" } : Jvm.MethodName) prog_17_method_31_code (2 : Nat) (Option.some Jvm.ClassFile.FieldType.boolean)) ∈ lw_all := lw_g (lw_at lw_m5 158 rfl) rfl
theorem q1201 : (Jvm.Cond.constant "RumourBedsModel" (121 : Nat) (-1000000003 : Int32)) ∈ lw_all := lw_g (lw_at lw_m5 159 rfl) rfl
theorem q1203 : (Jvm.Cond.instanceMethod ({ cls := "RumourBedsModel", name := "takes", desc := "(II)I" } : Jvm.MethodName)) ∈ lw_all := lw_g (lw_at lw_m5 161 rfl) rfl
theorem q1204 : (Jvm.Cond.selects "RumourBedsModel" ({ cls := "RumourBedsModel", name := "takes", desc := "(II)I" } : Jvm.MethodName) ({ cls := "RumourBedsModel", name := "takes", desc := "(II)I" } : Jvm.MethodName)) ∈ lw_all := lw_g (lw_at lw_m5 162 rfl) rfl
theorem q1205 : (Jvm.Cond.code ({ cls := "RumourBedsModel", name := "takes", desc := "(II)I" } : Jvm.MethodName) prog_17_method_35_code (3 : Nat) (Option.some Jvm.ClassFile.FieldType.int)) ∈ lw_all := lw_g (lw_at lw_m5 163 rfl) rfl
theorem q1206 : (Jvm.Cond.methodLink "RumourBedsModel" (128 : Nat) ({ cls := "RumourBedsModel", name := "isTaken", desc := "(II)Z" } : Jvm.MethodName)) ∈ lw_all := lw_g (lw_at lw_m5 164 rfl) rfl
theorem q1207 : (Jvm.Cond.privateMethod ({ cls := "RumourBedsModel", name := "isTaken", desc := "(II)Z" } : Jvm.MethodName)) ∈ lw_tbl := lw_at lw_m5 165 rfl
theorem q1208 : (Jvm.Cond.instanceMethod ({ cls := "RumourBedsModel", name := "isTaken", desc := "(II)Z" } : Jvm.MethodName)) ∈ lw_all := lw_g (lw_at lw_m5 166 rfl) rfl
theorem q1209 : (Jvm.Cond.code ({ cls := "RumourBedsModel", name := "isTaken", desc := "(II)Z" } : Jvm.MethodName) prog_17_method_34_code (3 : Nat) (Option.some Jvm.ClassFile.FieldType.boolean)) ∈ lw_all := lw_g (lw_at lw_m5 167 rfl) rfl
theorem q1210 : (Jvm.Cond.methodLink "RumourBedsModel" (125 : Nat) ({ cls := "RumourBedsModel", name := "isFree", desc := "(I)Z" } : Jvm.MethodName)) ∈ lw_all := lw_g (lw_at lw_m5 168 rfl) rfl
theorem q1211 : (Jvm.Cond.privateMethod ({ cls := "RumourBedsModel", name := "isFree", desc := "(I)Z" } : Jvm.MethodName)) ∈ lw_tbl := lw_at lw_m5 169 rfl
theorem q1212 : (Jvm.Cond.instanceMethod ({ cls := "RumourBedsModel", name := "isFree", desc := "(I)Z" } : Jvm.MethodName)) ∈ lw_all := lw_g (lw_at lw_m5 170 rfl) rfl
theorem q1213 : (Jvm.Cond.code ({ cls := "RumourBedsModel", name := "isFree", desc := "(I)Z" } : Jvm.MethodName) prog_17_method_33_code (2 : Nat) (Option.some Jvm.ClassFile.FieldType.boolean)) ∈ lw_all := lw_g (lw_at lw_m5 171 rfl) rfl
theorem q1214 : (Jvm.Cond.methodLink "RumourBedsModel" (122 : Nat) ({ cls := "RumourBedsModel", name := "ones", desc := "(I)I" } : Jvm.MethodName)) ∈ lw_all := lw_g (lw_at lw_m5 172 rfl) rfl
theorem q1215 : (Jvm.Cond.static ({ cls := "RumourBedsModel", name := "ones", desc := "(I)I" } : Jvm.MethodName)) ∈ lw_all := lw_g (lw_at lw_m5 173 rfl) rfl
theorem q1216 : (Jvm.Cond.code ({ cls := "RumourBedsModel", name := "ones", desc := "(I)I" } : Jvm.MethodName) prog_17_method_19_code (3 : Nat) (Option.some Jvm.ClassFile.FieldType.int)) ∈ lw_all := lw_g (lw_at lw_m5 174 rfl) rfl
theorem q1218 : (Jvm.Cond.instanceMethod ({ cls := "RumourBedsModel", name := "comeIn", desc := "(I)I" } : Jvm.MethodName)) ∈ lw_all := lw_g (lw_at lw_m5 176 rfl) rfl
theorem q1219 : (Jvm.Cond.selects "RumourBedsModel" ({ cls := "RumourBedsModel", name := "comeIn", desc := "(I)I" } : Jvm.MethodName) ({ cls := "RumourBedsModel", name := "comeIn", desc := "(I)I" } : Jvm.MethodName)) ∈ lw_all := lw_g (lw_at lw_m5 177 rfl) rfl
theorem q1220 : (Jvm.Cond.code ({ cls := "RumourBedsModel", name := "comeIn", desc := "(I)I" } : Jvm.MethodName) prog_17_method_38_code (2 : Nat) (Option.some Jvm.ClassFile.FieldType.int)) ∈ lw_all := lw_g (lw_at lw_m5 178 rfl) rfl
theorem q1221 : (Jvm.Cond.methodLink "RumourBedsModel" (131 : Nat) ({ cls := "RumourBedsModel", name := "isTrue", desc := "(I)Z" } : Jvm.MethodName)) ∈ lw_all := lw_g (lw_at lw_m5 179 rfl) rfl
theorem q1222 : (Jvm.Cond.privateMethod ({ cls := "RumourBedsModel", name := "isTrue", desc := "(I)Z" } : Jvm.MethodName)) ∈ lw_tbl := lw_at lw_m5 180 rfl
theorem q1223 : (Jvm.Cond.instanceMethod ({ cls := "RumourBedsModel", name := "isTrue", desc := "(I)Z" } : Jvm.MethodName)) ∈ lw_all := lw_g (lw_at lw_m5 181 rfl) rfl
theorem q1224 : (Jvm.Cond.code ({ cls := "RumourBedsModel", name := "isTrue", desc := "(I)Z" } : Jvm.MethodName) prog_17_method_36_code (2 : Nat) (Option.some Jvm.ClassFile.FieldType.boolean)) ∈ lw_all := lw_g (lw_at lw_m5 182 rfl) rfl
theorem q1225 : (Jvm.Cond.constant "RumourBedsModel" (134 : Nat) (-1000000005 : Int32)) ∈ lw_all := lw_g (lw_at lw_m5 183 rfl) rfl
theorem q1226 : (Jvm.Cond.methodLink "RumourBedsModel" (135 : Nat) ({ cls := "RumourBedsModel", name := "hostOf", desc := "(I)I" } : Jvm.MethodName)) ∈ lw_all := lw_g (lw_at lw_m5 184 rfl) rfl
theorem q1227 : (Jvm.Cond.privateMethod ({ cls := "RumourBedsModel", name := "hostOf", desc := "(I)I" } : Jvm.MethodName)) ∈ lw_tbl := lw_at lw_m5 185 rfl
theorem q1228 : (Jvm.Cond.instanceMethod ({ cls := "RumourBedsModel", name := "hostOf", desc := "(I)I" } : Jvm.MethodName)) ∈ lw_all := lw_g (lw_at lw_m5 186 rfl) rfl
theorem q1229 : (Jvm.Cond.code ({ cls := "RumourBedsModel", name := "hostOf", desc := "(I)I" } : Jvm.MethodName) prog_17_method_37_code (4 : Nat) (Option.some Jvm.ClassFile.FieldType.int)) ∈ lw_all := lw_g (lw_at lw_m5 187 rfl) rfl
theorem q1231 : (Jvm.Cond.instanceMethod ({ cls := "RumourBedsModel", name := "improve", desc := "(II)I" } : Jvm.MethodName)) ∈ lw_all := lw_g (lw_at lw_m5 189 rfl) rfl
theorem q1232 : (Jvm.Cond.selects "RumourBedsModel" ({ cls := "RumourBedsModel", name := "improve", desc := "(II)I" } : Jvm.MethodName) ({ cls := "RumourBedsModel", name := "improve", desc := "(II)I" } : Jvm.MethodName)) ∈ lw_all := lw_g (lw_at lw_m5 190 rfl) rfl
theorem q1233 : (Jvm.Cond.code ({ cls := "RumourBedsModel", name := "improve", desc := "(II)I" } : Jvm.MethodName) prog_17_method_41_code (3 : Nat) (Option.some Jvm.ClassFile.FieldType.int)) ∈ lw_all := lw_g (lw_at lw_m5 191 rfl) rfl
theorem q1234 : (Jvm.Cond.constantLong "RumourBedsModel" (141 : Nat) (20 : Int64)) ∈ lw_all := lw_g (lw_at lw_m5 192 rfl) rfl
theorem q1235 : (Jvm.Cond.methodLink "RumourBedsModel" (143 : Nat) ({ cls := "RumourBedsModel", name := "isImproved", desc := "(II)V" } : Jvm.MethodName)) ∈ lw_all := lw_g (lw_at lw_m5 193 rfl) rfl
theorem q1236 : (Jvm.Cond.privateMethod ({ cls := "RumourBedsModel", name := "isImproved", desc := "(II)V" } : Jvm.MethodName)) ∈ lw_tbl := lw_at lw_m5 194 rfl
theorem q1237 : (Jvm.Cond.instanceMethod ({ cls := "RumourBedsModel", name := "isImproved", desc := "(II)V" } : Jvm.MethodName)) ∈ lw_all := lw_g (lw_at lw_m5 195 rfl) rfl
theorem q1238 : (Jvm.Cond.code ({ cls := "RumourBedsModel", name := "isImproved", desc := "(II)V" } : Jvm.MethodName) prog_17_method_40_code (6 : Nat) (Option.none : Option Jvm.ClassFile.FieldType)) ∈ lw_all := lw_g (lw_at lw_m5 196 rfl) rfl
theorem q1239 : (Jvm.Cond.methodLink "RumourBedsModel" (138 : Nat) ({ cls := "RumourBedsModel", name := "heldTo", desc := "(II)I" } : Jvm.MethodName)) ∈ lw_all := lw_g (lw_at lw_m5 197 rfl) rfl
theorem q1240 : (Jvm.Cond.static ({ cls := "RumourBedsModel", name := "heldTo", desc := "(II)I" } : Jvm.MethodName)) ∈ lw_all := lw_g (lw_at lw_m5 198 rfl) rfl
theorem q1241 : (Jvm.Cond.code ({ cls := "RumourBedsModel", name := "heldTo", desc := "(II)I" } : Jvm.MethodName) prog_17_method_39_code (2 : Nat) (Option.some Jvm.ClassFile.FieldType.int)) ∈ lw_all := lw_g (lw_at lw_m5 199 rfl) rfl
theorem q1243 : (Jvm.Cond.instanceMethod ({ cls := "RumourBedsModel", name := "comesTrue", desc := "(I)I" } : Jvm.MethodName)) ∈ lw_all := lw_g (lw_at lw_m5 201 rfl) rfl
theorem q1244 : (Jvm.Cond.selects "RumourBedsModel" ({ cls := "RumourBedsModel", name := "comesTrue", desc := "(I)I" } : Jvm.MethodName) ({ cls := "RumourBedsModel", name := "comesTrue", desc := "(I)I" } : Jvm.MethodName)) ∈ lw_all := lw_g (lw_at lw_m5 202 rfl) rfl
theorem q1245 : (Jvm.Cond.code ({ cls := "RumourBedsModel", name := "comesTrue", desc := "(I)I" } : Jvm.MethodName) prog_17_method_43_code (2 : Nat) (Option.some Jvm.ClassFile.FieldType.int)) ∈ lw_all := lw_g (lw_at lw_m5 203 rfl) rfl
theorem q1246 : (Jvm.Cond.methodLink "RumourBedsModel" (147 : Nat) ({ cls := "RumourBedsModel", name := "becomesTrue", desc := "(I)I" } : Jvm.MethodName)) ∈ lw_all := lw_g (lw_at lw_m5 204 rfl) rfl
theorem q1247 : (Jvm.Cond.privateMethod ({ cls := "RumourBedsModel", name := "becomesTrue", desc := "(I)I" } : Jvm.MethodName)) ∈ lw_tbl := lw_at lw_m5 205 rfl
theorem q1248 : (Jvm.Cond.instanceMethod ({ cls := "RumourBedsModel", name := "becomesTrue", desc := "(I)I" } : Jvm.MethodName)) ∈ lw_all := lw_g (lw_at lw_m5 206 rfl) rfl
theorem q1249 : (Jvm.Cond.code ({ cls := "RumourBedsModel", name := "becomesTrue", desc := "(I)I" } : Jvm.MethodName) prog_17_method_42_code (4 : Nat) (Option.some Jvm.ClassFile.FieldType.int)) ∈ lw_all := lw_g (lw_at lw_m5 207 rfl) rfl
theorem q1251 : (Jvm.Cond.instanceMethod ({ cls := "RumourBedsModel", name := "forget", desc := "(I)I" } : Jvm.MethodName)) ∈ lw_all := lw_g (lw_at lw_m5 209 rfl) rfl
theorem q1252 : (Jvm.Cond.selects "RumourBedsModel" ({ cls := "RumourBedsModel", name := "forget", desc := "(I)I" } : Jvm.MethodName) ({ cls := "RumourBedsModel", name := "forget", desc := "(I)I" } : Jvm.MethodName)) ∈ lw_all := lw_g (lw_at lw_m5 210 rfl) rfl
theorem q1253 : (Jvm.Cond.code ({ cls := "RumourBedsModel", name := "forget", desc := "(I)I" } : Jvm.MethodName) prog_17_method_44_code (3 : Nat) (Option.some Jvm.ClassFile.FieldType.int)) ∈ lw_all := lw_g (lw_at lw_m5 211 rfl) rfl
theorem q1255 : (Jvm.Cond.instanceMethod ({ cls := "RumourBedsModel", name := "days", desc := "(I)I" } : Jvm.MethodName)) ∈ lw_all := lw_g (lw_at lw_m5 213 rfl) rfl
theorem q1256 : (Jvm.Cond.selects "RumourBedsModel" ({ cls := "RumourBedsModel", name := "days", desc := "(I)I" } : Jvm.MethodName) ({ cls := "RumourBedsModel", name := "days", desc := "(I)I" } : Jvm.MethodName)) ∈ lw_all := lw_g (lw_at lw_m5 214 rfl) rfl
theorem q1257 : (Jvm.Cond.code ({ cls := "RumourBedsModel", name := "days", desc := "(I)I" } : Jvm.MethodName) prog_17_method_51_code (2 : Nat) (Option.some Jvm.ClassFile.FieldType.int)) ∈ lw_all := lw_g (lw_at lw_m5 215 rfl) rfl
theorem q1258 : (Jvm.Cond.constantLong "RumourBedsModel" (166 : Nat) (60 : Int64)) ∈ lw_all := lw_g (lw_at lw_m5 216 rfl) rfl
theorem q1259 : (Jvm.Cond.methodLink "RumourBedsModel" (168 : Nat) ({ cls := "RumourBedsModel", name := "daysGo", desc := "(I)V" } : Jvm.MethodName)) ∈ lw_all := lw_g (lw_at lw_m5 217 rfl) rfl
theorem q1260 : (Jvm.Cond.privateMethod ({ cls := "RumourBedsModel", name := "daysGo", desc := "(I)V" } : Jvm.MethodName)) ∈ lw_tbl := lw_at lw_m5 218 rfl
theorem q1261 : (Jvm.Cond.instanceMethod ({ cls := "RumourBedsModel", name := "daysGo", desc := "(I)V" } : Jvm.MethodName)) ∈ lw_all := lw_g (lw_at lw_m5 219 rfl) rfl
theorem q1262 : (Jvm.Cond.code ({ cls := "RumourBedsModel", name := "daysGo", desc := "(I)V" } : Jvm.MethodName) prog_17_method_50_code (3 : Nat) (Option.none : Option Jvm.ClassFile.FieldType)) ∈ lw_all := lw_g (lw_at lw_m5 220 rfl) rfl
theorem q1263 : (Jvm.Cond.methodLink "RumourBedsModel" (163 : Nat) ({ cls := "RumourBedsModel", name := "day", desc := "()V" } : Jvm.MethodName)) ∈ lw_all := lw_g (lw_at lw_m5 221 rfl) rfl
theorem q1264 : (Jvm.Cond.privateMethod ({ cls := "RumourBedsModel", name := "day", desc := "()V" } : Jvm.MethodName)) ∈ lw_tbl := lw_at lw_m5 222 rfl
theorem q1265 : (Jvm.Cond.instanceMethod ({ cls := "RumourBedsModel", name := "day", desc := "()V" } : Jvm.MethodName)) ∈ lw_all := lw_g (lw_at lw_m5 223 rfl) rfl
theorem q1266 : (Jvm.Cond.code ({ cls := "RumourBedsModel", name := "day", desc := "()V" } : Jvm.MethodName) prog_17_method_49_code (2 : Nat) (Option.none : Option Jvm.ClassFile.FieldType)) ∈ lw_all := lw_g (lw_at lw_m5 224 rfl) rfl
theorem q1267 : (Jvm.Cond.methodLink "RumourBedsModel" (156 : Nat) ({ cls := "RumourBedsModel", name := "feeds", desc := "(I)V" } : Jvm.MethodName)) ∈ lw_all := lw_g (lw_at lw_m5 225 rfl) rfl
theorem q1268 : (Jvm.Cond.privateMethod ({ cls := "RumourBedsModel", name := "feeds", desc := "(I)V" } : Jvm.MethodName)) ∈ lw_tbl := lw_at lw_m5 226 rfl
theorem q1269 : (Jvm.Cond.instanceMethod ({ cls := "RumourBedsModel", name := "feeds", desc := "(I)V" } : Jvm.MethodName)) ∈ lw_all := lw_g (lw_at lw_m5 227 rfl) rfl
theorem q1270 : (Jvm.Cond.code ({ cls := "RumourBedsModel", name := "feeds", desc := "(I)V" } : Jvm.MethodName) prog_17_method_45_code (3 : Nat) (Option.none : Option Jvm.ClassFile.FieldType)) ∈ lw_all := lw_g (lw_at lw_m5 228 rfl) rfl
theorem q1271 : (Jvm.Cond.methodLink "RumourBedsModel" (160 : Nat) ({ cls := "RumourBedsModel", name := "makesThird", desc := "(I)V" } : Jvm.MethodName)) ∈ lw_all := lw_g (lw_at lw_m5 229 rfl) rfl
theorem q1272 : (Jvm.Cond.privateMethod ({ cls := "RumourBedsModel", name := "makesThird", desc := "(I)V" } : Jvm.MethodName)) ∈ lw_tbl := lw_at lw_m5 230 rfl
theorem q1273 : (Jvm.Cond.instanceMethod ({ cls := "RumourBedsModel", name := "makesThird", desc := "(I)V" } : Jvm.MethodName)) ∈ lw_all := lw_g (lw_at lw_m5 231 rfl) rfl
theorem q1274 : (Jvm.Cond.code ({ cls := "RumourBedsModel", name := "makesThird", desc := "(I)V" } : Jvm.MethodName) prog_17_method_48_code (7 : Nat) (Option.none : Option Jvm.ClassFile.FieldType)) ∈ lw_all := lw_g (lw_at lw_m5 232 rfl) rfl
theorem q1275 : (Jvm.Cond.methodLink "RumourBedsModel" (150 : Nat) ({ cls := "RumourBedsModel", name := "lodgersOf", desc := "(II)I" } : Jvm.MethodName)) ∈ lw_all := lw_g (lw_at lw_m5 233 rfl) rfl
theorem q1276 : (Jvm.Cond.privateMethod ({ cls := "RumourBedsModel", name := "lodgersOf", desc := "(II)I" } : Jvm.MethodName)) ∈ lw_tbl := lw_at lw_m5 234 rfl
theorem q1277 : (Jvm.Cond.instanceMethod ({ cls := "RumourBedsModel", name := "lodgersOf", desc := "(II)I" } : Jvm.MethodName)) ∈ lw_all := lw_g (lw_at lw_m5 235 rfl) rfl
theorem q1278 : (Jvm.Cond.code ({ cls := "RumourBedsModel", name := "lodgersOf", desc := "(II)I" } : Jvm.MethodName) prog_17_method_47_code (5 : Nat) (Option.some Jvm.ClassFile.FieldType.int)) ∈ lw_all := lw_g (lw_at lw_m5 236 rfl) rfl
theorem q1279 : (Jvm.Cond.methodLink "RumourBedsModel" (153 : Nat) ({ cls := "RumourBedsModel", name := "isOnRoad", desc := "(I)Z" } : Jvm.MethodName)) ∈ lw_all := lw_g (lw_at lw_m5 237 rfl) rfl
theorem q1280 : (Jvm.Cond.privateMethod ({ cls := "RumourBedsModel", name := "isOnRoad", desc := "(I)Z" } : Jvm.MethodName)) ∈ lw_tbl := lw_at lw_m5 238 rfl
theorem q1281 : (Jvm.Cond.instanceMethod ({ cls := "RumourBedsModel", name := "isOnRoad", desc := "(I)Z" } : Jvm.MethodName)) ∈ lw_all := lw_g (lw_at lw_m5 239 rfl) rfl
theorem q1282 : (Jvm.Cond.code ({ cls := "RumourBedsModel", name := "isOnRoad", desc := "(I)Z" } : Jvm.MethodName) prog_17_method_46_code (4 : Nat) (Option.some Jvm.ClassFile.FieldType.boolean)) ∈ lw_all := lw_g (lw_at lw_m6 0 rfl) rfl
theorem q1284 : (Jvm.Cond.instanceMethod ({ cls := "RumourBedsModel", name := "now", desc := "(I)I" } : Jvm.MethodName)) ∈ lw_all := lw_g (lw_at lw_m6 2 rfl) rfl
theorem q1285 : (Jvm.Cond.selects "RumourBedsModel" ({ cls := "RumourBedsModel", name := "now", desc := "(I)I" } : Jvm.MethodName) ({ cls := "RumourBedsModel", name := "now", desc := "(I)I" } : Jvm.MethodName)) ∈ lw_all := lw_g (lw_at lw_m6 3 rfl) rfl
theorem q1286 : (Jvm.Cond.code ({ cls := "RumourBedsModel", name := "now", desc := "(I)I" } : Jvm.MethodName) prog_17_method_56_code (2 : Nat) (Option.some Jvm.ClassFile.FieldType.int)) ∈ lw_all := lw_g (lw_at lw_m6 4 rfl) rfl
theorem q1287 : (Jvm.Cond.methodLink "RumourBedsModel" (171 : Nat) ({ cls := "RumourBedsModel", name := "bulks", desc := "()I" } : Jvm.MethodName)) ∈ lw_all := lw_g (lw_at lw_m6 5 rfl) rfl
theorem q1288 : (Jvm.Cond.privateMethod ({ cls := "RumourBedsModel", name := "bulks", desc := "()I" } : Jvm.MethodName)) ∈ lw_tbl := lw_at lw_m6 6 rfl
theorem q1289 : (Jvm.Cond.instanceMethod ({ cls := "RumourBedsModel", name := "bulks", desc := "()I" } : Jvm.MethodName)) ∈ lw_all := lw_g (lw_at lw_m6 7 rfl) rfl
theorem q1290 : (Jvm.Cond.code ({ cls := "RumourBedsModel", name := "bulks", desc := "()I" } : Jvm.MethodName) prog_17_method_53_code (3 : Nat) (Option.some Jvm.ClassFile.FieldType.int)) ∈ lw_all := lw_g (lw_at lw_m6 8 rfl) rfl
theorem q1291 : (Jvm.Cond.methodLink "RumourBedsModel" (175 : Nat) ({ cls := "RumourBedsModel", name := "larders", desc := "()I" } : Jvm.MethodName)) ∈ lw_all := lw_g (lw_at lw_m6 9 rfl) rfl
theorem q1292 : (Jvm.Cond.privateMethod ({ cls := "RumourBedsModel", name := "larders", desc := "()I" } : Jvm.MethodName)) ∈ lw_tbl := lw_at lw_m6 10 rfl
theorem q1293 : (Jvm.Cond.instanceMethod ({ cls := "RumourBedsModel", name := "larders", desc := "()I" } : Jvm.MethodName)) ∈ lw_all := lw_g (lw_at lw_m6 11 rfl) rfl
theorem q1294 : (Jvm.Cond.code ({ cls := "RumourBedsModel", name := "larders", desc := "()I" } : Jvm.MethodName) prog_17_method_52_code (3 : Nat) (Option.some Jvm.ClassFile.FieldType.int)) ∈ lw_all := lw_g (lw_at lw_m6 12 rfl) rfl
theorem q1295 : (Jvm.Cond.methodLink "RumourBedsModel" (178 : Nat) ({ cls := "RumourBedsModel", name := "freeBeds", desc := "()I" } : Jvm.MethodName)) ∈ lw_all := lw_g (lw_at lw_m6 13 rfl) rfl
theorem q1296 : (Jvm.Cond.privateMethod ({ cls := "RumourBedsModel", name := "freeBeds", desc := "()I" } : Jvm.MethodName)) ∈ lw_tbl := lw_at lw_m6 14 rfl
theorem q1297 : (Jvm.Cond.instanceMethod ({ cls := "RumourBedsModel", name := "freeBeds", desc := "()I" } : Jvm.MethodName)) ∈ lw_all := lw_g (lw_at lw_m6 15 rfl) rfl
theorem q1298 : (Jvm.Cond.code ({ cls := "RumourBedsModel", name := "freeBeds", desc := "()I" } : Jvm.MethodName) prog_17_method_54_code (3 : Nat) (Option.some Jvm.ClassFile.FieldType.int)) ∈ lw_all := lw_g (lw_at lw_m6 16 rfl) rfl
theorem q1299 : (Jvm.Cond.methodLink "RumourBedsModel" (181 : Nat) ({ cls := "RumourBedsModel", name := "eaten", desc := "()I" } : Jvm.MethodName)) ∈ lw_all := lw_g (lw_at lw_m6 17 rfl) rfl
theorem q1300 : (Jvm.Cond.privateMethod ({ cls := "RumourBedsModel", name := "eaten", desc := "()I" } : Jvm.MethodName)) ∈ lw_tbl := lw_at lw_m6 18 rfl
theorem q1301 : (Jvm.Cond.instanceMethod ({ cls := "RumourBedsModel", name := "eaten", desc := "()I" } : Jvm.MethodName)) ∈ lw_all := lw_g (lw_at lw_m6 19 rfl) rfl
theorem q1302 : (Jvm.Cond.code ({ cls := "RumourBedsModel", name := "eaten", desc := "()I" } : Jvm.MethodName) prog_17_method_55_code (3 : Nat) (Option.some Jvm.ClassFile.FieldType.int)) ∈ lw_all := lw_g (lw_at lw_m6 20 rfl) rfl
theorem q1304 : (Jvm.Cond.instanceMethod ({ cls := "RumourBedsModel", name := "on", desc := "(III)I" } : Jvm.MethodName)) ∈ lw_all := lw_g (lw_at lw_m6 22 rfl) rfl
theorem q1305 : (Jvm.Cond.selects "RumourBedsModel" ({ cls := "RumourBedsModel", name := "on", desc := "(III)I" } : Jvm.MethodName) ({ cls := "RumourBedsModel", name := "on", desc := "(III)I" } : Jvm.MethodName)) ∈ lw_all := lw_g (lw_at lw_m6 23 rfl) rfl
theorem q1306 : (Jvm.Cond.code ({ cls := "RumourBedsModel", name := "on", desc := "(III)I" } : Jvm.MethodName) prog_17_method_59_code (4 : Nat) (Option.some Jvm.ClassFile.FieldType.int)) ∈ lw_all := lw_g (lw_at lw_m6 24 rfl) rfl
theorem q1307 : (Jvm.Cond.methodLink "RumourBedsModel" (190 : Nat) ({ cls := "RumourBedsModel", name := "isAhead", desc := "(I)Z" } : Jvm.MethodName)) ∈ lw_all := lw_g (lw_at lw_m6 25 rfl) rfl
theorem q1308 : (Jvm.Cond.static ({ cls := "RumourBedsModel", name := "isAhead", desc := "(I)Z" } : Jvm.MethodName)) ∈ lw_all := lw_g (lw_at lw_m6 26 rfl) rfl
theorem q1309 : (Jvm.Cond.code ({ cls := "RumourBedsModel", name := "isAhead", desc := "(I)Z" } : Jvm.MethodName) prog_17_method_57_code (1 : Nat) (Option.some Jvm.ClassFile.FieldType.boolean)) ∈ lw_all := lw_g (lw_at lw_m6 27 rfl) rfl
theorem q1310 : (Jvm.Cond.methodLink "RumourBedsModel" (193 : Nat) ({ cls := "RumourBedsModel", name := "behind", desc := "(II)I" } : Jvm.MethodName)) ∈ lw_all := lw_g (lw_at lw_m6 28 rfl) rfl
theorem q1311 : (Jvm.Cond.privateMethod ({ cls := "RumourBedsModel", name := "behind", desc := "(II)I" } : Jvm.MethodName)) ∈ lw_tbl := lw_at lw_m6 29 rfl
theorem q1312 : (Jvm.Cond.instanceMethod ({ cls := "RumourBedsModel", name := "behind", desc := "(II)I" } : Jvm.MethodName)) ∈ lw_all := lw_g (lw_at lw_m6 30 rfl) rfl
theorem q1313 : (Jvm.Cond.code ({ cls := "RumourBedsModel", name := "behind", desc := "(II)I" } : Jvm.MethodName) prog_17_method_58_code (3 : Nat) (Option.some Jvm.ClassFile.FieldType.int)) ∈ lw_all := lw_g (lw_at lw_m6 31 rfl) rfl
theorem q1314 : (Jvm.Cond.methodLink "RumourBedsModel" (184 : Nat) ({ cls := "RumourBedsModel", name := "laysAside", desc := "()V" } : Jvm.MethodName)) ∈ lw_all := lw_g (lw_at lw_m6 32 rfl) rfl
theorem q1315 : (Jvm.Cond.privateMethod ({ cls := "RumourBedsModel", name := "laysAside", desc := "()V" } : Jvm.MethodName)) ∈ lw_tbl := lw_at lw_m6 33 rfl
theorem q1316 : (Jvm.Cond.instanceMethod ({ cls := "RumourBedsModel", name := "laysAside", desc := "()V" } : Jvm.MethodName)) ∈ lw_all := lw_g (lw_at lw_m6 34 rfl) rfl
theorem q1317 : (Jvm.Cond.code ({ cls := "RumourBedsModel", name := "laysAside", desc := "()V" } : Jvm.MethodName) prog_17_method_6_code (2 : Nat) (Option.none : Option Jvm.ClassFile.FieldType)) ∈ lw_all := lw_g (lw_at lw_m6 35 rfl) rfl
theorem q1318 : (Jvm.Cond.methodLink "RumourBedsModel" (187 : Nat) ({ cls := "RumourBedsModel", name := "takesBack", desc := "(I)I" } : Jvm.MethodName)) ∈ lw_all := lw_g (lw_at lw_m6 36 rfl) rfl
theorem q1319 : (Jvm.Cond.privateMethod ({ cls := "RumourBedsModel", name := "takesBack", desc := "(I)I" } : Jvm.MethodName)) ∈ lw_tbl := lw_at lw_m6 37 rfl
theorem q1320 : (Jvm.Cond.instanceMethod ({ cls := "RumourBedsModel", name := "takesBack", desc := "(I)I" } : Jvm.MethodName)) ∈ lw_all := lw_g (lw_at lw_m6 38 rfl) rfl
theorem q1321 : (Jvm.Cond.code ({ cls := "RumourBedsModel", name := "takesBack", desc := "(I)I" } : Jvm.MethodName) prog_17_method_7_code (3 : Nat) (Option.some Jvm.ClassFile.FieldType.int)) ∈ lw_all := lw_g (lw_at lw_m6 39 rfl) rfl
theorem q1323 : (Jvm.Cond.instanceMethod ({ cls := "RumourBedsModel", name := "larder", desc := "(II)I" } : Jvm.MethodName)) ∈ lw_all := lw_g (lw_at lw_m6 41 rfl) rfl
theorem q1324 : (Jvm.Cond.selects "RumourBedsModel" ({ cls := "RumourBedsModel", name := "larder", desc := "(II)I" } : Jvm.MethodName) ({ cls := "RumourBedsModel", name := "larder", desc := "(II)I" } : Jvm.MethodName)) ∈ lw_all := lw_g (lw_at lw_m6 42 rfl) rfl
theorem q1325 : (Jvm.Cond.code ({ cls := "RumourBedsModel", name := "larder", desc := "(II)I" } : Jvm.MethodName) prog_17_method_60_code (3 : Nat) (Option.some Jvm.ClassFile.FieldType.int)) ∈ lw_all := lw_g (lw_at lw_m6 43 rfl) rfl
theorem q1327 : (Jvm.Cond.instanceMethod ({ cls := "RumourBedsModel", name := "empty", desc := "(I)I" } : Jvm.MethodName)) ∈ lw_all := lw_g (lw_at lw_m6 45 rfl) rfl
theorem q1328 : (Jvm.Cond.selects "RumourBedsModel" ({ cls := "RumourBedsModel", name := "empty", desc := "(I)I" } : Jvm.MethodName) ({ cls := "RumourBedsModel", name := "empty", desc := "(I)I" } : Jvm.MethodName)) ∈ lw_all := lw_g (lw_at lw_m6 46 rfl) rfl
theorem q1329 : (Jvm.Cond.code ({ cls := "RumourBedsModel", name := "empty", desc := "(I)I" } : Jvm.MethodName) prog_17_method_62_code (2 : Nat) (Option.some Jvm.ClassFile.FieldType.int)) ∈ lw_all := lw_g (lw_at lw_m6 47 rfl) rfl
theorem q1330 : (Jvm.Cond.methodLink "RumourBedsModel" (197 : Nat) ({ cls := "RumourBedsModel", name := "firstAs", desc := "(II)I" } : Jvm.MethodName)) ∈ lw_all := lw_g (lw_at lw_m6 48 rfl) rfl
theorem q1331 : (Jvm.Cond.privateMethod ({ cls := "RumourBedsModel", name := "firstAs", desc := "(II)I" } : Jvm.MethodName)) ∈ lw_tbl := lw_at lw_m6 49 rfl
theorem q1332 : (Jvm.Cond.instanceMethod ({ cls := "RumourBedsModel", name := "firstAs", desc := "(II)I" } : Jvm.MethodName)) ∈ lw_all := lw_g (lw_at lw_m6 50 rfl) rfl
theorem q1333 : (Jvm.Cond.code ({ cls := "RumourBedsModel", name := "firstAs", desc := "(II)I" } : Jvm.MethodName) prog_17_method_61_code (5 : Nat) (Option.some Jvm.ClassFile.FieldType.int)) ∈ lw_all := lw_g (lw_at lw_m6 51 rfl) rfl
theorem q1334 : (Jvm.Cond.constant "RumourBedsModel" (196 : Nat) (-1000000004 : Int32)) ∈ lw_all := lw_g (lw_at lw_m6 52 rfl) rfl
theorem q1336 : (Jvm.Cond.instanceMethod ({ cls := "RumourBedsModel", name := "many", desc := "(I)I" } : Jvm.MethodName)) ∈ lw_all := lw_g (lw_at lw_m6 54 rfl) rfl
theorem q1337 : (Jvm.Cond.selects "RumourBedsModel" ({ cls := "RumourBedsModel", name := "many", desc := "(I)I" } : Jvm.MethodName) ({ cls := "RumourBedsModel", name := "many", desc := "(I)I" } : Jvm.MethodName)) ∈ lw_all := lw_g (lw_at lw_m6 55 rfl) rfl
theorem q1338 : (Jvm.Cond.code ({ cls := "RumourBedsModel", name := "many", desc := "(I)I" } : Jvm.MethodName) prog_17_method_63_code (2 : Nat) (Option.some Jvm.ClassFile.FieldType.int)) ∈ lw_all := lw_g (lw_at lw_m6 56 rfl) rfl
theorem q1340 : (Jvm.Cond.instanceMethod ({ cls := "RumourBedsModel", name := "out", desc := "(I)I" } : Jvm.MethodName)) ∈ lw_all := lw_g (lw_at lw_m6 58 rfl) rfl
theorem q1341 : (Jvm.Cond.selects "RumourBedsModel" ({ cls := "RumourBedsModel", name := "out", desc := "(I)I" } : Jvm.MethodName) ({ cls := "RumourBedsModel", name := "out", desc := "(I)I" } : Jvm.MethodName)) ∈ lw_all := lw_g (lw_at lw_m6 59 rfl) rfl
theorem q1342 : (Jvm.Cond.code ({ cls := "RumourBedsModel", name := "out", desc := "(I)I" } : Jvm.MethodName) prog_17_method_64_code (2 : Nat) (Option.some Jvm.ClassFile.FieldType.int)) ∈ lw_all := lw_g (lw_at lw_m6 60 rfl) rfl
theorem q1344 : (Jvm.Cond.instanceMethod ({ cls := "RumourBedsModel", name := "fewest", desc := "(II)I" } : Jvm.MethodName)) ∈ lw_all := lw_g (lw_at lw_m6 62 rfl) rfl
theorem q1345 : (Jvm.Cond.selects "RumourBedsModel" ({ cls := "RumourBedsModel", name := "fewest", desc := "(II)I" } : Jvm.MethodName) ({ cls := "RumourBedsModel", name := "fewest", desc := "(II)I" } : Jvm.MethodName)) ∈ lw_all := lw_g (lw_at lw_m6 63 rfl) rfl
theorem q1346 : (Jvm.Cond.code ({ cls := "RumourBedsModel", name := "fewest", desc := "(II)I" } : Jvm.MethodName) prog_17_method_66_code (5 : Nat) (Option.some Jvm.ClassFile.FieldType.int)) ∈ lw_all := lw_g (lw_at lw_m6 64 rfl) rfl
theorem q1347 : (Jvm.Cond.methodLink "RumourBedsModel" (200 : Nat) ({ cls := "RumourBedsModel", name := "wrongLodger", desc := "(I)I" } : Jvm.MethodName)) ∈ lw_all := lw_g (lw_at lw_m6 65 rfl) rfl
theorem q1348 : (Jvm.Cond.privateMethod ({ cls := "RumourBedsModel", name := "wrongLodger", desc := "(I)I" } : Jvm.MethodName)) ∈ lw_tbl := lw_at lw_m6 66 rfl
theorem q1349 : (Jvm.Cond.instanceMethod ({ cls := "RumourBedsModel", name := "wrongLodger", desc := "(I)I" } : Jvm.MethodName)) ∈ lw_all := lw_g (lw_at lw_m6 67 rfl) rfl
theorem q1350 : (Jvm.Cond.code ({ cls := "RumourBedsModel", name := "wrongLodger", desc := "(I)I" } : Jvm.MethodName) prog_17_method_65_code (2 : Nat) (Option.some Jvm.ClassFile.FieldType.int)) ∈ lw_all := lw_g (lw_at lw_m6 68 rfl) rfl
theorem q1352 : (Jvm.Cond.instanceMethod ({ cls := "RumourBedsModel", name := "least", desc := "(I)I" } : Jvm.MethodName)) ∈ lw_all := lw_g (lw_at lw_m6 70 rfl) rfl
theorem q1353 : (Jvm.Cond.selects "RumourBedsModel" ({ cls := "RumourBedsModel", name := "least", desc := "(I)I" } : Jvm.MethodName) ({ cls := "RumourBedsModel", name := "least", desc := "(I)I" } : Jvm.MethodName)) ∈ lw_all := lw_g (lw_at lw_m6 71 rfl) rfl
theorem q1354 : (Jvm.Cond.code ({ cls := "RumourBedsModel", name := "least", desc := "(I)I" } : Jvm.MethodName) prog_17_method_67_code (5 : Nat) (Option.some Jvm.ClassFile.FieldType.int)) ∈ lw_all := lw_g (lw_at lw_m6 72 rfl) rfl
theorem q1356 : (Jvm.Cond.instanceMethod ({ cls := "RumourBedsModel", name := "best", desc := "(I)I" } : Jvm.MethodName)) ∈ lw_all := lw_g (lw_at lw_m6 74 rfl) rfl
theorem q1357 : (Jvm.Cond.selects "RumourBedsModel" ({ cls := "RumourBedsModel", name := "best", desc := "(I)I" } : Jvm.MethodName) ({ cls := "RumourBedsModel", name := "best", desc := "(I)I" } : Jvm.MethodName)) ∈ lw_all := lw_g (lw_at lw_m6 75 rfl) rfl
theorem q1358 : (Jvm.Cond.code ({ cls := "RumourBedsModel", name := "best", desc := "(I)I" } : Jvm.MethodName) prog_17_method_69_code (7 : Nat) (Option.some Jvm.ClassFile.FieldType.int)) ∈ lw_all := lw_g (lw_at lw_m6 76 rfl) rfl
theorem q1359 : (Jvm.Cond.methodLink "RumourBedsModel" (203 : Nat) ({ cls := "RumourBedsModel", name := "isSoon", desc := "(I)Z" } : Jvm.MethodName)) ∈ lw_all := lw_g (lw_at lw_m6 77 rfl) rfl
theorem q1360 : (Jvm.Cond.static ({ cls := "RumourBedsModel", name := "isSoon", desc := "(I)Z" } : Jvm.MethodName)) ∈ lw_all := lw_g (lw_at lw_m6 78 rfl) rfl
theorem q1361 : (Jvm.Cond.code ({ cls := "RumourBedsModel", name := "isSoon", desc := "(I)Z" } : Jvm.MethodName) prog_17_method_68_code (1 : Nat) (Option.some Jvm.ClassFile.FieldType.boolean)) ∈ lw_all := lw_g (lw_at lw_m6 79 rfl) rfl
theorem q1363 : (Jvm.Cond.instanceMethod ({ cls := "RumourBedsModel", name := "lean", desc := "(II)I" } : Jvm.MethodName)) ∈ lw_all := lw_g (lw_at lw_m6 81 rfl) rfl
theorem q1364 : (Jvm.Cond.selects "RumourBedsModel" ({ cls := "RumourBedsModel", name := "lean", desc := "(II)I" } : Jvm.MethodName) ({ cls := "RumourBedsModel", name := "lean", desc := "(II)I" } : Jvm.MethodName)) ∈ lw_all := lw_g (lw_at lw_m6 82 rfl) rfl
theorem q1365 : (Jvm.Cond.code ({ cls := "RumourBedsModel", name := "lean", desc := "(II)I" } : Jvm.MethodName) prog_17_method_70_code (3 : Nat) (Option.some Jvm.ClassFile.FieldType.int)) ∈ lw_all := lw_g (lw_at lw_m6 83 rfl) rfl
theorem q1367 : (Jvm.Cond.instanceMethod ({ cls := "RumourBedsModel", name := "leanFor", desc := "(II)I" } : Jvm.MethodName)) ∈ lw_all := lw_g (lw_at lw_m6 85 rfl) rfl
theorem q1368 : (Jvm.Cond.selects "RumourBedsModel" ({ cls := "RumourBedsModel", name := "leanFor", desc := "(II)I" } : Jvm.MethodName) ({ cls := "RumourBedsModel", name := "leanFor", desc := "(II)I" } : Jvm.MethodName)) ∈ lw_all := lw_g (lw_at lw_m6 86 rfl) rfl
theorem q1369 : (Jvm.Cond.code ({ cls := "RumourBedsModel", name := "leanFor", desc := "(II)I" } : Jvm.MethodName) prog_17_method_71_code (8 : Nat) (Option.some Jvm.ClassFile.FieldType.int)) ∈ lw_all := lw_g (lw_at lw_m6 87 rfl) rfl
theorem q1371 : (Jvm.Cond.instanceMethod ({ cls := "RumourBedsModel", name := "kind", desc := "(I)I" } : Jvm.MethodName)) ∈ lw_all := lw_g (lw_at lw_m6 89 rfl) rfl
theorem q1372 : (Jvm.Cond.selects "RumourBedsModel" ({ cls := "RumourBedsModel", name := "kind", desc := "(I)I" } : Jvm.MethodName) ({ cls := "RumourBedsModel", name := "kind", desc := "(I)I" } : Jvm.MethodName)) ∈ lw_all := lw_g (lw_at lw_m6 90 rfl) rfl
theorem q1373 : (Jvm.Cond.code ({ cls := "RumourBedsModel", name := "kind", desc := "(I)I" } : Jvm.MethodName) prog_17_method_72_code (7 : Nat) (Option.some Jvm.ClassFile.FieldType.int)) ∈ lw_all := lw_g (lw_at lw_m6 91 rfl) rfl
theorem q1375 : (Jvm.Cond.instanceMethod ({ cls := "RumourBedsModel", name := "host", desc := "(I)I" } : Jvm.MethodName)) ∈ lw_all := lw_g (lw_at lw_m6 93 rfl) rfl
theorem q1376 : (Jvm.Cond.selects "RumourBedsModel" ({ cls := "RumourBedsModel", name := "host", desc := "(I)I" } : Jvm.MethodName) ({ cls := "RumourBedsModel", name := "host", desc := "(I)I" } : Jvm.MethodName)) ∈ lw_all := lw_g (lw_at lw_m6 94 rfl) rfl
theorem q1377 : (Jvm.Cond.code ({ cls := "RumourBedsModel", name := "host", desc := "(I)I" } : Jvm.MethodName) prog_17_method_73_code (3 : Nat) (Option.some Jvm.ClassFile.FieldType.int)) ∈ lw_all := lw_g (lw_at lw_m6 95 rfl) rfl
theorem q1379 : (Jvm.Cond.instanceMethod ({ cls := "RumourBedsModel", name := "beds", desc := "(II)I" } : Jvm.MethodName)) ∈ lw_all := lw_g (lw_at lw_m6 97 rfl) rfl
theorem q1380 : (Jvm.Cond.selects "RumourBedsModel" ({ cls := "RumourBedsModel", name := "beds", desc := "(II)I" } : Jvm.MethodName) ({ cls := "RumourBedsModel", name := "beds", desc := "(II)I" } : Jvm.MethodName)) ∈ lw_all := lw_g (lw_at lw_m6 98 rfl) rfl
theorem q1381 : (Jvm.Cond.code ({ cls := "RumourBedsModel", name := "beds", desc := "(II)I" } : Jvm.MethodName) prog_17_method_74_code (6 : Nat) (Option.some Jvm.ClassFile.FieldType.int)) ∈ lw_all := lw_g (lw_at lw_m6 99 rfl) rfl
theorem q1383 : (Jvm.Cond.instanceMethod ({ cls := "RumourBedsModel", name := "feed", desc := "(II)I" } : Jvm.MethodName)) ∈ lw_all := lw_g (lw_at lw_m6 101 rfl) rfl
theorem q1384 : (Jvm.Cond.selects "RumourBedsModel" ({ cls := "RumourBedsModel", name := "feed", desc := "(II)I" } : Jvm.MethodName) ({ cls := "RumourBedsModel", name := "feed", desc := "(II)I" } : Jvm.MethodName)) ∈ lw_all := lw_g (lw_at lw_m6 102 rfl) rfl
theorem q1385 : (Jvm.Cond.code ({ cls := "RumourBedsModel", name := "feed", desc := "(II)I" } : Jvm.MethodName) prog_17_method_75_code (4 : Nat) (Option.some Jvm.ClassFile.FieldType.int)) ∈ lw_all := lw_g (lw_at lw_m6 103 rfl) rfl
theorem q1386 : (Jvm.Cond.constantLong "RumourBedsModel" (206 : Nat) (4 : Int64)) ∈ lw_all := lw_g (lw_at lw_m6 104 rfl) rfl
theorem q1388 : (Jvm.Cond.instanceMethod ({ cls := "RumourBedsModel", name := "wipe", desc := "()I" } : Jvm.MethodName)) ∈ lw_all := lw_g (lw_at lw_m6 106 rfl) rfl
theorem q1389 : (Jvm.Cond.selects "RumourBedsModel" ({ cls := "RumourBedsModel", name := "wipe", desc := "()I" } : Jvm.MethodName) ({ cls := "RumourBedsModel", name := "wipe", desc := "()I" } : Jvm.MethodName)) ∈ lw_all := lw_g (lw_at lw_m6 107 rfl) rfl
theorem q1390 : (Jvm.Cond.code ({ cls := "RumourBedsModel", name := "wipe", desc := "()I" } : Jvm.MethodName) prog_17_method_76_code (2 : Nat) (Option.some Jvm.ClassFile.FieldType.int)) ∈ lw_all := lw_g (lw_at lw_m6 108 rfl) rfl
theorem q1392 : (Jvm.Cond.instanceMethod ({ cls := "RumourBedsModel", name := "town", desc := "()I" } : Jvm.MethodName)) ∈ lw_all := lw_g (lw_at lw_m6 110 rfl) rfl
theorem q1393 : (Jvm.Cond.selects "RumourBedsModel" ({ cls := "RumourBedsModel", name := "town", desc := "()I" } : Jvm.MethodName) ({ cls := "RumourBedsModel", name := "town", desc := "()I" } : Jvm.MethodName)) ∈ lw_all := lw_g (lw_at lw_m6 111 rfl) rfl
theorem q1394 : (Jvm.Cond.code ({ cls := "RumourBedsModel", name := "town", desc := "()I" } : Jvm.MethodName) prog_17_method_90_code (2 : Nat) (Option.some Jvm.ClassFile.FieldType.int)) ∈ lw_all := lw_g (lw_at lw_m6 112 rfl) rfl
theorem q1395 : (Jvm.Cond.methodLink "RumourBedsModel" (304 : Nat) ({ cls := "RumourBedsModel", name := "saves", desc := "()V" } : Jvm.MethodName)) ∈ lw_all := lw_g (lw_at lw_m6 113 rfl) rfl
theorem q1396 : (Jvm.Cond.privateMethod ({ cls := "RumourBedsModel", name := "saves", desc := "()V" } : Jvm.MethodName)) ∈ lw_tbl := lw_at lw_m6 114 rfl
theorem q1397 : (Jvm.Cond.instanceMethod ({ cls := "RumourBedsModel", name := "saves", desc := "()V" } : Jvm.MethodName)) ∈ lw_all := lw_g (lw_at lw_m6 115 rfl) rfl
theorem q1398 : (Jvm.Cond.code ({ cls := "RumourBedsModel", name := "saves", desc := "()V" } : Jvm.MethodName) prog_17_method_4_code (2 : Nat) (Option.none : Option Jvm.ClassFile.FieldType)) ∈ lw_all := lw_g (lw_at lw_m6 116 rfl) rfl
theorem q1399 : (Jvm.Cond.methodLink "RumourBedsModel" (239 : Nat) ({ cls := "RumourBedsModel", name := "token", desc := "()V" } : Jvm.MethodName)) ∈ lw_all := lw_g (lw_at lw_m6 117 rfl) rfl
theorem q1400 : (Jvm.Cond.privateMethod ({ cls := "RumourBedsModel", name := "token", desc := "()V" } : Jvm.MethodName)) ∈ lw_tbl := lw_at lw_m6 118 rfl
theorem q1401 : (Jvm.Cond.instanceMethod ({ cls := "RumourBedsModel", name := "token", desc := "()V" } : Jvm.MethodName)) ∈ lw_all := lw_g (lw_at lw_m6 119 rfl) rfl
theorem q1402 : (Jvm.Cond.code ({ cls := "RumourBedsModel", name := "token", desc := "()V" } : Jvm.MethodName) prog_17_method_80_code (3 : Nat) (Option.none : Option Jvm.ClassFile.FieldType)) ∈ lw_all := lw_g (lw_at lw_m6 120 rfl) rfl
theorem q1403 : (Jvm.Cond.methodLink "RumourBedsModel" (226 : Nat) ({ cls := "RumourBedsModel", name := "byteAt", desc := "(I)I" } : Jvm.MethodName)) ∈ lw_all := lw_g (lw_at lw_m6 121 rfl) rfl
theorem q1404 : (Jvm.Cond.privateMethod ({ cls := "RumourBedsModel", name := "byteAt", desc := "(I)I" } : Jvm.MethodName)) ∈ lw_tbl := lw_at lw_m6 122 rfl
theorem q1405 : (Jvm.Cond.instanceMethod ({ cls := "RumourBedsModel", name := "byteAt", desc := "(I)I" } : Jvm.MethodName)) ∈ lw_all := lw_g (lw_at lw_m6 123 rfl) rfl
theorem q1406 : (Jvm.Cond.code ({ cls := "RumourBedsModel", name := "byteAt", desc := "(I)I" } : Jvm.MethodName) prog_17_method_77_code (2 : Nat) (Option.some Jvm.ClassFile.FieldType.int)) ∈ lw_all := lw_g (lw_at lw_m6 124 rfl) rfl
theorem q1407 : (Jvm.Cond.methodLink "RumourBedsModel" (229 : Nat) ({ cls := "RumourBedsModel", name := "isLetter", desc := "(I)Z" } : Jvm.MethodName)) ∈ lw_all := lw_g (lw_at lw_m6 125 rfl) rfl
theorem q1408 : (Jvm.Cond.static ({ cls := "RumourBedsModel", name := "isLetter", desc := "(I)Z" } : Jvm.MethodName)) ∈ lw_all := lw_g (lw_at lw_m6 126 rfl) rfl
theorem q1409 : (Jvm.Cond.code ({ cls := "RumourBedsModel", name := "isLetter", desc := "(I)Z" } : Jvm.MethodName) prog_17_method_78_code (1 : Nat) (Option.some Jvm.ClassFile.FieldType.boolean)) ∈ lw_all := lw_g (lw_at lw_m6 127 rfl) rfl
theorem q1410 : (Jvm.Cond.constantLong "RumourBedsModel" (212 : Nat) (97 : Int64)) ∈ lw_all := lw_g (lw_at lw_m6 128 rfl) rfl
theorem q1411 : (Jvm.Cond.constantLong "RumourBedsModel" (214 : Nat) (122 : Int64)) ∈ lw_all := lw_g (lw_at lw_m6 129 rfl) rfl
theorem q1412 : (Jvm.Cond.methodLink "RumourBedsModel" (232 : Nat) ({ cls := "RumourBedsModel", name := "isDigit", desc := "(I)Z" } : Jvm.MethodName)) ∈ lw_all := lw_g (lw_at lw_m6 130 rfl) rfl
theorem q1413 : (Jvm.Cond.static ({ cls := "RumourBedsModel", name := "isDigit", desc := "(I)Z" } : Jvm.MethodName)) ∈ lw_all := lw_g (lw_at lw_m6 131 rfl) rfl
theorem q1414 : (Jvm.Cond.code ({ cls := "RumourBedsModel", name := "isDigit", desc := "(I)Z" } : Jvm.MethodName) prog_17_method_79_code (1 : Nat) (Option.some Jvm.ClassFile.FieldType.boolean)) ∈ lw_all := lw_g (lw_at lw_m6 132 rfl) rfl
theorem q1415 : (Jvm.Cond.constantLong "RumourBedsModel" (216 : Nat) (48 : Int64)) ∈ lw_all := lw_g (lw_at lw_m6 133 rfl) rfl
theorem q1416 : (Jvm.Cond.constantLong "RumourBedsModel" (218 : Nat) (57 : Int64)) ∈ lw_all := lw_g (lw_at lw_m6 134 rfl) rfl
theorem q1417 : (Jvm.Cond.methodLink "RumourBedsModel" (307 : Nat) ({ cls := "RumourBedsModel", name := "item", desc := "()V" } : Jvm.MethodName)) ∈ lw_all := lw_g (lw_at lw_m6 135 rfl) rfl
theorem q1418 : (Jvm.Cond.privateMethod ({ cls := "RumourBedsModel", name := "item", desc := "()V" } : Jvm.MethodName)) ∈ lw_tbl := lw_at lw_m6 136 rfl
theorem q1419 : (Jvm.Cond.instanceMethod ({ cls := "RumourBedsModel", name := "item", desc := "()V" } : Jvm.MethodName)) ∈ lw_all := lw_g (lw_at lw_m6 137 rfl) rfl
theorem q1420 : (Jvm.Cond.code ({ cls := "RumourBedsModel", name := "item", desc := "()V" } : Jvm.MethodName) prog_17_method_89_code (5 : Nat) (Option.none : Option Jvm.ClassFile.FieldType)) ∈ lw_all := lw_g (lw_at lw_m6 138 rfl) rfl
theorem q1421 : (Jvm.Cond.methodLink "RumourBedsModel" (291 : Nat) ({ cls := "RumourBedsModel", name := "kindHere", desc := "()I" } : Jvm.MethodName)) ∈ lw_all := lw_g (lw_at lw_m6 139 rfl) rfl
theorem q1422 : (Jvm.Cond.privateMethod ({ cls := "RumourBedsModel", name := "kindHere", desc := "()I" } : Jvm.MethodName)) ∈ lw_tbl := lw_at lw_m6 140 rfl
theorem q1423 : (Jvm.Cond.instanceMethod ({ cls := "RumourBedsModel", name := "kindHere", desc := "()I" } : Jvm.MethodName)) ∈ lw_all := lw_g (lw_at lw_m6 141 rfl) rfl
theorem q1424 : (Jvm.Cond.code ({ cls := "RumourBedsModel", name := "kindHere", desc := "()I" } : Jvm.MethodName) prog_17_method_84_code (3 : Nat) (Option.some Jvm.ClassFile.FieldType.int)) ∈ lw_all := lw_g (lw_at lw_m6 142 rfl) rfl
theorem q1425 : (Jvm.Cond.methodLink "RumourBedsModel" (253 : Nat) ({ cls := "RumourBedsModel", name := "word", desc := "()J" } : Jvm.MethodName)) ∈ lw_all := lw_g (lw_at lw_m6 143 rfl) rfl
theorem q1426 : (Jvm.Cond.privateMethod ({ cls := "RumourBedsModel", name := "word", desc := "()J" } : Jvm.MethodName)) ∈ lw_tbl := lw_at lw_m6 144 rfl
theorem q1427 : (Jvm.Cond.instanceMethod ({ cls := "RumourBedsModel", name := "word", desc := "()J" } : Jvm.MethodName)) ∈ lw_all := lw_g (lw_at lw_m6 145 rfl) rfl
theorem q1428 : (Jvm.Cond.code ({ cls := "RumourBedsModel", name := "word", desc := "()J" } : Jvm.MethodName) prog_17_method_82_code (4 : Nat) (Option.some Jvm.ClassFile.FieldType.long)) ∈ lw_all := lw_g (lw_at lw_m6 146 rfl) rfl
theorem q1429 : (Jvm.Cond.constantLong "RumourBedsModel" (242 : Nat) (36028797018963967 : Int64)) ∈ lw_all := lw_g (lw_at lw_m6 147 rfl) rfl
theorem q1430 : (Jvm.Cond.constantLong "RumourBedsModel" (244 : Nat) (32 : Int64)) ∈ lw_all := lw_g (lw_at lw_m6 148 rfl) rfl
theorem q1431 : (Jvm.Cond.constantLong "RumourBedsModel" (257 : Nat) (626441906 : Int64)) ∈ lw_all := lw_g (lw_at lw_m6 149 rfl) rfl
theorem q1432 : (Jvm.Cond.constantLong "RumourBedsModel" (259 : Nat) (2343 : Int64)) ∈ lw_all := lw_g (lw_at lw_m6 150 rfl) rfl
theorem q1433 : (Jvm.Cond.constantLong "RumourBedsModel" (261 : Nat) (152972 : Int64)) ∈ lw_all := lw_g (lw_at lw_m6 151 rfl) rfl
theorem q1434 : (Jvm.Cond.constantLong "RumourBedsModel" (263 : Nat) (19737 : Int64)) ∈ lw_all := lw_g (lw_at lw_m6 152 rfl) rfl
theorem q1435 : (Jvm.Cond.constantLong "RumourBedsModel" (265 : Nat) (19391532 : Int64)) ∈ lw_all := lw_g (lw_at lw_m6 153 rfl) rfl
theorem q1436 : (Jvm.Cond.constantLong "RumourBedsModel" (267 : Nat) (24293779 : Int64)) ∈ lw_all := lw_g (lw_at lw_m6 154 rfl) rfl
theorem q1437 : (Jvm.Cond.methodLink "RumourBedsModel" (294 : Nat) ({ cls := "RumourBedsModel", name := "rumourItem", desc := "(I)V" } : Jvm.MethodName)) ∈ lw_all := lw_g (lw_at lw_m6 155 rfl) rfl
theorem q1438 : (Jvm.Cond.privateMethod ({ cls := "RumourBedsModel", name := "rumourItem", desc := "(I)V" } : Jvm.MethodName)) ∈ lw_tbl := lw_at lw_m6 156 rfl
theorem q1439 : (Jvm.Cond.instanceMethod ({ cls := "RumourBedsModel", name := "rumourItem", desc := "(I)V" } : Jvm.MethodName)) ∈ lw_all := lw_g (lw_at lw_m6 157 rfl) rfl
theorem q1440 : (Jvm.Cond.code ({ cls := "RumourBedsModel", name := "rumourItem", desc := "(I)V" } : Jvm.MethodName) prog_17_method_87_code (4 : Nat) (Option.none : Option Jvm.ClassFile.FieldType)) ∈ lw_all := lw_g (lw_at lw_m6 158 rfl) rfl
theorem q1441 : (Jvm.Cond.methodLink "RumourBedsModel" (249 : Nat) ({ cls := "RumourBedsModel", name := "must", desc := "(Z)V" } : Jvm.MethodName)) ∈ lw_all := lw_g (lw_at lw_m6 159 rfl) rfl
theorem q1442 : (Jvm.Cond.privateMethod ({ cls := "RumourBedsModel", name := "must", desc := "(Z)V" } : Jvm.MethodName)) ∈ lw_tbl := lw_at lw_m6 160 rfl
theorem q1443 : (Jvm.Cond.instanceMethod ({ cls := "RumourBedsModel", name := "must", desc := "(Z)V" } : Jvm.MethodName)) ∈ lw_all := lw_g (lw_at lw_m6 161 rfl) rfl
theorem q1444 : (Jvm.Cond.code ({ cls := "RumourBedsModel", name := "must", desc := "(Z)V" } : Jvm.MethodName) prog_17_method_81_code (2 : Nat) (Option.none : Option Jvm.ClassFile.FieldType)) ∈ lw_all := lw_g (lw_at lw_m6 162 rfl) rfl
theorem q1445 : (Jvm.Cond.constantLong "RumourBedsModel" (272 : Nat) (486 : Int64)) ∈ lw_all := lw_g (lw_at lw_m6 163 rfl) rfl
theorem q1446 : (Jvm.Cond.methodLink "RumourBedsModel" (269 : Nat) ({ cls := "RumourBedsModel", name := "number", desc := "(II)V" } : Jvm.MethodName)) ∈ lw_all := lw_g (lw_at lw_m6 164 rfl) rfl
theorem q1447 : (Jvm.Cond.privateMethod ({ cls := "RumourBedsModel", name := "number", desc := "(II)V" } : Jvm.MethodName)) ∈ lw_tbl := lw_at lw_m6 165 rfl
theorem q1448 : (Jvm.Cond.instanceMethod ({ cls := "RumourBedsModel", name := "number", desc := "(II)V" } : Jvm.MethodName)) ∈ lw_all := lw_g (lw_at lw_m6 166 rfl) rfl
theorem q1449 : (Jvm.Cond.code ({ cls := "RumourBedsModel", name := "number", desc := "(II)V" } : Jvm.MethodName) prog_17_method_83_code (6 : Nat) (Option.none : Option Jvm.ClassFile.FieldType)) ∈ lw_all := lw_g (lw_at lw_m6 167 rfl) rfl
theorem q1450 : (Jvm.Cond.constantLong "RumourBedsModel" (274 : Nat) (87435 : Int64)) ∈ lw_all := lw_g (lw_at lw_m6 168 rfl) rfl
theorem q1451 : (Jvm.Cond.methodLink "RumourBedsModel" (276 : Nat) ({ cls := "RumourBedsModel", name := "partItem", desc := "(JII)V" } : Jvm.MethodName)) ∈ lw_all := lw_g (lw_at lw_m6 169 rfl) rfl
theorem q1452 : (Jvm.Cond.privateMethod ({ cls := "RumourBedsModel", name := "partItem", desc := "(JII)V" } : Jvm.MethodName)) ∈ lw_tbl := lw_at lw_m6 170 rfl
theorem q1453 : (Jvm.Cond.instanceMethod ({ cls := "RumourBedsModel", name := "partItem", desc := "(JII)V" } : Jvm.MethodName)) ∈ lw_all := lw_g (lw_at lw_m6 171 rfl) rfl
theorem q1454 : (Jvm.Cond.code ({ cls := "RumourBedsModel", name := "partItem", desc := "(JII)V" } : Jvm.MethodName) prog_17_method_85_code (5 : Nat) (Option.none : Option Jvm.ClassFile.FieldType)) ∈ lw_all := lw_g (lw_at lw_m6 172 rfl) rfl
theorem q1455 : (Jvm.Cond.constantLong "RumourBedsModel" (280 : Nat) (302 : Int64)) ∈ lw_all := lw_g (lw_at lw_m6 173 rfl) rfl
theorem q1456 : (Jvm.Cond.methodLink "RumourBedsModel" (282 : Nat) ({ cls := "RumourBedsModel", name := "peeked", desc := "()I" } : Jvm.MethodName)) ∈ lw_all := lw_g (lw_at lw_m6 174 rfl) rfl
theorem q1457 : (Jvm.Cond.privateMethod ({ cls := "RumourBedsModel", name := "peeked", desc := "()I" } : Jvm.MethodName)) ∈ lw_tbl := lw_at lw_m6 175 rfl
theorem q1458 : (Jvm.Cond.instanceMethod ({ cls := "RumourBedsModel", name := "peeked", desc := "()I" } : Jvm.MethodName)) ∈ lw_all := lw_g (lw_at lw_m6 176 rfl) rfl
theorem q1459 : (Jvm.Cond.code ({ cls := "RumourBedsModel", name := "peeked", desc := "()I" } : Jvm.MethodName) prog_17_method_86_code (3 : Nat) (Option.some Jvm.ClassFile.FieldType.int)) ∈ lw_all := lw_g (lw_at lw_m6 177 rfl) rfl
theorem q1460 : (Jvm.Cond.constantLong "RumourBedsModel" (297 : Nat) (8902245 : Int64)) ∈ lw_all := lw_g (lw_at lw_m6 178 rfl) rfl
theorem q1461 : (Jvm.Cond.methodLink "RumourBedsModel" (299 : Nat) ({ cls := "RumourBedsModel", name := "houseItem", desc := "()V" } : Jvm.MethodName)) ∈ lw_all := lw_g (lw_at lw_m6 179 rfl) rfl
theorem q1462 : (Jvm.Cond.privateMethod ({ cls := "RumourBedsModel", name := "houseItem", desc := "()V" } : Jvm.MethodName)) ∈ lw_tbl := lw_at lw_m6 180 rfl
theorem q1463 : (Jvm.Cond.instanceMethod ({ cls := "RumourBedsModel", name := "houseItem", desc := "()V" } : Jvm.MethodName)) ∈ lw_all := lw_g (lw_at lw_m6 181 rfl) rfl
theorem q1464 : (Jvm.Cond.code ({ cls := "RumourBedsModel", name := "houseItem", desc := "()V" } : Jvm.MethodName) prog_17_method_88_code (2 : Nat) (Option.none : Option Jvm.ClassFile.FieldType)) ∈ lw_all := lw_g (lw_at lw_m6 182 rfl) rfl
theorem q1465 : (Jvm.Cond.constantLong "RumourBedsModel" (285 : Nat) (70803 : Int64)) ∈ lw_all := lw_g (lw_at lw_m6 183 rfl) rfl
theorem q1466 : (Jvm.Cond.constantLong "RumourBedsModel" (287 : Nat) (404295858 : Int64)) ∈ lw_all := lw_g (lw_at lw_m6 184 rfl) rfl
theorem q1467 : (Jvm.Cond.constantLong "RumourBedsModel" (289 : Nat) (12748243 : Int64)) ∈ lw_all := lw_g (lw_at lw_m6 185 rfl) rfl
theorem q1468 : (Jvm.Cond.constantLong "RumourBedsModel" (302 : Nat) (674469 : Int64)) ∈ lw_all := lw_g (lw_at lw_m6 186 rfl) rfl
theorem q1469 : (Jvm.Cond.methodLink "RumourBedsModel" (310 : Nat) ({ cls := "RumourBedsModel", name := "putsBack", desc := "()V" } : Jvm.MethodName)) ∈ lw_all := lw_g (lw_at lw_m6 187 rfl) rfl
theorem q1470 : (Jvm.Cond.privateMethod ({ cls := "RumourBedsModel", name := "putsBack", desc := "()V" } : Jvm.MethodName)) ∈ lw_tbl := lw_at lw_m6 188 rfl
theorem q1471 : (Jvm.Cond.instanceMethod ({ cls := "RumourBedsModel", name := "putsBack", desc := "()V" } : Jvm.MethodName)) ∈ lw_all := lw_g (lw_at lw_m6 189 rfl) rfl
theorem q1472 : (Jvm.Cond.code ({ cls := "RumourBedsModel", name := "putsBack", desc := "()V" } : Jvm.MethodName) prog_17_method_5_code (2 : Nat) (Option.none : Option Jvm.ClassFile.FieldType)) ∈ lw_all := lw_g (lw_at lw_m6 190 rfl) rfl
theorem q1474 : (Jvm.Cond.instanceMethod ({ cls := "RumourBedsModel", name := "sheet", desc := "(III)I" } : Jvm.MethodName)) ∈ lw_all := lw_g (lw_at lw_m6 192 rfl) rfl
theorem q1475 : (Jvm.Cond.selects "RumourBedsModel" ({ cls := "RumourBedsModel", name := "sheet", desc := "(III)I" } : Jvm.MethodName) ({ cls := "RumourBedsModel", name := "sheet", desc := "(III)I" } : Jvm.MethodName)) ∈ lw_all := lw_g (lw_at lw_m6 193 rfl) rfl
theorem q1476 : (Jvm.Cond.code ({ cls := "RumourBedsModel", name := "sheet", desc := "(III)I" } : Jvm.MethodName) prog_17_method_92_code (5 : Nat) (Option.some Jvm.ClassFile.FieldType.int)) ∈ lw_all := lw_g (lw_at lw_m6 194 rfl) rfl
theorem q1477 : (Jvm.Cond.methodLink "RumourBedsModel" (313 : Nat) ({ cls := "RumourBedsModel", name := "isOne", desc := "(I)Z" } : Jvm.MethodName)) ∈ lw_all := lw_g (lw_at lw_m6 195 rfl) rfl
theorem q1478 : (Jvm.Cond.static ({ cls := "RumourBedsModel", name := "isOne", desc := "(I)Z" } : Jvm.MethodName)) ∈ lw_all := lw_g (lw_at lw_m6 196 rfl) rfl
theorem q1479 : (Jvm.Cond.code ({ cls := "RumourBedsModel", name := "isOne", desc := "(I)Z" } : Jvm.MethodName) prog_17_method_91_code (1 : Nat) (Option.some Jvm.ClassFile.FieldType.boolean)) ∈ lw_all := lw_g (lw_at lw_m6 197 rfl) rfl
theorem q1480 : (Jvm.Cond.constant "RumourBedsModel" (316 : Nat) (-1000000007 : Int32)) ∈ lw_all := lw_g (lw_at lw_m6 198 rfl) rfl
theorem q1482 : (Jvm.Cond.instanceMethod ({ cls := "RumourBedsModel", name := "write", desc := "(IIJ)J" } : Jvm.MethodName)) ∈ lw_all := lw_g (lw_at lw_m6 200 rfl) rfl
theorem q1483 : (Jvm.Cond.selects "RumourBedsModel" ({ cls := "RumourBedsModel", name := "write", desc := "(IIJ)J" } : Jvm.MethodName) ({ cls := "RumourBedsModel", name := "write", desc := "(IIJ)J" } : Jvm.MethodName)) ∈ lw_all := lw_g (lw_at lw_m6 201 rfl) rfl
theorem q1484 : (Jvm.Cond.code ({ cls := "RumourBedsModel", name := "write", desc := "(IIJ)J" } : Jvm.MethodName) prog_17_method_95_code (8 : Nat) (Option.some Jvm.ClassFile.FieldType.long)) ∈ lw_all := lw_g (lw_at lw_m6 202 rfl) rfl
theorem q1485 : (Jvm.Cond.methodLink "RumourBedsModel" (318 : Nat) ({ cls := "RumourBedsModel", name := "wrongSheet", desc := "(I)I" } : Jvm.MethodName)) ∈ lw_all := lw_g (lw_at lw_m6 203 rfl) rfl
theorem q1486 : (Jvm.Cond.privateMethod ({ cls := "RumourBedsModel", name := "wrongSheet", desc := "(I)I" } : Jvm.MethodName)) ∈ lw_tbl := lw_at lw_m6 204 rfl
theorem q1487 : (Jvm.Cond.instanceMethod ({ cls := "RumourBedsModel", name := "wrongSheet", desc := "(I)I" } : Jvm.MethodName)) ∈ lw_all := lw_g (lw_at lw_m6 205 rfl) rfl
theorem q1488 : (Jvm.Cond.code ({ cls := "RumourBedsModel", name := "wrongSheet", desc := "(I)I" } : Jvm.MethodName) prog_17_method_94_code (2 : Nat) (Option.some Jvm.ClassFile.FieldType.int)) ∈ lw_all := lw_g (lw_at lw_m6 206 rfl) rfl
theorem q1489 : (Jvm.Cond.constant "RumourBedsModel" (317 : Nat) (-1000000006 : Int32)) ∈ lw_all := lw_g (lw_at lw_m6 207 rfl) rfl
theorem q1490 : (Jvm.Cond.methodLink "RumourBedsModel" (321 : Nat) ({ cls := "RumourBedsModel", name := "narrowed", desc := "(IJ)J" } : Jvm.MethodName)) ∈ lw_all := lw_g (lw_at lw_m6 208 rfl) rfl
theorem q1491 : (Jvm.Cond.static ({ cls := "RumourBedsModel", name := "narrowed", desc := "(IJ)J" } : Jvm.MethodName)) ∈ lw_all := lw_g (lw_at lw_m6 209 rfl) rfl
theorem q1492 : (Jvm.Cond.code ({ cls := "RumourBedsModel", name := "narrowed", desc := "(IJ)J" } : Jvm.MethodName) prog_17_method_93_code (3 : Nat) (Option.some Jvm.ClassFile.FieldType.long)) ∈ lw_all := lw_g (lw_at lw_m6 210 rfl) rfl
theorem q1494 : (Jvm.Cond.instanceMethod ({ cls := "RumourBedsModel", name := "copy", desc := "(IIIII)I" } : Jvm.MethodName)) ∈ lw_all := lw_g (lw_at lw_m6 212 rfl) rfl
theorem q1495 : (Jvm.Cond.selects "RumourBedsModel" ({ cls := "RumourBedsModel", name := "copy", desc := "(IIIII)I" } : Jvm.MethodName) ({ cls := "RumourBedsModel", name := "copy", desc := "(IIIII)I" } : Jvm.MethodName)) ∈ lw_all := lw_g (lw_at lw_m6 213 rfl) rfl
theorem q1496 : (Jvm.Cond.code ({ cls := "RumourBedsModel", name := "copy", desc := "(IIIII)I" } : Jvm.MethodName) prog_17_method_96_code (7 : Nat) (Option.some Jvm.ClassFile.FieldType.int)) ∈ lw_all := lw_g (lw_at lw_m6 214 rfl) rfl
theorem q1498 : (Jvm.Cond.instanceMethod ({ cls := "RumourBedsModel", name := "lays", desc := "(I)I" } : Jvm.MethodName)) ∈ lw_all := lw_g (lw_at lw_m6 216 rfl) rfl
theorem q1499 : (Jvm.Cond.selects "RumourBedsModel" ({ cls := "RumourBedsModel", name := "lays", desc := "(I)I" } : Jvm.MethodName) ({ cls := "RumourBedsModel", name := "lays", desc := "(I)I" } : Jvm.MethodName)) ∈ lw_all := lw_g (lw_at lw_m6 217 rfl) rfl
theorem q1500 : (Jvm.Cond.code ({ cls := "RumourBedsModel", name := "lays", desc := "(I)I" } : Jvm.MethodName) prog_17_method_97_code (6 : Nat) (Option.some Jvm.ClassFile.FieldType.int)) ∈ lw_all := lw_g (lw_at lw_m6 218 rfl) rfl
theorem q1502 : (Jvm.Cond.instanceMethod ({ cls := "RumourBedsModel", name := "book", desc := "(II)I" } : Jvm.MethodName)) ∈ lw_all := lw_g (lw_at lw_m6 220 rfl) rfl
theorem q1503 : (Jvm.Cond.selects "RumourBedsModel" ({ cls := "RumourBedsModel", name := "book", desc := "(II)I" } : Jvm.MethodName) ({ cls := "RumourBedsModel", name := "book", desc := "(II)I" } : Jvm.MethodName)) ∈ lw_all := lw_g (lw_at lw_m6 221 rfl) rfl
theorem q1504 : (Jvm.Cond.code ({ cls := "RumourBedsModel", name := "book", desc := "(II)I" } : Jvm.MethodName) prog_17_method_99_code (5 : Nat) (Option.some Jvm.ClassFile.FieldType.int)) ∈ lw_all := lw_g (lw_at lw_m6 222 rfl) rfl
theorem q1505 : (Jvm.Cond.methodLink "RumourBedsModel" (325 : Nat) ({ cls := "RumourBedsModel", name := "wrongBook", desc := "(II)I" } : Jvm.MethodName)) ∈ lw_all := lw_g (lw_at lw_m6 223 rfl) rfl
theorem q1506 : (Jvm.Cond.privateMethod ({ cls := "RumourBedsModel", name := "wrongBook", desc := "(II)I" } : Jvm.MethodName)) ∈ lw_tbl := lw_at lw_m6 224 rfl
theorem q1507 : (Jvm.Cond.instanceMethod ({ cls := "RumourBedsModel", name := "wrongBook", desc := "(II)I" } : Jvm.MethodName)) ∈ lw_all := lw_g (lw_at lw_m6 225 rfl) rfl
theorem q1508 : (Jvm.Cond.code ({ cls := "RumourBedsModel", name := "wrongBook", desc := "(II)I" } : Jvm.MethodName) prog_17_method_98_code (4 : Nat) (Option.some Jvm.ClassFile.FieldType.int)) ∈ lw_all := lw_g (lw_at lw_m6 226 rfl) rfl
theorem q1510 : (Jvm.Cond.instanceMethod ({ cls := "RumourBedsModel", name := "read", desc := "(II)I" } : Jvm.MethodName)) ∈ lw_all := lw_g (lw_at lw_m6 228 rfl) rfl
theorem q1511 : (Jvm.Cond.selects "RumourBedsModel" ({ cls := "RumourBedsModel", name := "read", desc := "(II)I" } : Jvm.MethodName) ({ cls := "RumourBedsModel", name := "read", desc := "(II)I" } : Jvm.MethodName)) ∈ lw_all := lw_g (lw_at lw_m6 229 rfl) rfl
theorem q1512 : (Jvm.Cond.code ({ cls := "RumourBedsModel", name := "read", desc := "(II)I" } : Jvm.MethodName) prog_17_method_101_code (7 : Nat) (Option.some Jvm.ClassFile.FieldType.int)) ∈ lw_all := lw_g (lw_at lw_m6 230 rfl) rfl
theorem q1513 : (Jvm.Cond.methodLink "RumourBedsModel" (328 : Nat) ({ cls := "RumourBedsModel", name := "isBook", desc := "(II)Z" } : Jvm.MethodName)) ∈ lw_all := lw_g (lw_at lw_m6 231 rfl) rfl
theorem q1514 : (Jvm.Cond.privateMethod ({ cls := "RumourBedsModel", name := "isBook", desc := "(II)Z" } : Jvm.MethodName)) ∈ lw_tbl := lw_at lw_m6 232 rfl
theorem q1515 : (Jvm.Cond.instanceMethod ({ cls := "RumourBedsModel", name := "isBook", desc := "(II)Z" } : Jvm.MethodName)) ∈ lw_all := lw_g (lw_at lw_m6 233 rfl) rfl
theorem q1516 : (Jvm.Cond.code ({ cls := "RumourBedsModel", name := "isBook", desc := "(II)Z" } : Jvm.MethodName) prog_17_method_100_code (4 : Nat) (Option.some Jvm.ClassFile.FieldType.boolean)) ∈ lw_all := lw_g (lw_at lw_m6 234 rfl) rfl
theorem q1518 : (Jvm.Cond.instanceMethod ({ cls := "RumourBedsModel", name := "image", desc := "()I" } : Jvm.MethodName)) ∈ lw_all := lw_g (lw_at lw_m6 236 rfl) rfl
theorem q1519 : (Jvm.Cond.selects "RumourBedsModel" ({ cls := "RumourBedsModel", name := "image", desc := "()I" } : Jvm.MethodName) ({ cls := "RumourBedsModel", name := "image", desc := "()I" } : Jvm.MethodName)) ∈ lw_all := lw_g (lw_at lw_m6 237 rfl) rfl
theorem q1520 : (Jvm.Cond.code ({ cls := "RumourBedsModel", name := "image", desc := "()I" } : Jvm.MethodName) prog_17_method_102_code (2 : Nat) (Option.some Jvm.ClassFile.FieldType.int)) ∈ lw_all := lw_g (lw_at lw_m6 238 rfl) rfl
theorem q1522 : (Jvm.Cond.instanceMethod ({ cls := "RumourBedsModel", name := "undo", desc := "()I" } : Jvm.MethodName)) ∈ lw_all := lw_g (lw_at lw_m7 0 rfl) rfl
theorem q1523 : (Jvm.Cond.selects "RumourBedsModel" ({ cls := "RumourBedsModel", name := "undo", desc := "()I" } : Jvm.MethodName) ({ cls := "RumourBedsModel", name := "undo", desc := "()I" } : Jvm.MethodName)) ∈ lw_all := lw_g (lw_at lw_m7 1 rfl) rfl
theorem q1524 : (Jvm.Cond.code ({ cls := "RumourBedsModel", name := "undo", desc := "()I" } : Jvm.MethodName) prog_17_method_103_code (2 : Nat) (Option.some Jvm.ClassFile.FieldType.int)) ∈ lw_all := lw_g (lw_at lw_m7 2 rfl) rfl
theorem q1526 : (Jvm.Cond.instanceMethod ({ cls := "RumourBedsModel", name := "tear", desc := "()I" } : Jvm.MethodName)) ∈ lw_all := lw_g (lw_at lw_m7 4 rfl) rfl
theorem q1527 : (Jvm.Cond.selects "RumourBedsModel" ({ cls := "RumourBedsModel", name := "tear", desc := "()I" } : Jvm.MethodName) ({ cls := "RumourBedsModel", name := "tear", desc := "()I" } : Jvm.MethodName)) ∈ lw_all := lw_g (lw_at lw_m7 5 rfl) rfl
theorem q1528 : (Jvm.Cond.code ({ cls := "RumourBedsModel", name := "tear", desc := "()I" } : Jvm.MethodName) prog_17_method_104_code (2 : Nat) (Option.some Jvm.ClassFile.FieldType.int)) ∈ lw_all := lw_g (lw_at lw_m7 6 rfl) rfl
theorem q1530 : (Jvm.Cond.instanceMethod ({ cls := "RumourBedsModel", name := "count", desc := "(I)I" } : Jvm.MethodName)) ∈ lw_all := lw_g (lw_at lw_m7 8 rfl) rfl
theorem q1531 : (Jvm.Cond.selects "RumourBedsModel" ({ cls := "RumourBedsModel", name := "count", desc := "(I)I" } : Jvm.MethodName) ({ cls := "RumourBedsModel", name := "count", desc := "(I)I" } : Jvm.MethodName)) ∈ lw_all := lw_g (lw_at lw_m7 9 rfl) rfl
theorem q1532 : (Jvm.Cond.code ({ cls := "RumourBedsModel", name := "count", desc := "(I)I" } : Jvm.MethodName) prog_17_method_106_code (2 : Nat) (Option.some Jvm.ClassFile.FieldType.int)) ∈ lw_all := lw_g (lw_at lw_m7 10 rfl) rfl
theorem q1533 : (Jvm.Cond.methodLink "RumourBedsModel" (334 : Nat) ({ cls := "RumourBedsModel", name := "bedsAll", desc := "()I" } : Jvm.MethodName)) ∈ lw_all := lw_g (lw_at lw_m7 11 rfl) rfl
theorem q1534 : (Jvm.Cond.privateMethod ({ cls := "RumourBedsModel", name := "bedsAll", desc := "()I" } : Jvm.MethodName)) ∈ lw_tbl := lw_at lw_m7 12 rfl
theorem q1535 : (Jvm.Cond.instanceMethod ({ cls := "RumourBedsModel", name := "bedsAll", desc := "()I" } : Jvm.MethodName)) ∈ lw_all := lw_g (lw_at lw_m7 13 rfl) rfl
theorem q1536 : (Jvm.Cond.code ({ cls := "RumourBedsModel", name := "bedsAll", desc := "()I" } : Jvm.MethodName) prog_17_method_105_code (3 : Nat) (Option.some Jvm.ClassFile.FieldType.int)) ∈ lw_all := lw_g (lw_at lw_m7 14 rfl) rfl
theorem q1538 : (Jvm.Cond.instanceMethod ({ cls := "RumourBedsModel", name := "status", desc := "(I)I" } : Jvm.MethodName)) ∈ lw_all := lw_g (lw_at lw_m7 16 rfl) rfl
theorem q1539 : (Jvm.Cond.selects "RumourBedsModel" ({ cls := "RumourBedsModel", name := "status", desc := "(I)I" } : Jvm.MethodName) ({ cls := "RumourBedsModel", name := "status", desc := "(I)I" } : Jvm.MethodName)) ∈ lw_all := lw_g (lw_at lw_m7 17 rfl) rfl
theorem q1540 : (Jvm.Cond.code ({ cls := "RumourBedsModel", name := "status", desc := "(I)I" } : Jvm.MethodName) prog_17_method_107_code (4 : Nat) (Option.some Jvm.ClassFile.FieldType.int)) ∈ lw_all := lw_g (lw_at lw_m7 18 rfl) rfl
theorem q1541 : (Jvm.Cond.constantLong "RumourBedsModel" (337 : Nat) (-1 : Int64)) ∈ lw_all := lw_g (lw_at lw_m7 19 rfl) rfl
theorem q1542 : (Jvm.Cond.constantLong "RumourBedsModel" (339 : Nat) (6 : Int64)) ∈ lw_all := lw_g (lw_at lw_m7 20 rfl) rfl
theorem in_X3 : ∀ w ∈ wsX30, w ∈ lw_all := lw_in wsX30 [1064, 1066, 1068, 1070, 1072, 1074, 1076, 1078, 1080, 1082, 1084, 1086, 1088, 1090, 1092, 1094] (by decide +kernel) (by decide +kernel)
