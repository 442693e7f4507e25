/-! RumourBeds$Town -/
set_option maxRecDepth 100000
def RX1 : String := "RumourBeds$Town"
def TX1 : u_T := fun k => match k with
  | 0 => ("RumourBeds$Town", "day", "I", false)
  | 1 => ("RumourBeds$Town", "true0", "I", false)
  | 2 => ("RumourBeds$Town", "rumours", "I", false)
  | 3 => ("RumourBeds$Town", "beds", "[I", true)
  | 4 => ("RumourBeds$Town", "larder", "[I", true)
  | 5 => ("RumourBeds$Town", "leans", "[I", true)
  | 6 => ("RumourBeds$Town", "rumour", "[LRumourBeds$Slot;", true)
  | _ => ("RumourBeds$Town", "pool", "[LRumourBeds$Slot;", true)
def tyX1 : Nat → FieldType := fun k => match k with
  | 0 => .int
  | 1 => .int
  | 2 => .int
  | 3 => .array .int
  | 4 => .array .int
  | 5 => .array .int
  | 6 => .array (.object "RumourBeds$Slot")
  | _ => .array (.object "RumourBeds$Slot")
abbrev wsX10 : List Cond := u_ws RX1 TX1 8
theorem nmX1 : ∀ a, a < 8 → ∀ b, b < 8 → a ≠ b → (TX1 a).2.1 ≠ (TX1 b).2.1 := by decide +kernel
theorem tyX1_ok : ∀ k, k < 8 → parseFieldDescriptor (TX1 k).2.2.1 = some (tyX1 k) := by decide +kernel
abbrev cX1_init : ByteArray := prog_14_method_1_code
def yX1_init : MethodName := ⟨RX1, "<init>", "()V"⟩
def dkwX1_init_3 : List UInt8 := [180, 0, 18, 27, 6, 79, 132, 1, 1, 167, 255, 225, 177]
abbrev dktX1_init_3 : List UInt8 := dkwX1_init_3 ++ []
def dkwX1_init_2 : List UInt8 := [60, 27, 16, 8, 162, 0, 31, 42, 180, 0, 9, 27, 4, 79, 42, 180, 0, 15, 27, 16, 50, 79, 42]
abbrev dktX1_init_2 : List UInt8 := dkwX1_init_2 ++ dktX1_init_3
def dkwX1_init_1 : List UInt8 := [188, 10, 181, 0, 18, 42, 16, 10, 184, 0, 21, 181, 0, 25, 42, 16, 60, 184, 0, 21, 181, 0, 29, 3]
abbrev dktX1_init_1 : List UInt8 := dkwX1_init_1 ++ dktX1_init_2
def dkwX1_init_0 : List UInt8 := [42, 183, 0, 3, 42, 16, 8, 188, 10, 181, 0, 9, 42, 16, 8, 188, 10, 181, 0, 15, 42, 16, 8]
abbrev dktX1_init_0 : List UInt8 := dkwX1_init_0 ++ dktX1_init_1
theorem dksX1_init_0 : cX1_init.data.toList.drop 0 = dktX1_init_0 := by decide +kernel
theorem dksX1_init_1 : cX1_init.data.toList.drop 23 = dktX1_init_1 := dk_seg dksX1_init_0 23 rfl rfl
theorem dksX1_init_2 : cX1_init.data.toList.drop 47 = dktX1_init_2 := dk_seg dksX1_init_1 24 rfl rfl
theorem dksX1_init_3 : cX1_init.data.toList.drop 70 = dktX1_init_3 := dk_seg dksX1_init_2 23 rfl rfl
theorem dX1_init_0 : decode cX1_init 0 = .ok (.aload_n 0, 1) := dk_42 (dk_at dksX1_init_0 0 rfl rfl)
theorem dX1_init_1 : decode cX1_init 1 = .ok (.invokespecial 3, 3) := dk_183 0 3 (dk_at dksX1_init_0 1 rfl rfl)
theorem dX1_init_4 : decode cX1_init 4 = .ok (.aload_n 0, 1) := dk_42 (dk_at dksX1_init_0 4 rfl rfl)
theorem dX1_init_5 : decode cX1_init 5 = .ok (.bipush 8, 2) := dk_16 8 (dk_at dksX1_init_0 5 rfl rfl)
theorem dX1_init_7 : decode cX1_init 7 = .ok (.newarray .int, 2) := dk_188_10 (dk_at dksX1_init_0 7 rfl rfl)
theorem dX1_init_9 : decode cX1_init 9 = .ok (.putfield 9, 3) := dk_181 0 9 (dk_at dksX1_init_0 9 rfl rfl)
theorem dX1_init_12 : decode cX1_init 12 = .ok (.aload_n 0, 1) := dk_42 (dk_at dksX1_init_0 12 rfl rfl)
theorem dX1_init_13 : decode cX1_init 13 = .ok (.bipush 8, 2) := dk_16 8 (dk_at dksX1_init_0 13 rfl rfl)
theorem dX1_init_15 : decode cX1_init 15 = .ok (.newarray .int, 2) := dk_188_10 (dk_at dksX1_init_0 15 rfl rfl)
theorem dX1_init_17 : decode cX1_init 17 = .ok (.putfield 15, 3) := dk_181 0 15 (dk_at dksX1_init_0 17 rfl rfl)
theorem dX1_init_20 : decode cX1_init 20 = .ok (.aload_n 0, 1) := dk_42 (dk_at dksX1_init_0 20 rfl rfl)
theorem dX1_init_21 : decode cX1_init 21 = .ok (.bipush 8, 2) := dk_16 8 (dk_at dksX1_init_0 21 rfl rfl)
theorem dX1_init_23 : decode cX1_init 23 = .ok (.newarray .int, 2) := dk_188_10 (dk_at dksX1_init_1 0 rfl rfl)
theorem dX1_init_25 : decode cX1_init 25 = .ok (.putfield 18, 3) := dk_181 0 18 (dk_at dksX1_init_1 2 rfl rfl)
theorem dX1_init_28 : decode cX1_init 28 = .ok (.aload_n 0, 1) := dk_42 (dk_at dksX1_init_1 5 rfl rfl)
theorem dX1_init_29 : decode cX1_init 29 = .ok (.bipush 10, 2) := dk_16 10 (dk_at dksX1_init_1 6 rfl rfl)
theorem dX1_init_31 : decode cX1_init 31 = .ok (.invokestatic 21, 3) := dk_184 0 21 (dk_at dksX1_init_1 8 rfl rfl)
theorem dX1_init_34 : decode cX1_init 34 = .ok (.putfield 25, 3) := dk_181 0 25 (dk_at dksX1_init_1 11 rfl rfl)
theorem dX1_init_37 : decode cX1_init 37 = .ok (.aload_n 0, 1) := dk_42 (dk_at dksX1_init_1 14 rfl rfl)
theorem dX1_init_38 : decode cX1_init 38 = .ok (.bipush 60, 2) := dk_16 60 (dk_at dksX1_init_1 15 rfl rfl)
theorem dX1_init_40 : decode cX1_init 40 = .ok (.invokestatic 21, 3) := dk_184 0 21 (dk_at dksX1_init_1 17 rfl rfl)
theorem dX1_init_43 : decode cX1_init 43 = .ok (.putfield 29, 3) := dk_181 0 29 (dk_at dksX1_init_1 20 rfl rfl)
theorem dX1_init_46 : decode cX1_init 46 = .ok (.iconst 0, 1) := dk_3 (dk_at dksX1_init_1 23 rfl rfl)
theorem dX1_init_47 : decode cX1_init 47 = .ok (.istore_n 1, 1) := dk_60 (dk_at dksX1_init_2 0 rfl rfl)
theorem dX1_init_48 : decode cX1_init 48 = .ok (.iload_n 1, 1) := dk_27 (dk_at dksX1_init_2 1 rfl rfl)
theorem dX1_init_49 : decode cX1_init 49 = .ok (.bipush 8, 2) := dk_16 8 (dk_at dksX1_init_2 2 rfl rfl)
theorem dX1_init_51 : decode cX1_init 51 = .ok (.if_icmp .ge 31, 3) := dk_162 0 31 (dk_at dksX1_init_2 4 rfl rfl)
theorem dX1_init_54 : decode cX1_init 54 = .ok (.aload_n 0, 1) := dk_42 (dk_at dksX1_init_2 7 rfl rfl)
theorem dX1_init_55 : decode cX1_init 55 = .ok (.getfield 9, 3) := dk_180 0 9 (dk_at dksX1_init_2 8 rfl rfl)
theorem dX1_init_58 : decode cX1_init 58 = .ok (.iload_n 1, 1) := dk_27 (dk_at dksX1_init_2 11 rfl rfl)
theorem dX1_init_59 : decode cX1_init 59 = .ok (.iconst 1, 1) := dk_4 (dk_at dksX1_init_2 12 rfl rfl)
theorem dX1_init_60 : decode cX1_init 60 = .ok (.iastore, 1) := dk_79 (dk_at dksX1_init_2 13 rfl rfl)
theorem dX1_init_61 : decode cX1_init 61 = .ok (.aload_n 0, 1) := dk_42 (dk_at dksX1_init_2 14 rfl rfl)
theorem dX1_init_62 : decode cX1_init 62 = .ok (.getfield 15, 3) := dk_180 0 15 (dk_at dksX1_init_2 15 rfl rfl)
theorem dX1_init_65 : decode cX1_init 65 = .ok (.iload_n 1, 1) := dk_27 (dk_at dksX1_init_2 18 rfl rfl)
theorem dX1_init_66 : decode cX1_init 66 = .ok (.bipush 50, 2) := dk_16 50 (dk_at dksX1_init_2 19 rfl rfl)
theorem dX1_init_68 : decode cX1_init 68 = .ok (.iastore, 1) := dk_79 (dk_at dksX1_init_2 21 rfl rfl)
theorem dX1_init_69 : decode cX1_init 69 = .ok (.aload_n 0, 1) := dk_42 (dk_at dksX1_init_2 22 rfl rfl)
theorem dX1_init_70 : decode cX1_init 70 = .ok (.getfield 18, 3) := dk_180 0 18 (dk_at dksX1_init_3 0 rfl rfl)
theorem dX1_init_73 : decode cX1_init 73 = .ok (.iload_n 1, 1) := dk_27 (dk_at dksX1_init_3 3 rfl rfl)
theorem dX1_init_74 : decode cX1_init 74 = .ok (.iconst 3, 1) := dk_6 (dk_at dksX1_init_3 4 rfl rfl)
theorem dX1_init_75 : decode cX1_init 75 = .ok (.iastore, 1) := dk_79 (dk_at dksX1_init_3 5 rfl rfl)
theorem dX1_init_76 : decode cX1_init 76 = .ok (.iinc 1 1, 3) := dk_132 1 1 (dk_at dksX1_init_3 6 rfl rfl)
theorem dX1_init_79 : decode cX1_init 79 = .ok (.goto (-31), 3) := dk_167 255 225 (dk_at dksX1_init_3 9 rfl rfl)
theorem dX1_init_82 : decode cX1_init 82 = .ok (.return_, 1) := dk_177 (dk_at dksX1_init_3 12 rfl rfl)
abbrev cX1_rowOf : ByteArray := prog_14_method_23_code
def yX1_rowOf : MethodName := ⟨RX1, "rowOf", "(I)[I"⟩
def dkwX1_rowOf_1 : List UInt8 := [180, 0, 18, 176]
abbrev dktX1_rowOf_1 : List UInt8 := dkwX1_rowOf_1 ++ []
def dkwX1_rowOf_0 : List UInt8 := [27, 154, 0, 10, 42, 180, 0, 9, 167, 0, 19, 27, 4, 160, 0, 10, 42, 180, 0, 15, 167, 0, 7, 42]
abbrev dktX1_rowOf_0 : List UInt8 := dkwX1_rowOf_0 ++ dktX1_rowOf_1
theorem dksX1_rowOf_0 : cX1_rowOf.data.toList.drop 0 = dktX1_rowOf_0 := by decide +kernel
theorem dksX1_rowOf_1 : cX1_rowOf.data.toList.drop 24 = dktX1_rowOf_1 := dk_seg dksX1_rowOf_0 24 rfl rfl
theorem dX1_rowOf_0 : decode cX1_rowOf 0 = .ok (.iload_n 1, 1) := dk_27 (dk_at dksX1_rowOf_0 0 rfl rfl)
theorem dX1_rowOf_1 : decode cX1_rowOf 1 = .ok (.ifCond .ne 10, 3) := dk_154 0 10 (dk_at dksX1_rowOf_0 1 rfl rfl)
theorem dX1_rowOf_4 : decode cX1_rowOf 4 = .ok (.aload_n 0, 1) := dk_42 (dk_at dksX1_rowOf_0 4 rfl rfl)
theorem dX1_rowOf_5 : decode cX1_rowOf 5 = .ok (.getfield 9, 3) := dk_180 0 9 (dk_at dksX1_rowOf_0 5 rfl rfl)
theorem dX1_rowOf_8 : decode cX1_rowOf 8 = .ok (.goto 19, 3) := dk_167 0 19 (dk_at dksX1_rowOf_0 8 rfl rfl)
theorem dX1_rowOf_11 : decode cX1_rowOf 11 = .ok (.iload_n 1, 1) := dk_27 (dk_at dksX1_rowOf_0 11 rfl rfl)
theorem dX1_rowOf_12 : decode cX1_rowOf 12 = .ok (.iconst 1, 1) := dk_4 (dk_at dksX1_rowOf_0 12 rfl rfl)
theorem dX1_rowOf_13 : decode cX1_rowOf 13 = .ok (.if_icmp .ne 10, 3) := dk_160 0 10 (dk_at dksX1_rowOf_0 13 rfl rfl)
theorem dX1_rowOf_16 : decode cX1_rowOf 16 = .ok (.aload_n 0, 1) := dk_42 (dk_at dksX1_rowOf_0 16 rfl rfl)
theorem dX1_rowOf_17 : decode cX1_rowOf 17 = .ok (.getfield 15, 3) := dk_180 0 15 (dk_at dksX1_rowOf_0 17 rfl rfl)
theorem dX1_rowOf_20 : decode cX1_rowOf 20 = .ok (.goto 7, 3) := dk_167 0 7 (dk_at dksX1_rowOf_0 20 rfl rfl)
theorem dX1_rowOf_23 : decode cX1_rowOf 23 = .ok (.aload_n 0, 1) := dk_42 (dk_at dksX1_rowOf_0 23 rfl rfl)
theorem dX1_rowOf_24 : decode cX1_rowOf 24 = .ok (.getfield 18, 3) := dk_180 0 18 (dk_at dksX1_rowOf_1 0 rfl rfl)
theorem dX1_rowOf_27 : decode cX1_rowOf 27 = .ok (.areturn, 1) := dk_176 (dk_at dksX1_rowOf_1 3 rfl rfl)
abbrev cX1_inside : ByteArray := prog_14_method_7_code
def yX1_inside : MethodName := ⟨RX1, "inside", "(I)I"⟩
def dkwX1_inside_1 : List UInt8 := [160, 0, 9, 28, 4, 29, 120, 128, 61, 132, 3, 1, 167, 255, 225, 28, 172]
abbrev dktX1_inside_1 : List UInt8 := dkwX1_inside_1 ++ []
def dkwX1_inside_0 : List UInt8 := [3, 61, 3, 62, 29, 42, 180, 0, 39, 162, 0, 29, 42, 29, 182, 0, 48, 180, 0, 74, 6, 46, 27]
abbrev dktX1_inside_0 : List UInt8 := dkwX1_inside_0 ++ dktX1_inside_1
theorem dksX1_inside_0 : cX1_inside.data.toList.drop 0 = dktX1_inside_0 := by decide +kernel
theorem dksX1_inside_1 : cX1_inside.data.toList.drop 23 = dktX1_inside_1 := dk_seg dksX1_inside_0 23 rfl rfl
theorem dX1_inside_0 : decode cX1_inside 0 = .ok (.iconst 0, 1) := dk_3 (dk_at dksX1_inside_0 0 rfl rfl)
theorem dX1_inside_1 : decode cX1_inside 1 = .ok (.istore_n 2, 1) := dk_61 (dk_at dksX1_inside_0 1 rfl rfl)
theorem dX1_inside_2 : decode cX1_inside 2 = .ok (.iconst 0, 1) := dk_3 (dk_at dksX1_inside_0 2 rfl rfl)
theorem dX1_inside_3 : decode cX1_inside 3 = .ok (.istore_n 3, 1) := dk_62 (dk_at dksX1_inside_0 3 rfl rfl)
theorem dX1_inside_4 : decode cX1_inside 4 = .ok (.iload_n 3, 1) := dk_29 (dk_at dksX1_inside_0 4 rfl rfl)
theorem dX1_inside_5 : decode cX1_inside 5 = .ok (.aload_n 0, 1) := dk_42 (dk_at dksX1_inside_0 5 rfl rfl)
theorem dX1_inside_6 : decode cX1_inside 6 = .ok (.getfield 39, 3) := dk_180 0 39 (dk_at dksX1_inside_0 6 rfl rfl)
theorem dX1_inside_9 : decode cX1_inside 9 = .ok (.if_icmp .ge 29, 3) := dk_162 0 29 (dk_at dksX1_inside_0 9 rfl rfl)
theorem dX1_inside_12 : decode cX1_inside 12 = .ok (.aload_n 0, 1) := dk_42 (dk_at dksX1_inside_0 12 rfl rfl)
theorem dX1_inside_13 : decode cX1_inside 13 = .ok (.iload_n 3, 1) := dk_29 (dk_at dksX1_inside_0 13 rfl rfl)
theorem dX1_inside_14 : decode cX1_inside 14 = .ok (.invokevirtual 48, 3) := dk_182 0 48 (dk_at dksX1_inside_0 14 rfl rfl)
theorem dX1_inside_17 : decode cX1_inside 17 = .ok (.getfield 74, 3) := dk_180 0 74 (dk_at dksX1_inside_0 17 rfl rfl)
theorem dX1_inside_20 : decode cX1_inside 20 = .ok (.iconst 3, 1) := dk_6 (dk_at dksX1_inside_0 20 rfl rfl)
theorem dX1_inside_21 : decode cX1_inside 21 = .ok (.iaload, 1) := dk_46 (dk_at dksX1_inside_0 21 rfl rfl)
theorem dX1_inside_22 : decode cX1_inside 22 = .ok (.iload_n 1, 1) := dk_27 (dk_at dksX1_inside_0 22 rfl rfl)
theorem dX1_inside_23 : decode cX1_inside 23 = .ok (.if_icmp .ne 9, 3) := dk_160 0 9 (dk_at dksX1_inside_1 0 rfl rfl)
theorem dX1_inside_26 : decode cX1_inside 26 = .ok (.iload_n 2, 1) := dk_28 (dk_at dksX1_inside_1 3 rfl rfl)
theorem dX1_inside_27 : decode cX1_inside 27 = .ok (.iconst 1, 1) := dk_4 (dk_at dksX1_inside_1 4 rfl rfl)
theorem dX1_inside_28 : decode cX1_inside 28 = .ok (.iload_n 3, 1) := dk_29 (dk_at dksX1_inside_1 5 rfl rfl)
theorem dX1_inside_29 : decode cX1_inside 29 = .ok (.ishl, 1) := dk_120 (dk_at dksX1_inside_1 6 rfl rfl)
theorem dX1_inside_30 : decode cX1_inside 30 = .ok (.ior, 1) := dk_128 (dk_at dksX1_inside_1 7 rfl rfl)
theorem dX1_inside_31 : decode cX1_inside 31 = .ok (.istore_n 2, 1) := dk_61 (dk_at dksX1_inside_1 8 rfl rfl)
theorem dX1_inside_32 : decode cX1_inside 32 = .ok (.iinc 3 1, 3) := dk_132 3 1 (dk_at dksX1_inside_1 9 rfl rfl)
theorem dX1_inside_35 : decode cX1_inside 35 = .ok (.goto (-31), 3) := dk_167 255 225 (dk_at dksX1_inside_1 12 rfl rfl)
theorem dX1_inside_38 : decode cX1_inside 38 = .ok (.iload_n 2, 1) := dk_28 (dk_at dksX1_inside_1 15 rfl rfl)
theorem dX1_inside_39 : decode cX1_inside 39 = .ok (.ireturn, 1) := dk_172 (dk_at dksX1_inside_1 16 rfl rfl)
abbrev cX1_rumour : ByteArray := prog_14_method_3_code
def yX1_rumour : MethodName := ⟨RX1, "rumour", "(I)LRumourBeds$Rumour;"⟩
def dkwX1_rumour_0 : List UInt8 := [42, 180, 0, 25, 27, 50, 180, 0, 65, 192, 0, 52, 176]
abbrev dktX1_rumour_0 : List UInt8 := dkwX1_rumour_0 ++ []
theorem dksX1_rumour_0 : cX1_rumour.data.toList.drop 0 = dktX1_rumour_0 := by decide +kernel
theorem dX1_rumour_0 : decode cX1_rumour 0 = .ok (.aload_n 0, 1) := dk_42 (dk_at dksX1_rumour_0 0 rfl rfl)
theorem dX1_rumour_1 : decode cX1_rumour 1 = .ok (.getfield 25, 3) := dk_180 0 25 (dk_at dksX1_rumour_0 1 rfl rfl)
theorem dX1_rumour_4 : decode cX1_rumour 4 = .ok (.iload_n 1, 1) := dk_27 (dk_at dksX1_rumour_0 4 rfl rfl)
theorem dX1_rumour_5 : decode cX1_rumour 5 = .ok (.aaload, 1) := dk_50 (dk_at dksX1_rumour_0 5 rfl rfl)
theorem dX1_rumour_6 : decode cX1_rumour 6 = .ok (.getfield 65, 3) := dk_180 0 65 (dk_at dksX1_rumour_0 6 rfl rfl)
theorem dX1_rumour_9 : decode cX1_rumour 9 = .ok (.checkcast 52, 3) := dk_192 0 52 (dk_at dksX1_rumour_0 9 rfl rfl)
theorem dX1_rumour_12 : decode cX1_rumour 12 = .ok (.areturn, 1) := dk_176 (dk_at dksX1_rumour_0 12 rfl rfl)
abbrev cX1_eaten : ByteArray := prog_14_method_22_code
def yX1_eaten : MethodName := ⟨RX1, "eaten", "(I)I"⟩
def dkwX1_eaten_1 : List UInt8 := [160, 0, 14, 28, 42, 29, 182, 0, 48, 182, 0, 116, 96, 61, 132, 3, 1, 167, 255, 220, 28, 172]
abbrev dktX1_eaten_1 : List UInt8 := dkwX1_eaten_1 ++ []
def dkwX1_eaten_0 : List UInt8 := [3, 61, 3, 62, 29, 42, 180, 0, 39, 162, 0, 34, 42, 29, 182, 0, 48, 180, 0, 74, 6, 46, 27]
abbrev dktX1_eaten_0 : List UInt8 := dkwX1_eaten_0 ++ dktX1_eaten_1
theorem dksX1_eaten_0 : cX1_eaten.data.toList.drop 0 = dktX1_eaten_0 := by decide +kernel
theorem dksX1_eaten_1 : cX1_eaten.data.toList.drop 23 = dktX1_eaten_1 := dk_seg dksX1_eaten_0 23 rfl rfl
theorem dX1_eaten_0 : decode cX1_eaten 0 = .ok (.iconst 0, 1) := dk_3 (dk_at dksX1_eaten_0 0 rfl rfl)
theorem dX1_eaten_1 : decode cX1_eaten 1 = .ok (.istore_n 2, 1) := dk_61 (dk_at dksX1_eaten_0 1 rfl rfl)
theorem dX1_eaten_2 : decode cX1_eaten 2 = .ok (.iconst 0, 1) := dk_3 (dk_at dksX1_eaten_0 2 rfl rfl)
theorem dX1_eaten_3 : decode cX1_eaten 3 = .ok (.istore_n 3, 1) := dk_62 (dk_at dksX1_eaten_0 3 rfl rfl)
theorem dX1_eaten_4 : decode cX1_eaten 4 = .ok (.iload_n 3, 1) := dk_29 (dk_at dksX1_eaten_0 4 rfl rfl)
theorem dX1_eaten_5 : decode cX1_eaten 5 = .ok (.aload_n 0, 1) := dk_42 (dk_at dksX1_eaten_0 5 rfl rfl)
theorem dX1_eaten_6 : decode cX1_eaten 6 = .ok (.getfield 39, 3) := dk_180 0 39 (dk_at dksX1_eaten_0 6 rfl rfl)
theorem dX1_eaten_9 : decode cX1_eaten 9 = .ok (.if_icmp .ge 34, 3) := dk_162 0 34 (dk_at dksX1_eaten_0 9 rfl rfl)
theorem dX1_eaten_12 : decode cX1_eaten 12 = .ok (.aload_n 0, 1) := dk_42 (dk_at dksX1_eaten_0 12 rfl rfl)
theorem dX1_eaten_13 : decode cX1_eaten 13 = .ok (.iload_n 3, 1) := dk_29 (dk_at dksX1_eaten_0 13 rfl rfl)
theorem dX1_eaten_14 : decode cX1_eaten 14 = .ok (.invokevirtual 48, 3) := dk_182 0 48 (dk_at dksX1_eaten_0 14 rfl rfl)
theorem dX1_eaten_17 : decode cX1_eaten 17 = .ok (.getfield 74, 3) := dk_180 0 74 (dk_at dksX1_eaten_0 17 rfl rfl)
theorem dX1_eaten_20 : decode cX1_eaten 20 = .ok (.iconst 3, 1) := dk_6 (dk_at dksX1_eaten_0 20 rfl rfl)
theorem dX1_eaten_21 : decode cX1_eaten 21 = .ok (.iaload, 1) := dk_46 (dk_at dksX1_eaten_0 21 rfl rfl)
theorem dX1_eaten_22 : decode cX1_eaten 22 = .ok (.iload_n 1, 1) := dk_27 (dk_at dksX1_eaten_0 22 rfl rfl)
theorem dX1_eaten_23 : decode cX1_eaten 23 = .ok (.if_icmp .ne 14, 3) := dk_160 0 14 (dk_at dksX1_eaten_1 0 rfl rfl)
theorem dX1_eaten_26 : decode cX1_eaten 26 = .ok (.iload_n 2, 1) := dk_28 (dk_at dksX1_eaten_1 3 rfl rfl)
theorem dX1_eaten_27 : decode cX1_eaten 27 = .ok (.aload_n 0, 1) := dk_42 (dk_at dksX1_eaten_1 4 rfl rfl)
theorem dX1_eaten_28 : decode cX1_eaten 28 = .ok (.iload_n 3, 1) := dk_29 (dk_at dksX1_eaten_1 5 rfl rfl)
theorem dX1_eaten_29 : decode cX1_eaten 29 = .ok (.invokevirtual 48, 3) := dk_182 0 48 (dk_at dksX1_eaten_1 6 rfl rfl)
theorem dX1_eaten_32 : decode cX1_eaten 32 = .ok (.invokevirtual 116, 3) := dk_182 0 116 (dk_at dksX1_eaten_1 9 rfl rfl)
theorem dX1_eaten_35 : decode cX1_eaten 35 = .ok (.iadd, 1) := dk_96 (dk_at dksX1_eaten_1 12 rfl rfl)
theorem dX1_eaten_36 : decode cX1_eaten 36 = .ok (.istore_n 2, 1) := dk_61 (dk_at dksX1_eaten_1 13 rfl rfl)
theorem dX1_eaten_37 : decode cX1_eaten 37 = .ok (.iinc 3 1, 3) := dk_132 3 1 (dk_at dksX1_eaten_1 14 rfl rfl)
theorem dX1_eaten_40 : decode cX1_eaten 40 = .ok (.goto (-36), 3) := dk_167 255 220 (dk_at dksX1_eaten_1 17 rfl rfl)
theorem dX1_eaten_43 : decode cX1_eaten 43 = .ok (.iload_n 2, 1) := dk_28 (dk_at dksX1_eaten_1 20 rfl rfl)
theorem dX1_eaten_44 : decode cX1_eaten 44 = .ok (.ireturn, 1) := dk_172 (dk_at dksX1_eaten_1 21 rfl rfl)
abbrev cX1_comes : ByteArray := prog_14_method_5_code
def yX1_comes : MethodName := ⟨RX1, "comes", "(III)LRumourBeds$Rumour;"⟩
def dkwX1_comes_2 : List UInt8 := [25, 4, 181, 0, 65, 42, 89, 180, 0, 39, 4, 96, 181, 0, 39, 25, 4, 176]
abbrev dktX1_comes_2 : List UInt8 := dkwX1_comes_2 ++ []
def dkwX1_comes_1 : List UInt8 := [25, 5, 4, 29, 79, 25, 5, 5, 3, 79, 25, 5, 6, 2, 79, 42, 180, 0, 25, 42, 180, 0, 39, 50]
abbrev dktX1_comes_1 : List UInt8 := dkwX1_comes_1 ++ dktX1_comes_2
def dkwX1_comes_0 : List UInt8 := [42, 42, 180, 0, 39, 27, 182, 0, 57, 58, 4, 25, 4, 180, 0, 74, 58, 5, 25, 5, 3, 28, 79]
abbrev dktX1_comes_0 : List UInt8 := dkwX1_comes_0 ++ dktX1_comes_1
theorem dksX1_comes_0 : cX1_comes.data.toList.drop 0 = dktX1_comes_0 := by decide +kernel
theorem dksX1_comes_1 : cX1_comes.data.toList.drop 23 = dktX1_comes_1 := dk_seg dksX1_comes_0 23 rfl rfl
theorem dksX1_comes_2 : cX1_comes.data.toList.drop 47 = dktX1_comes_2 := dk_seg dksX1_comes_1 24 rfl rfl
theorem dX1_comes_0 : decode cX1_comes 0 = .ok (.aload_n 0, 1) := dk_42 (dk_at dksX1_comes_0 0 rfl rfl)
theorem dX1_comes_1 : decode cX1_comes 1 = .ok (.aload_n 0, 1) := dk_42 (dk_at dksX1_comes_0 1 rfl rfl)
theorem dX1_comes_2 : decode cX1_comes 2 = .ok (.getfield 39, 3) := dk_180 0 39 (dk_at dksX1_comes_0 2 rfl rfl)
theorem dX1_comes_5 : decode cX1_comes 5 = .ok (.iload_n 1, 1) := dk_27 (dk_at dksX1_comes_0 5 rfl rfl)
theorem dX1_comes_6 : decode cX1_comes 6 = .ok (.invokevirtual 57, 3) := dk_182 0 57 (dk_at dksX1_comes_0 6 rfl rfl)
theorem dX1_comes_9 : decode cX1_comes 9 = .ok (.astore 4, 2) := dk_58 4 (dk_at dksX1_comes_0 9 rfl rfl)
theorem dX1_comes_11 : decode cX1_comes 11 = .ok (.aload 4, 2) := dk_25 4 (dk_at dksX1_comes_0 11 rfl rfl)
theorem dX1_comes_13 : decode cX1_comes 13 = .ok (.getfield 74, 3) := dk_180 0 74 (dk_at dksX1_comes_0 13 rfl rfl)
theorem dX1_comes_16 : decode cX1_comes 16 = .ok (.astore 5, 2) := dk_58 5 (dk_at dksX1_comes_0 16 rfl rfl)
theorem dX1_comes_18 : decode cX1_comes 18 = .ok (.aload 5, 2) := dk_25 5 (dk_at dksX1_comes_0 18 rfl rfl)
theorem dX1_comes_20 : decode cX1_comes 20 = .ok (.iconst 0, 1) := dk_3 (dk_at dksX1_comes_0 20 rfl rfl)
theorem dX1_comes_21 : decode cX1_comes 21 = .ok (.iload_n 2, 1) := dk_28 (dk_at dksX1_comes_0 21 rfl rfl)
theorem dX1_comes_22 : decode cX1_comes 22 = .ok (.iastore, 1) := dk_79 (dk_at dksX1_comes_0 22 rfl rfl)
theorem dX1_comes_23 : decode cX1_comes 23 = .ok (.aload 5, 2) := dk_25 5 (dk_at dksX1_comes_1 0 rfl rfl)
theorem dX1_comes_25 : decode cX1_comes 25 = .ok (.iconst 1, 1) := dk_4 (dk_at dksX1_comes_1 2 rfl rfl)
theorem dX1_comes_26 : decode cX1_comes 26 = .ok (.iload_n 3, 1) := dk_29 (dk_at dksX1_comes_1 3 rfl rfl)
theorem dX1_comes_27 : decode cX1_comes 27 = .ok (.iastore, 1) := dk_79 (dk_at dksX1_comes_1 4 rfl rfl)
theorem dX1_comes_28 : decode cX1_comes 28 = .ok (.aload 5, 2) := dk_25 5 (dk_at dksX1_comes_1 5 rfl rfl)
theorem dX1_comes_30 : decode cX1_comes 30 = .ok (.iconst 2, 1) := dk_5 (dk_at dksX1_comes_1 7 rfl rfl)
theorem dX1_comes_31 : decode cX1_comes 31 = .ok (.iconst 0, 1) := dk_3 (dk_at dksX1_comes_1 8 rfl rfl)
theorem dX1_comes_32 : decode cX1_comes 32 = .ok (.iastore, 1) := dk_79 (dk_at dksX1_comes_1 9 rfl rfl)
theorem dX1_comes_33 : decode cX1_comes 33 = .ok (.aload 5, 2) := dk_25 5 (dk_at dksX1_comes_1 10 rfl rfl)
theorem dX1_comes_35 : decode cX1_comes 35 = .ok (.iconst 3, 1) := dk_6 (dk_at dksX1_comes_1 12 rfl rfl)
theorem dX1_comes_36 : decode cX1_comes 36 = .ok (.iconst (-1), 1) := dk_2 (dk_at dksX1_comes_1 13 rfl rfl)
theorem dX1_comes_37 : decode cX1_comes 37 = .ok (.iastore, 1) := dk_79 (dk_at dksX1_comes_1 14 rfl rfl)
theorem dX1_comes_38 : decode cX1_comes 38 = .ok (.aload_n 0, 1) := dk_42 (dk_at dksX1_comes_1 15 rfl rfl)
theorem dX1_comes_39 : decode cX1_comes 39 = .ok (.getfield 25, 3) := dk_180 0 25 (dk_at dksX1_comes_1 16 rfl rfl)
theorem dX1_comes_42 : decode cX1_comes 42 = .ok (.aload_n 0, 1) := dk_42 (dk_at dksX1_comes_1 19 rfl rfl)
theorem dX1_comes_43 : decode cX1_comes 43 = .ok (.getfield 39, 3) := dk_180 0 39 (dk_at dksX1_comes_1 20 rfl rfl)
theorem dX1_comes_46 : decode cX1_comes 46 = .ok (.aaload, 1) := dk_50 (dk_at dksX1_comes_1 23 rfl rfl)
theorem dX1_comes_47 : decode cX1_comes 47 = .ok (.aload 4, 2) := dk_25 4 (dk_at dksX1_comes_2 0 rfl rfl)
theorem dX1_comes_49 : decode cX1_comes 49 = .ok (.putfield 65, 3) := dk_181 0 65 (dk_at dksX1_comes_2 2 rfl rfl)
theorem dX1_comes_52 : decode cX1_comes 52 = .ok (.aload_n 0, 1) := dk_42 (dk_at dksX1_comes_2 5 rfl rfl)
theorem dX1_comes_53 : decode cX1_comes 53 = .ok (.dup, 1) := dk_89 (dk_at dksX1_comes_2 6 rfl rfl)
theorem dX1_comes_54 : decode cX1_comes 54 = .ok (.getfield 39, 3) := dk_180 0 39 (dk_at dksX1_comes_2 7 rfl rfl)
theorem dX1_comes_57 : decode cX1_comes 57 = .ok (.iconst 1, 1) := dk_4 (dk_at dksX1_comes_2 10 rfl rfl)
theorem dX1_comes_58 : decode cX1_comes 58 = .ok (.iadd, 1) := dk_96 (dk_at dksX1_comes_2 11 rfl rfl)
theorem dX1_comes_59 : decode cX1_comes 59 = .ok (.putfield 39, 3) := dk_181 0 39 (dk_at dksX1_comes_2 12 rfl rfl)
theorem dX1_comes_62 : decode cX1_comes 62 = .ok (.aload 4, 2) := dk_25 4 (dk_at dksX1_comes_2 15 rfl rfl)
theorem dX1_comes_64 : decode cX1_comes 64 = .ok (.areturn, 1) := dk_176 (dk_at dksX1_comes_2 17 rfl rfl)
abbrev cX1_pooled : ByteArray := prog_14_method_4_code
def yX1_pooled : MethodName := ⟨RX1, "pooled", "(II)LRumourBeds$Rumour;"⟩
def dkwX1_pooled_1 : List UInt8 := [181, 0, 65, 45, 180, 0, 65, 192, 0, 52, 176]
abbrev dktX1_pooled_1 : List UInt8 := dkwX1_pooled_1 ++ []
def dkwX1_pooled_0 : List UInt8 := [42, 180, 0, 29, 16, 6, 27, 104, 28, 96, 50, 78, 45, 180, 0, 65, 199, 0, 11, 45, 28, 184, 0, 71]
abbrev dktX1_pooled_0 : List UInt8 := dkwX1_pooled_0 ++ dktX1_pooled_1
theorem dksX1_pooled_0 : cX1_pooled.data.toList.drop 0 = dktX1_pooled_0 := by decide +kernel
theorem dksX1_pooled_1 : cX1_pooled.data.toList.drop 24 = dktX1_pooled_1 := dk_seg dksX1_pooled_0 24 rfl rfl
theorem dX1_pooled_0 : decode cX1_pooled 0 = .ok (.aload_n 0, 1) := dk_42 (dk_at dksX1_pooled_0 0 rfl rfl)
theorem dX1_pooled_1 : decode cX1_pooled 1 = .ok (.getfield 29, 3) := dk_180 0 29 (dk_at dksX1_pooled_0 1 rfl rfl)
theorem dX1_pooled_4 : decode cX1_pooled 4 = .ok (.bipush 6, 2) := dk_16 6 (dk_at dksX1_pooled_0 4 rfl rfl)
theorem dX1_pooled_6 : decode cX1_pooled 6 = .ok (.iload_n 1, 1) := dk_27 (dk_at dksX1_pooled_0 6 rfl rfl)
theorem dX1_pooled_7 : decode cX1_pooled 7 = .ok (.imul, 1) := dk_104 (dk_at dksX1_pooled_0 7 rfl rfl)
theorem dX1_pooled_8 : decode cX1_pooled 8 = .ok (.iload_n 2, 1) := dk_28 (dk_at dksX1_pooled_0 8 rfl rfl)
theorem dX1_pooled_9 : decode cX1_pooled 9 = .ok (.iadd, 1) := dk_96 (dk_at dksX1_pooled_0 9 rfl rfl)
theorem dX1_pooled_10 : decode cX1_pooled 10 = .ok (.aaload, 1) := dk_50 (dk_at dksX1_pooled_0 10 rfl rfl)
theorem dX1_pooled_11 : decode cX1_pooled 11 = .ok (.astore_n 3, 1) := dk_78 (dk_at dksX1_pooled_0 11 rfl rfl)
theorem dX1_pooled_12 : decode cX1_pooled 12 = .ok (.aload_n 3, 1) := dk_45 (dk_at dksX1_pooled_0 12 rfl rfl)
theorem dX1_pooled_13 : decode cX1_pooled 13 = .ok (.getfield 65, 3) := dk_180 0 65 (dk_at dksX1_pooled_0 13 rfl rfl)
theorem dX1_pooled_16 : decode cX1_pooled 16 = .ok (.ifnonnull 11, 3) := dk_199 0 11 (dk_at dksX1_pooled_0 16 rfl rfl)
theorem dX1_pooled_19 : decode cX1_pooled 19 = .ok (.aload_n 3, 1) := dk_45 (dk_at dksX1_pooled_0 19 rfl rfl)
theorem dX1_pooled_20 : decode cX1_pooled 20 = .ok (.iload_n 2, 1) := dk_28 (dk_at dksX1_pooled_0 20 rfl rfl)
theorem dX1_pooled_21 : decode cX1_pooled 21 = .ok (.invokestatic 71, 3) := dk_184 0 71 (dk_at dksX1_pooled_0 21 rfl rfl)
theorem dX1_pooled_24 : decode cX1_pooled 24 = .ok (.putfield 65, 3) := dk_181 0 65 (dk_at dksX1_pooled_1 0 rfl rfl)
theorem dX1_pooled_27 : decode cX1_pooled 27 = .ok (.aload_n 3, 1) := dk_45 (dk_at dksX1_pooled_1 3 rfl rfl)
theorem dX1_pooled_28 : decode cX1_pooled 28 = .ok (.getfield 65, 3) := dk_180 0 65 (dk_at dksX1_pooled_1 4 rfl rfl)
theorem dX1_pooled_31 : decode cX1_pooled 31 = .ok (.checkcast 52, 3) := dk_192 0 52 (dk_at dksX1_pooled_1 7 rfl rfl)
theorem dX1_pooled_34 : decode cX1_pooled 34 = .ok (.areturn, 1) := dk_176 (dk_at dksX1_pooled_1 10 rfl rfl)
abbrev cX1_turns : ByteArray := prog_14_method_6_code
def yX1_turns : MethodName := ⟨RX1, "turns", "(II)V"⟩
def dkwX1_turns_1 : List UInt8 := [181, 0, 65, 177]
abbrev dktX1_turns_1 : List UInt8 := dkwX1_turns_1 ++ []
def dkwX1_turns_0 : List UInt8 := [42, 27, 28, 182, 0, 57, 78, 45, 42, 27, 182, 0, 48, 182, 0, 61, 42, 180, 0, 25, 27, 50, 45]
abbrev dktX1_turns_0 : List UInt8 := dkwX1_turns_0 ++ dktX1_turns_1
theorem dksX1_turns_0 : cX1_turns.data.toList.drop 0 = dktX1_turns_0 := by decide +kernel
theorem dksX1_turns_1 : cX1_turns.data.toList.drop 23 = dktX1_turns_1 := dk_seg dksX1_turns_0 23 rfl rfl
theorem dX1_turns_0 : decode cX1_turns 0 = .ok (.aload_n 0, 1) := dk_42 (dk_at dksX1_turns_0 0 rfl rfl)
theorem dX1_turns_1 : decode cX1_turns 1 = .ok (.iload_n 1, 1) := dk_27 (dk_at dksX1_turns_0 1 rfl rfl)
theorem dX1_turns_2 : decode cX1_turns 2 = .ok (.iload_n 2, 1) := dk_28 (dk_at dksX1_turns_0 2 rfl rfl)
theorem dX1_turns_3 : decode cX1_turns 3 = .ok (.invokevirtual 57, 3) := dk_182 0 57 (dk_at dksX1_turns_0 3 rfl rfl)
theorem dX1_turns_6 : decode cX1_turns 6 = .ok (.astore_n 3, 1) := dk_78 (dk_at dksX1_turns_0 6 rfl rfl)
theorem dX1_turns_7 : decode cX1_turns 7 = .ok (.aload_n 3, 1) := dk_45 (dk_at dksX1_turns_0 7 rfl rfl)
theorem dX1_turns_8 : decode cX1_turns 8 = .ok (.aload_n 0, 1) := dk_42 (dk_at dksX1_turns_0 8 rfl rfl)
theorem dX1_turns_9 : decode cX1_turns 9 = .ok (.iload_n 1, 1) := dk_27 (dk_at dksX1_turns_0 9 rfl rfl)
theorem dX1_turns_10 : decode cX1_turns 10 = .ok (.invokevirtual 48, 3) := dk_182 0 48 (dk_at dksX1_turns_0 10 rfl rfl)
theorem dX1_turns_13 : decode cX1_turns 13 = .ok (.invokevirtual 61, 3) := dk_182 0 61 (dk_at dksX1_turns_0 13 rfl rfl)
theorem dX1_turns_16 : decode cX1_turns 16 = .ok (.aload_n 0, 1) := dk_42 (dk_at dksX1_turns_0 16 rfl rfl)
theorem dX1_turns_17 : decode cX1_turns 17 = .ok (.getfield 25, 3) := dk_180 0 25 (dk_at dksX1_turns_0 17 rfl rfl)
theorem dX1_turns_20 : decode cX1_turns 20 = .ok (.iload_n 1, 1) := dk_27 (dk_at dksX1_turns_0 20 rfl rfl)
theorem dX1_turns_21 : decode cX1_turns 21 = .ok (.aaload, 1) := dk_50 (dk_at dksX1_turns_0 21 rfl rfl)
theorem dX1_turns_22 : decode cX1_turns 22 = .ok (.aload_n 3, 1) := dk_45 (dk_at dksX1_turns_0 22 rfl rfl)
theorem dX1_turns_23 : decode cX1_turns 23 = .ok (.putfield 65, 3) := dk_181 0 65 (dk_at dksX1_turns_1 0 rfl rfl)
theorem dX1_turns_26 : decode cX1_turns 26 = .ok (.return_, 1) := dk_177 (dk_at dksX1_turns_1 3 rfl rfl)
abbrev cX1_takes : ByteArray := prog_14_method_9_code
def yX1_takes : MethodName := ⟨RX1, "takes", "(ILRumourBeds$Rumour;)Z"⟩
def dkwX1_takes_1 : List UInt8 := [167, 0, 4, 3, 172]
abbrev dktX1_takes_1 : List UInt8 := dkwX1_takes_1 ++ []
def dkwX1_takes_0 : List UInt8 := [42, 27, 182, 0, 86, 153, 0, 20, 42, 180, 0, 18, 27, 46, 44, 182, 0, 90, 161, 0, 7, 4]
abbrev dktX1_takes_0 : List UInt8 := dkwX1_takes_0 ++ dktX1_takes_1
theorem dksX1_takes_0 : cX1_takes.data.toList.drop 0 = dktX1_takes_0 := by decide +kernel
theorem dksX1_takes_1 : cX1_takes.data.toList.drop 22 = dktX1_takes_1 := dk_seg dksX1_takes_0 22 rfl rfl
theorem dX1_takes_0 : decode cX1_takes 0 = .ok (.aload_n 0, 1) := dk_42 (dk_at dksX1_takes_0 0 rfl rfl)
theorem dX1_takes_1 : decode cX1_takes 1 = .ok (.iload_n 1, 1) := dk_27 (dk_at dksX1_takes_0 1 rfl rfl)
theorem dX1_takes_2 : decode cX1_takes 2 = .ok (.invokevirtual 86, 3) := dk_182 0 86 (dk_at dksX1_takes_0 2 rfl rfl)
theorem dX1_takes_5 : decode cX1_takes 5 = .ok (.ifCond .eq 20, 3) := dk_153 0 20 (dk_at dksX1_takes_0 5 rfl rfl)
theorem dX1_takes_8 : decode cX1_takes 8 = .ok (.aload_n 0, 1) := dk_42 (dk_at dksX1_takes_0 8 rfl rfl)
theorem dX1_takes_9 : decode cX1_takes 9 = .ok (.getfield 18, 3) := dk_180 0 18 (dk_at dksX1_takes_0 9 rfl rfl)
theorem dX1_takes_12 : decode cX1_takes 12 = .ok (.iload_n 1, 1) := dk_27 (dk_at dksX1_takes_0 12 rfl rfl)
theorem dX1_takes_13 : decode cX1_takes 13 = .ok (.iaload, 1) := dk_46 (dk_at dksX1_takes_0 13 rfl rfl)
theorem dX1_takes_14 : decode cX1_takes 14 = .ok (.aload_n 2, 1) := dk_44 (dk_at dksX1_takes_0 14 rfl rfl)
theorem dX1_takes_15 : decode cX1_takes 15 = .ok (.invokevirtual 90, 3) := dk_182 0 90 (dk_at dksX1_takes_0 15 rfl rfl)
theorem dX1_takes_18 : decode cX1_takes 18 = .ok (.if_icmp .lt 7, 3) := dk_161 0 7 (dk_at dksX1_takes_0 18 rfl rfl)
theorem dX1_takes_21 : decode cX1_takes 21 = .ok (.iconst 1, 1) := dk_4 (dk_at dksX1_takes_0 21 rfl rfl)
theorem dX1_takes_22 : decode cX1_takes 22 = .ok (.goto 4, 3) := dk_167 0 4 (dk_at dksX1_takes_1 0 rfl rfl)
theorem dX1_takes_25 : decode cX1_takes 25 = .ok (.iconst 0, 1) := dk_3 (dk_at dksX1_takes_1 3 rfl rfl)
theorem dX1_takes_26 : decode cX1_takes 26 = .ok (.ireturn, 1) := dk_172 (dk_at dksX1_takes_1 4 rfl rfl)
abbrev cX1_hasBed : ByteArray := prog_14_method_8_code
def yX1_hasBed : MethodName := ⟨RX1, "hasBed", "(I)Z"⟩
def dkwX1_hasBed_0 : List UInt8 := [42, 27, 182, 0, 77, 184, 0, 81, 42, 180, 0, 9, 27, 46, 162, 0, 7, 4, 167, 0, 4, 3, 172]
abbrev dktX1_hasBed_0 : List UInt8 := dkwX1_hasBed_0 ++ []
theorem dksX1_hasBed_0 : cX1_hasBed.data.toList.drop 0 = dktX1_hasBed_0 := by decide +kernel
theorem dX1_hasBed_0 : decode cX1_hasBed 0 = .ok (.aload_n 0, 1) := dk_42 (dk_at dksX1_hasBed_0 0 rfl rfl)
theorem dX1_hasBed_1 : decode cX1_hasBed 1 = .ok (.iload_n 1, 1) := dk_27 (dk_at dksX1_hasBed_0 1 rfl rfl)
theorem dX1_hasBed_2 : decode cX1_hasBed 2 = .ok (.invokevirtual 77, 3) := dk_182 0 77 (dk_at dksX1_hasBed_0 2 rfl rfl)
theorem dX1_hasBed_5 : decode cX1_hasBed 5 = .ok (.invokestatic 81, 3) := dk_184 0 81 (dk_at dksX1_hasBed_0 5 rfl rfl)
theorem dX1_hasBed_8 : decode cX1_hasBed 8 = .ok (.aload_n 0, 1) := dk_42 (dk_at dksX1_hasBed_0 8 rfl rfl)
theorem dX1_hasBed_9 : decode cX1_hasBed 9 = .ok (.getfield 9, 3) := dk_180 0 9 (dk_at dksX1_hasBed_0 9 rfl rfl)
theorem dX1_hasBed_12 : decode cX1_hasBed 12 = .ok (.iload_n 1, 1) := dk_27 (dk_at dksX1_hasBed_0 12 rfl rfl)
theorem dX1_hasBed_13 : decode cX1_hasBed 13 = .ok (.iaload, 1) := dk_46 (dk_at dksX1_hasBed_0 13 rfl rfl)
theorem dX1_hasBed_14 : decode cX1_hasBed 14 = .ok (.if_icmp .ge 7, 3) := dk_162 0 7 (dk_at dksX1_hasBed_0 14 rfl rfl)
theorem dX1_hasBed_17 : decode cX1_hasBed 17 = .ok (.iconst 1, 1) := dk_4 (dk_at dksX1_hasBed_0 17 rfl rfl)
theorem dX1_hasBed_18 : decode cX1_hasBed 18 = .ok (.goto 4, 3) := dk_167 0 4 (dk_at dksX1_hasBed_0 18 rfl rfl)
theorem dX1_hasBed_21 : decode cX1_hasBed 21 = .ok (.iconst 0, 1) := dk_3 (dk_at dksX1_hasBed_0 21 rfl rfl)
theorem dX1_hasBed_22 : decode cX1_hasBed 22 = .ok (.ireturn, 1) := dk_172 (dk_at dksX1_hasBed_0 22 rfl rfl)
abbrev cX1_isTrue : ByteArray := prog_14_method_10_code
def yX1_isTrue : MethodName := ⟨RX1, "isTrue", "(I)Z"⟩
def dkwX1_isTrue_0 : List UInt8 := [42, 180, 0, 36, 27, 184, 0, 93, 172]
abbrev dktX1_isTrue_0 : List UInt8 := dkwX1_isTrue_0 ++ []
theorem dksX1_isTrue_0 : cX1_isTrue.data.toList.drop 0 = dktX1_isTrue_0 := by decide +kernel
theorem dX1_isTrue_0 : decode cX1_isTrue 0 = .ok (.aload_n 0, 1) := dk_42 (dk_at dksX1_isTrue_0 0 rfl rfl)
theorem dX1_isTrue_1 : decode cX1_isTrue 1 = .ok (.getfield 36, 3) := dk_180 0 36 (dk_at dksX1_isTrue_0 1 rfl rfl)
theorem dX1_isTrue_4 : decode cX1_isTrue 4 = .ok (.iload_n 1, 1) := dk_27 (dk_at dksX1_isTrue_0 4 rfl rfl)
theorem dX1_isTrue_5 : decode cX1_isTrue 5 = .ok (.invokestatic 93, 3) := dk_184 0 93 (dk_at dksX1_isTrue_0 5 rfl rfl)
theorem dX1_isTrue_8 : decode cX1_isTrue 8 = .ok (.ireturn, 1) := dk_172 (dk_at dksX1_isTrue_0 8 rfl rfl)
abbrev cX1_comesIn : ByteArray := prog_14_method_12_code
def yX1_comesIn : MethodName := ⟨RX1, "comesIn", "(LRumourBeds$Rumour;)V"⟩
def dkwX1_comesIn_0 : List UInt8 := [43, 180, 0, 74, 6, 42, 43, 182, 0, 104, 79, 177]
abbrev dktX1_comesIn_0 : List UInt8 := dkwX1_comesIn_0 ++ []
theorem dksX1_comesIn_0 : cX1_comesIn.data.toList.drop 0 = dktX1_comesIn_0 := by decide +kernel
theorem dX1_comesIn_0 : decode cX1_comesIn 0 = .ok (.aload_n 1, 1) := dk_43 (dk_at dksX1_comesIn_0 0 rfl rfl)
theorem dX1_comesIn_1 : decode cX1_comesIn 1 = .ok (.getfield 74, 3) := dk_180 0 74 (dk_at dksX1_comesIn_0 1 rfl rfl)
theorem dX1_comesIn_4 : decode cX1_comesIn 4 = .ok (.iconst 3, 1) := dk_6 (dk_at dksX1_comesIn_0 4 rfl rfl)
theorem dX1_comesIn_5 : decode cX1_comesIn 5 = .ok (.aload_n 0, 1) := dk_42 (dk_at dksX1_comesIn_0 5 rfl rfl)
theorem dX1_comesIn_6 : decode cX1_comesIn 6 = .ok (.aload_n 1, 1) := dk_43 (dk_at dksX1_comesIn_0 6 rfl rfl)
theorem dX1_comesIn_7 : decode cX1_comesIn 7 = .ok (.invokevirtual 104, 3) := dk_182 0 104 (dk_at dksX1_comesIn_0 7 rfl rfl)
theorem dX1_comesIn_10 : decode cX1_comesIn 10 = .ok (.iastore, 1) := dk_79 (dk_at dksX1_comesIn_0 10 rfl rfl)
theorem dX1_comesIn_11 : decode cX1_comesIn 11 = .ok (.return_, 1) := dk_177 (dk_at dksX1_comesIn_0 11 rfl rfl)
abbrev cX1_host : ByteArray := prog_14_method_11_code
def yX1_host : MethodName := ⟨RX1, "host", "(LRumourBeds$Rumour;)I"⟩
def dkwX1_host_2 : List UInt8 := [164, 0, 5, 29, 61, 132, 3, 1, 167, 255, 204, 28, 172]
abbrev dktX1_host_2 : List UInt8 := dkwX1_host_2 ++ []
def dkwX1_host_1 : List UInt8 := [29, 43, 182, 0, 100, 153, 0, 24, 28, 155, 0, 18, 42, 180, 0, 18, 29, 46, 42, 180, 0, 18, 28, 46]
abbrev dktX1_host_1 : List UInt8 := dkwX1_host_1 ++ dktX1_host_2
def dkwX1_host_0 : List UInt8 := [2, 61, 3, 62, 29, 16, 8, 162, 0, 52, 42, 43, 180, 0, 74, 3, 46, 182, 0, 97, 154, 0, 39, 42]
abbrev dktX1_host_0 : List UInt8 := dkwX1_host_0 ++ dktX1_host_1
theorem dksX1_host_0 : cX1_host.data.toList.drop 0 = dktX1_host_0 := by decide +kernel
theorem dksX1_host_1 : cX1_host.data.toList.drop 24 = dktX1_host_1 := dk_seg dksX1_host_0 24 rfl rfl
theorem dksX1_host_2 : cX1_host.data.toList.drop 48 = dktX1_host_2 := dk_seg dksX1_host_1 24 rfl rfl
theorem dX1_host_0 : decode cX1_host 0 = .ok (.iconst (-1), 1) := dk_2 (dk_at dksX1_host_0 0 rfl rfl)
theorem dX1_host_1 : decode cX1_host 1 = .ok (.istore_n 2, 1) := dk_61 (dk_at dksX1_host_0 1 rfl rfl)
theorem dX1_host_2 : decode cX1_host 2 = .ok (.iconst 0, 1) := dk_3 (dk_at dksX1_host_0 2 rfl rfl)
theorem dX1_host_3 : decode cX1_host 3 = .ok (.istore_n 3, 1) := dk_62 (dk_at dksX1_host_0 3 rfl rfl)
theorem dX1_host_4 : decode cX1_host 4 = .ok (.iload_n 3, 1) := dk_29 (dk_at dksX1_host_0 4 rfl rfl)
theorem dX1_host_5 : decode cX1_host 5 = .ok (.bipush 8, 2) := dk_16 8 (dk_at dksX1_host_0 5 rfl rfl)
theorem dX1_host_7 : decode cX1_host 7 = .ok (.if_icmp .ge 52, 3) := dk_162 0 52 (dk_at dksX1_host_0 7 rfl rfl)
theorem dX1_host_10 : decode cX1_host 10 = .ok (.aload_n 0, 1) := dk_42 (dk_at dksX1_host_0 10 rfl rfl)
theorem dX1_host_11 : decode cX1_host 11 = .ok (.aload_n 1, 1) := dk_43 (dk_at dksX1_host_0 11 rfl rfl)
theorem dX1_host_12 : decode cX1_host 12 = .ok (.getfield 74, 3) := dk_180 0 74 (dk_at dksX1_host_0 12 rfl rfl)
theorem dX1_host_15 : decode cX1_host 15 = .ok (.iconst 0, 1) := dk_3 (dk_at dksX1_host_0 15 rfl rfl)
theorem dX1_host_16 : decode cX1_host 16 = .ok (.iaload, 1) := dk_46 (dk_at dksX1_host_0 16 rfl rfl)
theorem dX1_host_17 : decode cX1_host 17 = .ok (.invokevirtual 97, 3) := dk_182 0 97 (dk_at dksX1_host_0 17 rfl rfl)
theorem dX1_host_20 : decode cX1_host 20 = .ok (.ifCond .ne 39, 3) := dk_154 0 39 (dk_at dksX1_host_0 20 rfl rfl)
theorem dX1_host_23 : decode cX1_host 23 = .ok (.aload_n 0, 1) := dk_42 (dk_at dksX1_host_0 23 rfl rfl)
theorem dX1_host_24 : decode cX1_host 24 = .ok (.iload_n 3, 1) := dk_29 (dk_at dksX1_host_1 0 rfl rfl)
theorem dX1_host_25 : decode cX1_host 25 = .ok (.aload_n 1, 1) := dk_43 (dk_at dksX1_host_1 1 rfl rfl)
theorem dX1_host_26 : decode cX1_host 26 = .ok (.invokevirtual 100, 3) := dk_182 0 100 (dk_at dksX1_host_1 2 rfl rfl)
theorem dX1_host_29 : decode cX1_host 29 = .ok (.ifCond .eq 24, 3) := dk_153 0 24 (dk_at dksX1_host_1 5 rfl rfl)
theorem dX1_host_32 : decode cX1_host 32 = .ok (.iload_n 2, 1) := dk_28 (dk_at dksX1_host_1 8 rfl rfl)
theorem dX1_host_33 : decode cX1_host 33 = .ok (.ifCond .lt 18, 3) := dk_155 0 18 (dk_at dksX1_host_1 9 rfl rfl)
theorem dX1_host_36 : decode cX1_host 36 = .ok (.aload_n 0, 1) := dk_42 (dk_at dksX1_host_1 12 rfl rfl)
theorem dX1_host_37 : decode cX1_host 37 = .ok (.getfield 18, 3) := dk_180 0 18 (dk_at dksX1_host_1 13 rfl rfl)
theorem dX1_host_40 : decode cX1_host 40 = .ok (.iload_n 3, 1) := dk_29 (dk_at dksX1_host_1 16 rfl rfl)
theorem dX1_host_41 : decode cX1_host 41 = .ok (.iaload, 1) := dk_46 (dk_at dksX1_host_1 17 rfl rfl)
theorem dX1_host_42 : decode cX1_host 42 = .ok (.aload_n 0, 1) := dk_42 (dk_at dksX1_host_1 18 rfl rfl)
theorem dX1_host_43 : decode cX1_host 43 = .ok (.getfield 18, 3) := dk_180 0 18 (dk_at dksX1_host_1 19 rfl rfl)
theorem dX1_host_46 : decode cX1_host 46 = .ok (.iload_n 2, 1) := dk_28 (dk_at dksX1_host_1 22 rfl rfl)
theorem dX1_host_47 : decode cX1_host 47 = .ok (.iaload, 1) := dk_46 (dk_at dksX1_host_1 23 rfl rfl)
theorem dX1_host_48 : decode cX1_host 48 = .ok (.if_icmp .le 5, 3) := dk_164 0 5 (dk_at dksX1_host_2 0 rfl rfl)
theorem dX1_host_51 : decode cX1_host 51 = .ok (.iload_n 3, 1) := dk_29 (dk_at dksX1_host_2 3 rfl rfl)
theorem dX1_host_52 : decode cX1_host 52 = .ok (.istore_n 2, 1) := dk_61 (dk_at dksX1_host_2 4 rfl rfl)
theorem dX1_host_53 : decode cX1_host 53 = .ok (.iinc 3 1, 3) := dk_132 3 1 (dk_at dksX1_host_2 5 rfl rfl)
theorem dX1_host_56 : decode cX1_host 56 = .ok (.goto (-52), 3) := dk_167 255 204 (dk_at dksX1_host_2 8 rfl rfl)
theorem dX1_host_59 : decode cX1_host 59 = .ok (.iload_n 2, 1) := dk_28 (dk_at dksX1_host_2 11 rfl rfl)
theorem dX1_host_60 : decode cX1_host 60 = .ok (.ireturn, 1) := dk_172 (dk_at dksX1_host_2 12 rfl rfl)
abbrev cX1_improves : ByteArray := prog_14_method_13_code
def yX1_improves : MethodName := ⟨RX1, "improves", "(LRumourBeds$Rumour;I)V"⟩
def dkwX1_improves_2 : List UInt8 := [180, 0, 74, 6, 21, 5, 79, 177, 132, 4, 1, 167, 255, 215, 177]
abbrev dktX1_improves_2 : List UInt8 := dkwX1_improves_2 ++ []
def dkwX1_improves_1 : List UInt8 := [21, 4, 96, 16, 8, 112, 54, 5, 42, 21, 5, 43, 182, 0, 100, 154, 0, 6, 167, 0, 12, 43]
abbrev dktX1_improves_1 : List UInt8 := dkwX1_improves_1 ++ dktX1_improves_2
def dkwX1_improves_0 : List UInt8 := [43, 28, 182, 0, 108, 43, 180, 0, 74, 6, 46, 62, 4, 54, 4, 21, 4, 16, 8, 162, 0, 40, 29]
abbrev dktX1_improves_0 : List UInt8 := dkwX1_improves_0 ++ dktX1_improves_1
theorem dksX1_improves_0 : cX1_improves.data.toList.drop 0 = dktX1_improves_0 := by decide +kernel
theorem dksX1_improves_1 : cX1_improves.data.toList.drop 23 = dktX1_improves_1 := dk_seg dksX1_improves_0 23 rfl rfl
theorem dksX1_improves_2 : cX1_improves.data.toList.drop 45 = dktX1_improves_2 := dk_seg dksX1_improves_1 22 rfl rfl
theorem dX1_improves_0 : decode cX1_improves 0 = .ok (.aload_n 1, 1) := dk_43 (dk_at dksX1_improves_0 0 rfl rfl)
theorem dX1_improves_1 : decode cX1_improves 1 = .ok (.iload_n 2, 1) := dk_28 (dk_at dksX1_improves_0 1 rfl rfl)
theorem dX1_improves_2 : decode cX1_improves 2 = .ok (.invokevirtual 108, 3) := dk_182 0 108 (dk_at dksX1_improves_0 2 rfl rfl)
theorem dX1_improves_5 : decode cX1_improves 5 = .ok (.aload_n 1, 1) := dk_43 (dk_at dksX1_improves_0 5 rfl rfl)
theorem dX1_improves_6 : decode cX1_improves 6 = .ok (.getfield 74, 3) := dk_180 0 74 (dk_at dksX1_improves_0 6 rfl rfl)
theorem dX1_improves_9 : decode cX1_improves 9 = .ok (.iconst 3, 1) := dk_6 (dk_at dksX1_improves_0 9 rfl rfl)
theorem dX1_improves_10 : decode cX1_improves 10 = .ok (.iaload, 1) := dk_46 (dk_at dksX1_improves_0 10 rfl rfl)
theorem dX1_improves_11 : decode cX1_improves 11 = .ok (.istore_n 3, 1) := dk_62 (dk_at dksX1_improves_0 11 rfl rfl)
theorem dX1_improves_12 : decode cX1_improves 12 = .ok (.iconst 1, 1) := dk_4 (dk_at dksX1_improves_0 12 rfl rfl)
theorem dX1_improves_13 : decode cX1_improves 13 = .ok (.istore 4, 2) := dk_54 4 (dk_at dksX1_improves_0 13 rfl rfl)
theorem dX1_improves_15 : decode cX1_improves 15 = .ok (.iload 4, 2) := dk_21 4 (dk_at dksX1_improves_0 15 rfl rfl)
theorem dX1_improves_17 : decode cX1_improves 17 = .ok (.bipush 8, 2) := dk_16 8 (dk_at dksX1_improves_0 17 rfl rfl)
theorem dX1_improves_19 : decode cX1_improves 19 = .ok (.if_icmp .ge 40, 3) := dk_162 0 40 (dk_at dksX1_improves_0 19 rfl rfl)
theorem dX1_improves_22 : decode cX1_improves 22 = .ok (.iload_n 3, 1) := dk_29 (dk_at dksX1_improves_0 22 rfl rfl)
theorem dX1_improves_23 : decode cX1_improves 23 = .ok (.iload 4, 2) := dk_21 4 (dk_at dksX1_improves_1 0 rfl rfl)
theorem dX1_improves_25 : decode cX1_improves 25 = .ok (.iadd, 1) := dk_96 (dk_at dksX1_improves_1 2 rfl rfl)
theorem dX1_improves_26 : decode cX1_improves 26 = .ok (.bipush 8, 2) := dk_16 8 (dk_at dksX1_improves_1 3 rfl rfl)
theorem dX1_improves_28 : decode cX1_improves 28 = .ok (.irem, 1) := dk_112 (dk_at dksX1_improves_1 5 rfl rfl)
theorem dX1_improves_29 : decode cX1_improves 29 = .ok (.istore 5, 2) := dk_54 5 (dk_at dksX1_improves_1 6 rfl rfl)
theorem dX1_improves_31 : decode cX1_improves 31 = .ok (.aload_n 0, 1) := dk_42 (dk_at dksX1_improves_1 8 rfl rfl)
theorem dX1_improves_32 : decode cX1_improves 32 = .ok (.iload 5, 2) := dk_21 5 (dk_at dksX1_improves_1 9 rfl rfl)
theorem dX1_improves_34 : decode cX1_improves 34 = .ok (.aload_n 1, 1) := dk_43 (dk_at dksX1_improves_1 11 rfl rfl)
theorem dX1_improves_35 : decode cX1_improves 35 = .ok (.invokevirtual 100, 3) := dk_182 0 100 (dk_at dksX1_improves_1 12 rfl rfl)
theorem dX1_improves_38 : decode cX1_improves 38 = .ok (.ifCond .ne 6, 3) := dk_154 0 6 (dk_at dksX1_improves_1 15 rfl rfl)
theorem dX1_improves_41 : decode cX1_improves 41 = .ok (.goto 12, 3) := dk_167 0 12 (dk_at dksX1_improves_1 18 rfl rfl)
theorem dX1_improves_44 : decode cX1_improves 44 = .ok (.aload_n 1, 1) := dk_43 (dk_at dksX1_improves_1 21 rfl rfl)
theorem dX1_improves_45 : decode cX1_improves 45 = .ok (.getfield 74, 3) := dk_180 0 74 (dk_at dksX1_improves_2 0 rfl rfl)
theorem dX1_improves_48 : decode cX1_improves 48 = .ok (.iconst 3, 1) := dk_6 (dk_at dksX1_improves_2 3 rfl rfl)
theorem dX1_improves_49 : decode cX1_improves 49 = .ok (.iload 5, 2) := dk_21 5 (dk_at dksX1_improves_2 4 rfl rfl)
theorem dX1_improves_51 : decode cX1_improves 51 = .ok (.iastore, 1) := dk_79 (dk_at dksX1_improves_2 6 rfl rfl)
theorem dX1_improves_52 : decode cX1_improves 52 = .ok (.return_, 1) := dk_177 (dk_at dksX1_improves_2 7 rfl rfl)
theorem dX1_improves_53 : decode cX1_improves 53 = .ok (.iinc 4 1, 3) := dk_132 4 1 (dk_at dksX1_improves_2 8 rfl rfl)
theorem dX1_improves_56 : decode cX1_improves 56 = .ok (.goto (-41), 3) := dk_167 255 215 (dk_at dksX1_improves_2 11 rfl rfl)
theorem dX1_improves_59 : decode cX1_improves 59 = .ok (.return_, 1) := dk_177 (dk_at dksX1_improves_2 14 rfl rfl)
abbrev cX1_comesTrue : ByteArray := prog_14_method_14_code
def yX1_comesTrue : MethodName := ⟨RX1, "comesTrue", "(I)I"⟩
def dkwX1_comesTrue_2 : List UInt8 := [79, 132, 2, 1, 132, 3, 1, 167, 255, 205, 42, 89, 180, 0, 36, 4, 27, 120, 128, 181, 0, 36, 28, 172]
abbrev dktX1_comesTrue_2 : List UInt8 := dkwX1_comesTrue_2 ++ []
def dkwX1_comesTrue_1 : List UInt8 := [3, 46, 27, 160, 0, 25, 25, 4, 182, 0, 112, 154, 0, 6, 167, 0, 14, 25, 4, 180, 0, 74, 6, 2]
abbrev dktX1_comesTrue_1 : List UInt8 := dkwX1_comesTrue_1 ++ dktX1_comesTrue_2
def dkwX1_comesTrue_0 : List UInt8 := [3, 61, 3, 62, 29, 42, 180, 0, 39, 162, 0, 49, 42, 29, 182, 0, 48, 58, 4, 25, 4, 180, 0, 74]
abbrev dktX1_comesTrue_0 : List UInt8 := dkwX1_comesTrue_0 ++ dktX1_comesTrue_1
theorem dksX1_comesTrue_0 : cX1_comesTrue.data.toList.drop 0 = dktX1_comesTrue_0 := by decide +kernel
theorem dksX1_comesTrue_1 : cX1_comesTrue.data.toList.drop 24 = dktX1_comesTrue_1 := dk_seg dksX1_comesTrue_0 24 rfl rfl
theorem dksX1_comesTrue_2 : cX1_comesTrue.data.toList.drop 48 = dktX1_comesTrue_2 := dk_seg dksX1_comesTrue_1 24 rfl rfl
theorem dX1_comesTrue_0 : decode cX1_comesTrue 0 = .ok (.iconst 0, 1) := dk_3 (dk_at dksX1_comesTrue_0 0 rfl rfl)
theorem dX1_comesTrue_1 : decode cX1_comesTrue 1 = .ok (.istore_n 2, 1) := dk_61 (dk_at dksX1_comesTrue_0 1 rfl rfl)
theorem dX1_comesTrue_2 : decode cX1_comesTrue 2 = .ok (.iconst 0, 1) := dk_3 (dk_at dksX1_comesTrue_0 2 rfl rfl)
theorem dX1_comesTrue_3 : decode cX1_comesTrue 3 = .ok (.istore_n 3, 1) := dk_62 (dk_at dksX1_comesTrue_0 3 rfl rfl)
theorem dX1_comesTrue_4 : decode cX1_comesTrue 4 = .ok (.iload_n 3, 1) := dk_29 (dk_at dksX1_comesTrue_0 4 rfl rfl)
theorem dX1_comesTrue_5 : decode cX1_comesTrue 5 = .ok (.aload_n 0, 1) := dk_42 (dk_at dksX1_comesTrue_0 5 rfl rfl)
theorem dX1_comesTrue_6 : decode cX1_comesTrue 6 = .ok (.getfield 39, 3) := dk_180 0 39 (dk_at dksX1_comesTrue_0 6 rfl rfl)
theorem dX1_comesTrue_9 : decode cX1_comesTrue 9 = .ok (.if_icmp .ge 49, 3) := dk_162 0 49 (dk_at dksX1_comesTrue_0 9 rfl rfl)
theorem dX1_comesTrue_12 : decode cX1_comesTrue 12 = .ok (.aload_n 0, 1) := dk_42 (dk_at dksX1_comesTrue_0 12 rfl rfl)
theorem dX1_comesTrue_13 : decode cX1_comesTrue 13 = .ok (.iload_n 3, 1) := dk_29 (dk_at dksX1_comesTrue_0 13 rfl rfl)
theorem dX1_comesTrue_14 : decode cX1_comesTrue 14 = .ok (.invokevirtual 48, 3) := dk_182 0 48 (dk_at dksX1_comesTrue_0 14 rfl rfl)
theorem dX1_comesTrue_17 : decode cX1_comesTrue 17 = .ok (.astore 4, 2) := dk_58 4 (dk_at dksX1_comesTrue_0 17 rfl rfl)
theorem dX1_comesTrue_19 : decode cX1_comesTrue 19 = .ok (.aload 4, 2) := dk_25 4 (dk_at dksX1_comesTrue_0 19 rfl rfl)
theorem dX1_comesTrue_21 : decode cX1_comesTrue 21 = .ok (.getfield 74, 3) := dk_180 0 74 (dk_at dksX1_comesTrue_0 21 rfl rfl)
theorem dX1_comesTrue_24 : decode cX1_comesTrue 24 = .ok (.iconst 0, 1) := dk_3 (dk_at dksX1_comesTrue_1 0 rfl rfl)
theorem dX1_comesTrue_25 : decode cX1_comesTrue 25 = .ok (.iaload, 1) := dk_46 (dk_at dksX1_comesTrue_1 1 rfl rfl)
theorem dX1_comesTrue_26 : decode cX1_comesTrue 26 = .ok (.iload_n 1, 1) := dk_27 (dk_at dksX1_comesTrue_1 2 rfl rfl)
theorem dX1_comesTrue_27 : decode cX1_comesTrue 27 = .ok (.if_icmp .ne 25, 3) := dk_160 0 25 (dk_at dksX1_comesTrue_1 3 rfl rfl)
theorem dX1_comesTrue_30 : decode cX1_comesTrue 30 = .ok (.aload 4, 2) := dk_25 4 (dk_at dksX1_comesTrue_1 6 rfl rfl)
theorem dX1_comesTrue_32 : decode cX1_comesTrue 32 = .ok (.invokevirtual 112, 3) := dk_182 0 112 (dk_at dksX1_comesTrue_1 8 rfl rfl)
theorem dX1_comesTrue_35 : decode cX1_comesTrue 35 = .ok (.ifCond .ne 6, 3) := dk_154 0 6 (dk_at dksX1_comesTrue_1 11 rfl rfl)
theorem dX1_comesTrue_38 : decode cX1_comesTrue 38 = .ok (.goto 14, 3) := dk_167 0 14 (dk_at dksX1_comesTrue_1 14 rfl rfl)
theorem dX1_comesTrue_41 : decode cX1_comesTrue 41 = .ok (.aload 4, 2) := dk_25 4 (dk_at dksX1_comesTrue_1 17 rfl rfl)
theorem dX1_comesTrue_43 : decode cX1_comesTrue 43 = .ok (.getfield 74, 3) := dk_180 0 74 (dk_at dksX1_comesTrue_1 19 rfl rfl)
theorem dX1_comesTrue_46 : decode cX1_comesTrue 46 = .ok (.iconst 3, 1) := dk_6 (dk_at dksX1_comesTrue_1 22 rfl rfl)
theorem dX1_comesTrue_47 : decode cX1_comesTrue 47 = .ok (.iconst (-1), 1) := dk_2 (dk_at dksX1_comesTrue_1 23 rfl rfl)
theorem dX1_comesTrue_48 : decode cX1_comesTrue 48 = .ok (.iastore, 1) := dk_79 (dk_at dksX1_comesTrue_2 0 rfl rfl)
theorem dX1_comesTrue_49 : decode cX1_comesTrue 49 = .ok (.iinc 2 1, 3) := dk_132 2 1 (dk_at dksX1_comesTrue_2 1 rfl rfl)
theorem dX1_comesTrue_52 : decode cX1_comesTrue 52 = .ok (.iinc 3 1, 3) := dk_132 3 1 (dk_at dksX1_comesTrue_2 4 rfl rfl)
theorem dX1_comesTrue_55 : decode cX1_comesTrue 55 = .ok (.goto (-51), 3) := dk_167 255 205 (dk_at dksX1_comesTrue_2 7 rfl rfl)
theorem dX1_comesTrue_58 : decode cX1_comesTrue 58 = .ok (.aload_n 0, 1) := dk_42 (dk_at dksX1_comesTrue_2 10 rfl rfl)
theorem dX1_comesTrue_59 : decode cX1_comesTrue 59 = .ok (.dup, 1) := dk_89 (dk_at dksX1_comesTrue_2 11 rfl rfl)
theorem dX1_comesTrue_60 : decode cX1_comesTrue 60 = .ok (.getfield 36, 3) := dk_180 0 36 (dk_at dksX1_comesTrue_2 12 rfl rfl)
theorem dX1_comesTrue_63 : decode cX1_comesTrue 63 = .ok (.iconst 1, 1) := dk_4 (dk_at dksX1_comesTrue_2 15 rfl rfl)
theorem dX1_comesTrue_64 : decode cX1_comesTrue 64 = .ok (.iload_n 1, 1) := dk_27 (dk_at dksX1_comesTrue_2 16 rfl rfl)
theorem dX1_comesTrue_65 : decode cX1_comesTrue 65 = .ok (.ishl, 1) := dk_120 (dk_at dksX1_comesTrue_2 17 rfl rfl)
theorem dX1_comesTrue_66 : decode cX1_comesTrue 66 = .ok (.ior, 1) := dk_128 (dk_at dksX1_comesTrue_2 18 rfl rfl)
theorem dX1_comesTrue_67 : decode cX1_comesTrue 67 = .ok (.putfield 36, 3) := dk_181 0 36 (dk_at dksX1_comesTrue_2 19 rfl rfl)
theorem dX1_comesTrue_70 : decode cX1_comesTrue 70 = .ok (.iload_n 2, 1) := dk_28 (dk_at dksX1_comesTrue_2 22 rfl rfl)
theorem dX1_comesTrue_71 : decode cX1_comesTrue 71 = .ok (.ireturn, 1) := dk_172 (dk_at dksX1_comesTrue_2 23 rfl rfl)
abbrev cX1_days : ByteArray := prog_14_method_20_code
def yX1_days : MethodName := ⟨RX1, "days", "(I)V"⟩
def dkwX1_days_0 : List UInt8 := [3, 61, 28, 27, 162, 0, 13, 42, 182, 0, 153, 132, 2, 1, 167, 255, 244, 177]
abbrev dktX1_days_0 : List UInt8 := dkwX1_days_0 ++ []
theorem dksX1_days_0 : cX1_days.data.toList.drop 0 = dktX1_days_0 := by decide +kernel
theorem dX1_days_0 : decode cX1_days 0 = .ok (.iconst 0, 1) := dk_3 (dk_at dksX1_days_0 0 rfl rfl)
theorem dX1_days_1 : decode cX1_days 1 = .ok (.istore_n 2, 1) := dk_61 (dk_at dksX1_days_0 1 rfl rfl)
theorem dX1_days_2 : decode cX1_days 2 = .ok (.iload_n 2, 1) := dk_28 (dk_at dksX1_days_0 2 rfl rfl)
theorem dX1_days_3 : decode cX1_days 3 = .ok (.iload_n 1, 1) := dk_27 (dk_at dksX1_days_0 3 rfl rfl)
theorem dX1_days_4 : decode cX1_days 4 = .ok (.if_icmp .ge 13, 3) := dk_162 0 13 (dk_at dksX1_days_0 4 rfl rfl)
theorem dX1_days_7 : decode cX1_days 7 = .ok (.aload_n 0, 1) := dk_42 (dk_at dksX1_days_0 7 rfl rfl)
theorem dX1_days_8 : decode cX1_days 8 = .ok (.invokevirtual 153, 3) := dk_182 0 153 (dk_at dksX1_days_0 8 rfl rfl)
theorem dX1_days_11 : decode cX1_days 11 = .ok (.iinc 2 1, 3) := dk_132 2 1 (dk_at dksX1_days_0 11 rfl rfl)
theorem dX1_days_14 : decode cX1_days 14 = .ok (.goto (-12), 3) := dk_167 255 244 (dk_at dksX1_days_0 14 rfl rfl)
theorem dX1_days_17 : decode cX1_days 17 = .ok (.return_, 1) := dk_177 (dk_at dksX1_days_0 17 rfl rfl)
abbrev cX1_aDay : ByteArray := prog_14_method_19_code
def yX1_aDay : MethodName := ⟨RX1, "aDay", "()V"⟩
def dkwX1_aDay_5 : List UInt8 := [181, 0, 32, 177]
abbrev dktX1_aDay_5 : List UInt8 := dkwX1_aDay_5 ++ []
def dkwX1_aDay_4 : List UInt8 := [42, 42, 27, 182, 0, 48, 182, 0, 150, 132, 1, 1, 167, 255, 225, 42, 89, 180, 0, 32, 4, 96]
abbrev dktX1_aDay_4 : List UInt8 := dkwX1_aDay_4 ++ dktX1_aDay_5
def dkwX1_aDay_3 : List UInt8 := [167, 255, 242, 3, 60, 27, 42, 180, 0, 39, 162, 0, 29, 42, 27, 182, 0, 48, 182, 0, 112, 154, 0, 12]
abbrev dktX1_aDay_3 : List UInt8 := dkwX1_aDay_3 ++ dktX1_aDay_4
def dkwX1_aDay_2 : List UInt8 := [132, 1, 1, 167, 255, 207, 3, 60, 27, 16, 8, 162, 0, 14, 42, 27, 182, 0, 147, 132, 1, 1]
abbrev dktX1_aDay_2 : List UInt8 := dkwX1_aDay_2 ++ dktX1_aDay_3
def dkwX1_aDay_1 : List UInt8 := [44, 182, 0, 141, 44, 180, 0, 74, 5, 17, 3, 231, 44, 180, 0, 74, 5, 46, 4, 96, 184, 0, 144, 79]
abbrev dktX1_aDay_1 : List UInt8 := dkwX1_aDay_1 ++ dktX1_aDay_2
def dkwX1_aDay_0 : List UInt8 := [3, 60, 27, 42, 180, 0, 39, 162, 0, 47, 42, 27, 182, 0, 48, 77, 44, 182, 0, 112, 153, 0, 8, 42]
abbrev dktX1_aDay_0 : List UInt8 := dkwX1_aDay_0 ++ dktX1_aDay_1
theorem dksX1_aDay_0 : cX1_aDay.data.toList.drop 0 = dktX1_aDay_0 := by decide +kernel
theorem dksX1_aDay_1 : cX1_aDay.data.toList.drop 24 = dktX1_aDay_1 := dk_seg dksX1_aDay_0 24 rfl rfl
theorem dksX1_aDay_2 : cX1_aDay.data.toList.drop 48 = dktX1_aDay_2 := dk_seg dksX1_aDay_1 24 rfl rfl
theorem dksX1_aDay_3 : cX1_aDay.data.toList.drop 70 = dktX1_aDay_3 := dk_seg dksX1_aDay_2 22 rfl rfl
theorem dksX1_aDay_4 : cX1_aDay.data.toList.drop 94 = dktX1_aDay_4 := dk_seg dksX1_aDay_3 24 rfl rfl
theorem dksX1_aDay_5 : cX1_aDay.data.toList.drop 116 = dktX1_aDay_5 := dk_seg dksX1_aDay_4 22 rfl rfl
theorem dX1_aDay_0 : decode cX1_aDay 0 = .ok (.iconst 0, 1) := dk_3 (dk_at dksX1_aDay_0 0 rfl rfl)
theorem dX1_aDay_1 : decode cX1_aDay 1 = .ok (.istore_n 1, 1) := dk_60 (dk_at dksX1_aDay_0 1 rfl rfl)
theorem dX1_aDay_2 : decode cX1_aDay 2 = .ok (.iload_n 1, 1) := dk_27 (dk_at dksX1_aDay_0 2 rfl rfl)
theorem dX1_aDay_3 : decode cX1_aDay 3 = .ok (.aload_n 0, 1) := dk_42 (dk_at dksX1_aDay_0 3 rfl rfl)
theorem dX1_aDay_4 : decode cX1_aDay 4 = .ok (.getfield 39, 3) := dk_180 0 39 (dk_at dksX1_aDay_0 4 rfl rfl)
theorem dX1_aDay_7 : decode cX1_aDay 7 = .ok (.if_icmp .ge 47, 3) := dk_162 0 47 (dk_at dksX1_aDay_0 7 rfl rfl)
theorem dX1_aDay_10 : decode cX1_aDay 10 = .ok (.aload_n 0, 1) := dk_42 (dk_at dksX1_aDay_0 10 rfl rfl)
theorem dX1_aDay_11 : decode cX1_aDay 11 = .ok (.iload_n 1, 1) := dk_27 (dk_at dksX1_aDay_0 11 rfl rfl)
theorem dX1_aDay_12 : decode cX1_aDay 12 = .ok (.invokevirtual 48, 3) := dk_182 0 48 (dk_at dksX1_aDay_0 12 rfl rfl)
theorem dX1_aDay_15 : decode cX1_aDay 15 = .ok (.astore_n 2, 1) := dk_77 (dk_at dksX1_aDay_0 15 rfl rfl)
theorem dX1_aDay_16 : decode cX1_aDay 16 = .ok (.aload_n 2, 1) := dk_44 (dk_at dksX1_aDay_0 16 rfl rfl)
theorem dX1_aDay_17 : decode cX1_aDay 17 = .ok (.invokevirtual 112, 3) := dk_182 0 112 (dk_at dksX1_aDay_0 17 rfl rfl)
theorem dX1_aDay_20 : decode cX1_aDay 20 = .ok (.ifCond .eq 8, 3) := dk_153 0 8 (dk_at dksX1_aDay_0 20 rfl rfl)
theorem dX1_aDay_23 : decode cX1_aDay 23 = .ok (.aload_n 0, 1) := dk_42 (dk_at dksX1_aDay_0 23 rfl rfl)
theorem dX1_aDay_24 : decode cX1_aDay 24 = .ok (.aload_n 2, 1) := dk_44 (dk_at dksX1_aDay_1 0 rfl rfl)
theorem dX1_aDay_25 : decode cX1_aDay 25 = .ok (.invokevirtual 141, 3) := dk_182 0 141 (dk_at dksX1_aDay_1 1 rfl rfl)
theorem dX1_aDay_28 : decode cX1_aDay 28 = .ok (.aload_n 2, 1) := dk_44 (dk_at dksX1_aDay_1 4 rfl rfl)
theorem dX1_aDay_29 : decode cX1_aDay 29 = .ok (.getfield 74, 3) := dk_180 0 74 (dk_at dksX1_aDay_1 5 rfl rfl)
theorem dX1_aDay_32 : decode cX1_aDay 32 = .ok (.iconst 2, 1) := dk_5 (dk_at dksX1_aDay_1 8 rfl rfl)
theorem dX1_aDay_33 : decode cX1_aDay 33 = .ok (.sipush 999, 3) := dk_17 3 231 (dk_at dksX1_aDay_1 9 rfl rfl)
theorem dX1_aDay_36 : decode cX1_aDay 36 = .ok (.aload_n 2, 1) := dk_44 (dk_at dksX1_aDay_1 12 rfl rfl)
theorem dX1_aDay_37 : decode cX1_aDay 37 = .ok (.getfield 74, 3) := dk_180 0 74 (dk_at dksX1_aDay_1 13 rfl rfl)
theorem dX1_aDay_40 : decode cX1_aDay 40 = .ok (.iconst 2, 1) := dk_5 (dk_at dksX1_aDay_1 16 rfl rfl)
theorem dX1_aDay_41 : decode cX1_aDay 41 = .ok (.iaload, 1) := dk_46 (dk_at dksX1_aDay_1 17 rfl rfl)
theorem dX1_aDay_42 : decode cX1_aDay 42 = .ok (.iconst 1, 1) := dk_4 (dk_at dksX1_aDay_1 18 rfl rfl)
theorem dX1_aDay_43 : decode cX1_aDay 43 = .ok (.iadd, 1) := dk_96 (dk_at dksX1_aDay_1 19 rfl rfl)
theorem dX1_aDay_44 : decode cX1_aDay 44 = .ok (.invokestatic 144, 3) := dk_184 0 144 (dk_at dksX1_aDay_1 20 rfl rfl)
theorem dX1_aDay_47 : decode cX1_aDay 47 = .ok (.iastore, 1) := dk_79 (dk_at dksX1_aDay_1 23 rfl rfl)
theorem dX1_aDay_48 : decode cX1_aDay 48 = .ok (.iinc 1 1, 3) := dk_132 1 1 (dk_at dksX1_aDay_2 0 rfl rfl)
theorem dX1_aDay_51 : decode cX1_aDay 51 = .ok (.goto (-49), 3) := dk_167 255 207 (dk_at dksX1_aDay_2 3 rfl rfl)
theorem dX1_aDay_54 : decode cX1_aDay 54 = .ok (.iconst 0, 1) := dk_3 (dk_at dksX1_aDay_2 6 rfl rfl)
theorem dX1_aDay_55 : decode cX1_aDay 55 = .ok (.istore_n 1, 1) := dk_60 (dk_at dksX1_aDay_2 7 rfl rfl)
theorem dX1_aDay_56 : decode cX1_aDay 56 = .ok (.iload_n 1, 1) := dk_27 (dk_at dksX1_aDay_2 8 rfl rfl)
theorem dX1_aDay_57 : decode cX1_aDay 57 = .ok (.bipush 8, 2) := dk_16 8 (dk_at dksX1_aDay_2 9 rfl rfl)
theorem dX1_aDay_59 : decode cX1_aDay 59 = .ok (.if_icmp .ge 14, 3) := dk_162 0 14 (dk_at dksX1_aDay_2 11 rfl rfl)
theorem dX1_aDay_62 : decode cX1_aDay 62 = .ok (.aload_n 0, 1) := dk_42 (dk_at dksX1_aDay_2 14 rfl rfl)
theorem dX1_aDay_63 : decode cX1_aDay 63 = .ok (.iload_n 1, 1) := dk_27 (dk_at dksX1_aDay_2 15 rfl rfl)
theorem dX1_aDay_64 : decode cX1_aDay 64 = .ok (.invokevirtual 147, 3) := dk_182 0 147 (dk_at dksX1_aDay_2 16 rfl rfl)
theorem dX1_aDay_67 : decode cX1_aDay 67 = .ok (.iinc 1 1, 3) := dk_132 1 1 (dk_at dksX1_aDay_2 19 rfl rfl)
theorem dX1_aDay_70 : decode cX1_aDay 70 = .ok (.goto (-14), 3) := dk_167 255 242 (dk_at dksX1_aDay_3 0 rfl rfl)
theorem dX1_aDay_73 : decode cX1_aDay 73 = .ok (.iconst 0, 1) := dk_3 (dk_at dksX1_aDay_3 3 rfl rfl)
theorem dX1_aDay_74 : decode cX1_aDay 74 = .ok (.istore_n 1, 1) := dk_60 (dk_at dksX1_aDay_3 4 rfl rfl)
theorem dX1_aDay_75 : decode cX1_aDay 75 = .ok (.iload_n 1, 1) := dk_27 (dk_at dksX1_aDay_3 5 rfl rfl)
theorem dX1_aDay_76 : decode cX1_aDay 76 = .ok (.aload_n 0, 1) := dk_42 (dk_at dksX1_aDay_3 6 rfl rfl)
theorem dX1_aDay_77 : decode cX1_aDay 77 = .ok (.getfield 39, 3) := dk_180 0 39 (dk_at dksX1_aDay_3 7 rfl rfl)
theorem dX1_aDay_80 : decode cX1_aDay 80 = .ok (.if_icmp .ge 29, 3) := dk_162 0 29 (dk_at dksX1_aDay_3 10 rfl rfl)
theorem dX1_aDay_83 : decode cX1_aDay 83 = .ok (.aload_n 0, 1) := dk_42 (dk_at dksX1_aDay_3 13 rfl rfl)
theorem dX1_aDay_84 : decode cX1_aDay 84 = .ok (.iload_n 1, 1) := dk_27 (dk_at dksX1_aDay_3 14 rfl rfl)
theorem dX1_aDay_85 : decode cX1_aDay 85 = .ok (.invokevirtual 48, 3) := dk_182 0 48 (dk_at dksX1_aDay_3 15 rfl rfl)
theorem dX1_aDay_88 : decode cX1_aDay 88 = .ok (.invokevirtual 112, 3) := dk_182 0 112 (dk_at dksX1_aDay_3 18 rfl rfl)
theorem dX1_aDay_91 : decode cX1_aDay 91 = .ok (.ifCond .ne 12, 3) := dk_154 0 12 (dk_at dksX1_aDay_3 21 rfl rfl)
theorem dX1_aDay_94 : decode cX1_aDay 94 = .ok (.aload_n 0, 1) := dk_42 (dk_at dksX1_aDay_4 0 rfl rfl)
theorem dX1_aDay_95 : decode cX1_aDay 95 = .ok (.aload_n 0, 1) := dk_42 (dk_at dksX1_aDay_4 1 rfl rfl)
theorem dX1_aDay_96 : decode cX1_aDay 96 = .ok (.iload_n 1, 1) := dk_27 (dk_at dksX1_aDay_4 2 rfl rfl)
theorem dX1_aDay_97 : decode cX1_aDay 97 = .ok (.invokevirtual 48, 3) := dk_182 0 48 (dk_at dksX1_aDay_4 3 rfl rfl)
theorem dX1_aDay_100 : decode cX1_aDay 100 = .ok (.invokevirtual 150, 3) := dk_182 0 150 (dk_at dksX1_aDay_4 6 rfl rfl)
theorem dX1_aDay_103 : decode cX1_aDay 103 = .ok (.iinc 1 1, 3) := dk_132 1 1 (dk_at dksX1_aDay_4 9 rfl rfl)
theorem dX1_aDay_106 : decode cX1_aDay 106 = .ok (.goto (-31), 3) := dk_167 255 225 (dk_at dksX1_aDay_4 12 rfl rfl)
theorem dX1_aDay_109 : decode cX1_aDay 109 = .ok (.aload_n 0, 1) := dk_42 (dk_at dksX1_aDay_4 15 rfl rfl)
theorem dX1_aDay_110 : decode cX1_aDay 110 = .ok (.dup, 1) := dk_89 (dk_at dksX1_aDay_4 16 rfl rfl)
theorem dX1_aDay_111 : decode cX1_aDay 111 = .ok (.getfield 32, 3) := dk_180 0 32 (dk_at dksX1_aDay_4 17 rfl rfl)
theorem dX1_aDay_114 : decode cX1_aDay 114 = .ok (.iconst 1, 1) := dk_4 (dk_at dksX1_aDay_4 20 rfl rfl)
theorem dX1_aDay_115 : decode cX1_aDay 115 = .ok (.iadd, 1) := dk_96 (dk_at dksX1_aDay_4 21 rfl rfl)
theorem dX1_aDay_116 : decode cX1_aDay 116 = .ok (.putfield 32, 3) := dk_181 0 32 (dk_at dksX1_aDay_5 0 rfl rfl)
theorem dX1_aDay_119 : decode cX1_aDay 119 = .ok (.return_, 1) := dk_177 (dk_at dksX1_aDay_5 3 rfl rfl)
abbrev cX1_lodges : ByteArray := prog_14_method_15_code
def yX1_lodges : MethodName := ⟨RX1, "lodges", "(LRumourBeds$Rumour;)V"⟩
def dkwX1_lodges_2 : List UInt8 := [182, 0, 125, 182, 0, 108, 177]
abbrev dktX1_lodges_2 : List UInt8 := dkwX1_lodges_2 ++ []
def dkwX1_lodges_1 : List UInt8 := [3, 29, 184, 0, 119, 79, 29, 156, 0, 13, 43, 180, 0, 74, 6, 2, 79, 167, 0, 11, 43, 43]
abbrev dktX1_lodges_1 : List UInt8 := dkwX1_lodges_1 ++ dktX1_lodges_2
def dkwX1_lodges_0 : List UInt8 := [43, 180, 0, 74, 6, 46, 61, 42, 180, 0, 15, 28, 46, 43, 182, 0, 116, 100, 62, 42, 180, 0, 15, 28]
abbrev dktX1_lodges_0 : List UInt8 := dkwX1_lodges_0 ++ dktX1_lodges_1
theorem dksX1_lodges_0 : cX1_lodges.data.toList.drop 0 = dktX1_lodges_0 := by decide +kernel
theorem dksX1_lodges_1 : cX1_lodges.data.toList.drop 24 = dktX1_lodges_1 := dk_seg dksX1_lodges_0 24 rfl rfl
theorem dksX1_lodges_2 : cX1_lodges.data.toList.drop 46 = dktX1_lodges_2 := dk_seg dksX1_lodges_1 22 rfl rfl
theorem dX1_lodges_0 : decode cX1_lodges 0 = .ok (.aload_n 1, 1) := dk_43 (dk_at dksX1_lodges_0 0 rfl rfl)
theorem dX1_lodges_1 : decode cX1_lodges 1 = .ok (.getfield 74, 3) := dk_180 0 74 (dk_at dksX1_lodges_0 1 rfl rfl)
theorem dX1_lodges_4 : decode cX1_lodges 4 = .ok (.iconst 3, 1) := dk_6 (dk_at dksX1_lodges_0 4 rfl rfl)
theorem dX1_lodges_5 : decode cX1_lodges 5 = .ok (.iaload, 1) := dk_46 (dk_at dksX1_lodges_0 5 rfl rfl)
theorem dX1_lodges_6 : decode cX1_lodges 6 = .ok (.istore_n 2, 1) := dk_61 (dk_at dksX1_lodges_0 6 rfl rfl)
theorem dX1_lodges_7 : decode cX1_lodges 7 = .ok (.aload_n 0, 1) := dk_42 (dk_at dksX1_lodges_0 7 rfl rfl)
theorem dX1_lodges_8 : decode cX1_lodges 8 = .ok (.getfield 15, 3) := dk_180 0 15 (dk_at dksX1_lodges_0 8 rfl rfl)
theorem dX1_lodges_11 : decode cX1_lodges 11 = .ok (.iload_n 2, 1) := dk_28 (dk_at dksX1_lodges_0 11 rfl rfl)
theorem dX1_lodges_12 : decode cX1_lodges 12 = .ok (.iaload, 1) := dk_46 (dk_at dksX1_lodges_0 12 rfl rfl)
theorem dX1_lodges_13 : decode cX1_lodges 13 = .ok (.aload_n 1, 1) := dk_43 (dk_at dksX1_lodges_0 13 rfl rfl)
theorem dX1_lodges_14 : decode cX1_lodges 14 = .ok (.invokevirtual 116, 3) := dk_182 0 116 (dk_at dksX1_lodges_0 14 rfl rfl)
theorem dX1_lodges_17 : decode cX1_lodges 17 = .ok (.isub, 1) := dk_100 (dk_at dksX1_lodges_0 17 rfl rfl)
theorem dX1_lodges_18 : decode cX1_lodges 18 = .ok (.istore_n 3, 1) := dk_62 (dk_at dksX1_lodges_0 18 rfl rfl)
theorem dX1_lodges_19 : decode cX1_lodges 19 = .ok (.aload_n 0, 1) := dk_42 (dk_at dksX1_lodges_0 19 rfl rfl)
theorem dX1_lodges_20 : decode cX1_lodges 20 = .ok (.getfield 15, 3) := dk_180 0 15 (dk_at dksX1_lodges_0 20 rfl rfl)
theorem dX1_lodges_23 : decode cX1_lodges 23 = .ok (.iload_n 2, 1) := dk_28 (dk_at dksX1_lodges_0 23 rfl rfl)
theorem dX1_lodges_24 : decode cX1_lodges 24 = .ok (.iconst 0, 1) := dk_3 (dk_at dksX1_lodges_1 0 rfl rfl)
theorem dX1_lodges_25 : decode cX1_lodges 25 = .ok (.iload_n 3, 1) := dk_29 (dk_at dksX1_lodges_1 1 rfl rfl)
theorem dX1_lodges_26 : decode cX1_lodges 26 = .ok (.invokestatic 119, 3) := dk_184 0 119 (dk_at dksX1_lodges_1 2 rfl rfl)
theorem dX1_lodges_29 : decode cX1_lodges 29 = .ok (.iastore, 1) := dk_79 (dk_at dksX1_lodges_1 5 rfl rfl)
theorem dX1_lodges_30 : decode cX1_lodges 30 = .ok (.iload_n 3, 1) := dk_29 (dk_at dksX1_lodges_1 6 rfl rfl)
theorem dX1_lodges_31 : decode cX1_lodges 31 = .ok (.ifCond .ge 13, 3) := dk_156 0 13 (dk_at dksX1_lodges_1 7 rfl rfl)
theorem dX1_lodges_34 : decode cX1_lodges 34 = .ok (.aload_n 1, 1) := dk_43 (dk_at dksX1_lodges_1 10 rfl rfl)
theorem dX1_lodges_35 : decode cX1_lodges 35 = .ok (.getfield 74, 3) := dk_180 0 74 (dk_at dksX1_lodges_1 11 rfl rfl)
theorem dX1_lodges_38 : decode cX1_lodges 38 = .ok (.iconst 3, 1) := dk_6 (dk_at dksX1_lodges_1 14 rfl rfl)
theorem dX1_lodges_39 : decode cX1_lodges 39 = .ok (.iconst (-1), 1) := dk_2 (dk_at dksX1_lodges_1 15 rfl rfl)
theorem dX1_lodges_40 : decode cX1_lodges 40 = .ok (.iastore, 1) := dk_79 (dk_at dksX1_lodges_1 16 rfl rfl)
theorem dX1_lodges_41 : decode cX1_lodges 41 = .ok (.goto 11, 3) := dk_167 0 11 (dk_at dksX1_lodges_1 17 rfl rfl)
theorem dX1_lodges_44 : decode cX1_lodges 44 = .ok (.aload_n 1, 1) := dk_43 (dk_at dksX1_lodges_1 20 rfl rfl)
theorem dX1_lodges_45 : decode cX1_lodges 45 = .ok (.aload_n 1, 1) := dk_43 (dk_at dksX1_lodges_1 21 rfl rfl)
theorem dX1_lodges_46 : decode cX1_lodges 46 = .ok (.invokevirtual 125, 3) := dk_182 0 125 (dk_at dksX1_lodges_2 0 rfl rfl)
theorem dX1_lodges_49 : decode cX1_lodges 49 = .ok (.invokevirtual 108, 3) := dk_182 0 108 (dk_at dksX1_lodges_2 3 rfl rfl)
theorem dX1_lodges_52 : decode cX1_lodges 52 = .ok (.return_, 1) := dk_177 (dk_at dksX1_lodges_2 6 rfl rfl)
abbrev cX1_third : ByteArray := prog_14_method_17_code
def yX1_third : MethodName := ⟨RX1, "third", "(I)V"⟩
def dkwX1_third_3 : List UInt8 := [177]
abbrev dktX1_third_3 : List UInt8 := dkwX1_third_3 ++ []
def dkwX1_third_2 : List UInt8 := [16, 10, 162, 0, 15, 42, 3, 28, 42, 29, 182, 0, 131, 182, 0, 134, 87, 177, 132, 2, 1, 167, 255, 190]
abbrev dktX1_third_2 : List UInt8 := dkwX1_third_2 ++ dktX1_third_3
def dkwX1_third_1 : List UInt8 := [162, 0, 6, 167, 0, 38, 42, 42, 2, 182, 0, 77, 28, 182, 0, 128, 154, 0, 24, 42, 180, 0, 39]
abbrev dktX1_third_1 : List UInt8 := dkwX1_third_1 ++ dktX1_third_2
def dkwX1_third_0 : List UInt8 := [3, 61, 28, 16, 16, 162, 0, 66, 42, 42, 27, 182, 0, 77, 28, 182, 0, 128, 62, 29, 184, 0, 81, 5]
abbrev dktX1_third_0 : List UInt8 := dkwX1_third_0 ++ dktX1_third_1
theorem dksX1_third_0 : cX1_third.data.toList.drop 0 = dktX1_third_0 := by decide +kernel
theorem dksX1_third_1 : cX1_third.data.toList.drop 24 = dktX1_third_1 := dk_seg dksX1_third_0 24 rfl rfl
theorem dksX1_third_2 : cX1_third.data.toList.drop 47 = dktX1_third_2 := dk_seg dksX1_third_1 23 rfl rfl
theorem dksX1_third_3 : cX1_third.data.toList.drop 71 = dktX1_third_3 := dk_seg dksX1_third_2 24 rfl rfl
theorem dX1_third_0 : decode cX1_third 0 = .ok (.iconst 0, 1) := dk_3 (dk_at dksX1_third_0 0 rfl rfl)
theorem dX1_third_1 : decode cX1_third 1 = .ok (.istore_n 2, 1) := dk_61 (dk_at dksX1_third_0 1 rfl rfl)
theorem dX1_third_2 : decode cX1_third 2 = .ok (.iload_n 2, 1) := dk_28 (dk_at dksX1_third_0 2 rfl rfl)
theorem dX1_third_3 : decode cX1_third 3 = .ok (.bipush 16, 2) := dk_16 16 (dk_at dksX1_third_0 3 rfl rfl)
theorem dX1_third_5 : decode cX1_third 5 = .ok (.if_icmp .ge 66, 3) := dk_162 0 66 (dk_at dksX1_third_0 5 rfl rfl)
theorem dX1_third_8 : decode cX1_third 8 = .ok (.aload_n 0, 1) := dk_42 (dk_at dksX1_third_0 8 rfl rfl)
theorem dX1_third_9 : decode cX1_third 9 = .ok (.aload_n 0, 1) := dk_42 (dk_at dksX1_third_0 9 rfl rfl)
theorem dX1_third_10 : decode cX1_third 10 = .ok (.iload_n 1, 1) := dk_27 (dk_at dksX1_third_0 10 rfl rfl)
theorem dX1_third_11 : decode cX1_third 11 = .ok (.invokevirtual 77, 3) := dk_182 0 77 (dk_at dksX1_third_0 11 rfl rfl)
theorem dX1_third_14 : decode cX1_third 14 = .ok (.iload_n 2, 1) := dk_28 (dk_at dksX1_third_0 14 rfl rfl)
theorem dX1_third_15 : decode cX1_third 15 = .ok (.invokevirtual 128, 3) := dk_182 0 128 (dk_at dksX1_third_0 15 rfl rfl)
theorem dX1_third_18 : decode cX1_third 18 = .ok (.istore_n 3, 1) := dk_62 (dk_at dksX1_third_0 18 rfl rfl)
theorem dX1_third_19 : decode cX1_third 19 = .ok (.iload_n 3, 1) := dk_29 (dk_at dksX1_third_0 19 rfl rfl)
theorem dX1_third_20 : decode cX1_third 20 = .ok (.invokestatic 81, 3) := dk_184 0 81 (dk_at dksX1_third_0 20 rfl rfl)
theorem dX1_third_23 : decode cX1_third 23 = .ok (.iconst 2, 1) := dk_5 (dk_at dksX1_third_0 23 rfl rfl)
theorem dX1_third_24 : decode cX1_third 24 = .ok (.if_icmp .ge 6, 3) := dk_162 0 6 (dk_at dksX1_third_1 0 rfl rfl)
theorem dX1_third_27 : decode cX1_third 27 = .ok (.goto 38, 3) := dk_167 0 38 (dk_at dksX1_third_1 3 rfl rfl)
theorem dX1_third_30 : decode cX1_third 30 = .ok (.aload_n 0, 1) := dk_42 (dk_at dksX1_third_1 6 rfl rfl)
theorem dX1_third_31 : decode cX1_third 31 = .ok (.aload_n 0, 1) := dk_42 (dk_at dksX1_third_1 7 rfl rfl)
theorem dX1_third_32 : decode cX1_third 32 = .ok (.iconst (-1), 1) := dk_2 (dk_at dksX1_third_1 8 rfl rfl)
theorem dX1_third_33 : decode cX1_third 33 = .ok (.invokevirtual 77, 3) := dk_182 0 77 (dk_at dksX1_third_1 9 rfl rfl)
theorem dX1_third_36 : decode cX1_third 36 = .ok (.iload_n 2, 1) := dk_28 (dk_at dksX1_third_1 12 rfl rfl)
theorem dX1_third_37 : decode cX1_third 37 = .ok (.invokevirtual 128, 3) := dk_182 0 128 (dk_at dksX1_third_1 13 rfl rfl)
theorem dX1_third_40 : decode cX1_third 40 = .ok (.ifCond .ne 24, 3) := dk_154 0 24 (dk_at dksX1_third_1 16 rfl rfl)
theorem dX1_third_43 : decode cX1_third 43 = .ok (.aload_n 0, 1) := dk_42 (dk_at dksX1_third_1 19 rfl rfl)
theorem dX1_third_44 : decode cX1_third 44 = .ok (.getfield 39, 3) := dk_180 0 39 (dk_at dksX1_third_1 20 rfl rfl)
theorem dX1_third_47 : decode cX1_third 47 = .ok (.bipush 10, 2) := dk_16 10 (dk_at dksX1_third_2 0 rfl rfl)
theorem dX1_third_49 : decode cX1_third 49 = .ok (.if_icmp .ge 15, 3) := dk_162 0 15 (dk_at dksX1_third_2 2 rfl rfl)
theorem dX1_third_52 : decode cX1_third 52 = .ok (.aload_n 0, 1) := dk_42 (dk_at dksX1_third_2 5 rfl rfl)
theorem dX1_third_53 : decode cX1_third 53 = .ok (.iconst 0, 1) := dk_3 (dk_at dksX1_third_2 6 rfl rfl)
theorem dX1_third_54 : decode cX1_third 54 = .ok (.iload_n 2, 1) := dk_28 (dk_at dksX1_third_2 7 rfl rfl)
theorem dX1_third_55 : decode cX1_third 55 = .ok (.aload_n 0, 1) := dk_42 (dk_at dksX1_third_2 8 rfl rfl)
theorem dX1_third_56 : decode cX1_third 56 = .ok (.iload_n 3, 1) := dk_29 (dk_at dksX1_third_2 9 rfl rfl)
theorem dX1_third_57 : decode cX1_third 57 = .ok (.invokevirtual 131, 3) := dk_182 0 131 (dk_at dksX1_third_2 10 rfl rfl)
theorem dX1_third_60 : decode cX1_third 60 = .ok (.invokevirtual 134, 3) := dk_182 0 134 (dk_at dksX1_third_2 13 rfl rfl)
theorem dX1_third_63 : decode cX1_third 63 = .ok (.pop, 1) := dk_87 (dk_at dksX1_third_2 16 rfl rfl)
theorem dX1_third_64 : decode cX1_third 64 = .ok (.return_, 1) := dk_177 (dk_at dksX1_third_2 17 rfl rfl)
theorem dX1_third_65 : decode cX1_third 65 = .ok (.iinc 2 1, 3) := dk_132 2 1 (dk_at dksX1_third_2 18 rfl rfl)
theorem dX1_third_68 : decode cX1_third 68 = .ok (.goto (-66), 3) := dk_167 255 190 (dk_at dksX1_third_2 21 rfl rfl)
theorem dX1_third_71 : decode cX1_third 71 = .ok (.return_, 1) := dk_177 (dk_at dksX1_third_3 0 rfl rfl)
abbrev cX1_ofEvent : ByteArray := prog_14_method_16_code
def yX1_ofEvent : MethodName := ⟨RX1, "ofEvent", "(II)I"⟩
def dkwX1_ofEvent_2 : List UInt8 := [167, 255, 213, 29, 172]
abbrev dktX1_ofEvent_2 : List UInt8 := dkwX1_ofEvent_2 ++ []
def dkwX1_ofEvent_1 : List UInt8 := [21, 4, 182, 0, 48, 180, 0, 74, 3, 46, 28, 160, 0, 10, 29, 4, 21, 4, 120, 128, 62, 132, 4, 1]
abbrev dktX1_ofEvent_1 : List UInt8 := dkwX1_ofEvent_1 ++ dktX1_ofEvent_2
def dkwX1_ofEvent_0 : List UInt8 := [3, 62, 3, 54, 4, 21, 4, 42, 180, 0, 39, 162, 0, 40, 27, 21, 4, 184, 0, 93, 153, 0, 25, 42]
abbrev dktX1_ofEvent_0 : List UInt8 := dkwX1_ofEvent_0 ++ dktX1_ofEvent_1
theorem dksX1_ofEvent_0 : cX1_ofEvent.data.toList.drop 0 = dktX1_ofEvent_0 := by decide +kernel
theorem dksX1_ofEvent_1 : cX1_ofEvent.data.toList.drop 24 = dktX1_ofEvent_1 := dk_seg dksX1_ofEvent_0 24 rfl rfl
theorem dksX1_ofEvent_2 : cX1_ofEvent.data.toList.drop 48 = dktX1_ofEvent_2 := dk_seg dksX1_ofEvent_1 24 rfl rfl
theorem dX1_ofEvent_0 : decode cX1_ofEvent 0 = .ok (.iconst 0, 1) := dk_3 (dk_at dksX1_ofEvent_0 0 rfl rfl)
theorem dX1_ofEvent_1 : decode cX1_ofEvent 1 = .ok (.istore_n 3, 1) := dk_62 (dk_at dksX1_ofEvent_0 1 rfl rfl)
theorem dX1_ofEvent_2 : decode cX1_ofEvent 2 = .ok (.iconst 0, 1) := dk_3 (dk_at dksX1_ofEvent_0 2 rfl rfl)
theorem dX1_ofEvent_3 : decode cX1_ofEvent 3 = .ok (.istore 4, 2) := dk_54 4 (dk_at dksX1_ofEvent_0 3 rfl rfl)
theorem dX1_ofEvent_5 : decode cX1_ofEvent 5 = .ok (.iload 4, 2) := dk_21 4 (dk_at dksX1_ofEvent_0 5 rfl rfl)
theorem dX1_ofEvent_7 : decode cX1_ofEvent 7 = .ok (.aload_n 0, 1) := dk_42 (dk_at dksX1_ofEvent_0 7 rfl rfl)
theorem dX1_ofEvent_8 : decode cX1_ofEvent 8 = .ok (.getfield 39, 3) := dk_180 0 39 (dk_at dksX1_ofEvent_0 8 rfl rfl)
theorem dX1_ofEvent_11 : decode cX1_ofEvent 11 = .ok (.if_icmp .ge 40, 3) := dk_162 0 40 (dk_at dksX1_ofEvent_0 11 rfl rfl)
theorem dX1_ofEvent_14 : decode cX1_ofEvent 14 = .ok (.iload_n 1, 1) := dk_27 (dk_at dksX1_ofEvent_0 14 rfl rfl)
theorem dX1_ofEvent_15 : decode cX1_ofEvent 15 = .ok (.iload 4, 2) := dk_21 4 (dk_at dksX1_ofEvent_0 15 rfl rfl)
theorem dX1_ofEvent_17 : decode cX1_ofEvent 17 = .ok (.invokestatic 93, 3) := dk_184 0 93 (dk_at dksX1_ofEvent_0 17 rfl rfl)
theorem dX1_ofEvent_20 : decode cX1_ofEvent 20 = .ok (.ifCond .eq 25, 3) := dk_153 0 25 (dk_at dksX1_ofEvent_0 20 rfl rfl)
theorem dX1_ofEvent_23 : decode cX1_ofEvent 23 = .ok (.aload_n 0, 1) := dk_42 (dk_at dksX1_ofEvent_0 23 rfl rfl)
theorem dX1_ofEvent_24 : decode cX1_ofEvent 24 = .ok (.iload 4, 2) := dk_21 4 (dk_at dksX1_ofEvent_1 0 rfl rfl)
theorem dX1_ofEvent_26 : decode cX1_ofEvent 26 = .ok (.invokevirtual 48, 3) := dk_182 0 48 (dk_at dksX1_ofEvent_1 2 rfl rfl)
theorem dX1_ofEvent_29 : decode cX1_ofEvent 29 = .ok (.getfield 74, 3) := dk_180 0 74 (dk_at dksX1_ofEvent_1 5 rfl rfl)
theorem dX1_ofEvent_32 : decode cX1_ofEvent 32 = .ok (.iconst 0, 1) := dk_3 (dk_at dksX1_ofEvent_1 8 rfl rfl)
theorem dX1_ofEvent_33 : decode cX1_ofEvent 33 = .ok (.iaload, 1) := dk_46 (dk_at dksX1_ofEvent_1 9 rfl rfl)
theorem dX1_ofEvent_34 : decode cX1_ofEvent 34 = .ok (.iload_n 2, 1) := dk_28 (dk_at dksX1_ofEvent_1 10 rfl rfl)
theorem dX1_ofEvent_35 : decode cX1_ofEvent 35 = .ok (.if_icmp .ne 10, 3) := dk_160 0 10 (dk_at dksX1_ofEvent_1 11 rfl rfl)
theorem dX1_ofEvent_38 : decode cX1_ofEvent 38 = .ok (.iload_n 3, 1) := dk_29 (dk_at dksX1_ofEvent_1 14 rfl rfl)
theorem dX1_ofEvent_39 : decode cX1_ofEvent 39 = .ok (.iconst 1, 1) := dk_4 (dk_at dksX1_ofEvent_1 15 rfl rfl)
theorem dX1_ofEvent_40 : decode cX1_ofEvent 40 = .ok (.iload 4, 2) := dk_21 4 (dk_at dksX1_ofEvent_1 16 rfl rfl)
theorem dX1_ofEvent_42 : decode cX1_ofEvent 42 = .ok (.ishl, 1) := dk_120 (dk_at dksX1_ofEvent_1 18 rfl rfl)
theorem dX1_ofEvent_43 : decode cX1_ofEvent 43 = .ok (.ior, 1) := dk_128 (dk_at dksX1_ofEvent_1 19 rfl rfl)
theorem dX1_ofEvent_44 : decode cX1_ofEvent 44 = .ok (.istore_n 3, 1) := dk_62 (dk_at dksX1_ofEvent_1 20 rfl rfl)
theorem dX1_ofEvent_45 : decode cX1_ofEvent 45 = .ok (.iinc 4 1, 3) := dk_132 4 1 (dk_at dksX1_ofEvent_1 21 rfl rfl)
theorem dX1_ofEvent_48 : decode cX1_ofEvent 48 = .ok (.goto (-43), 3) := dk_167 255 213 (dk_at dksX1_ofEvent_2 0 rfl rfl)
theorem dX1_ofEvent_51 : decode cX1_ofEvent 51 = .ok (.iload_n 3, 1) := dk_29 (dk_at dksX1_ofEvent_2 3 rfl rfl)
theorem dX1_ofEvent_52 : decode cX1_ofEvent 52 = .ok (.ireturn, 1) := dk_172 (dk_at dksX1_ofEvent_2 4 rfl rfl)
abbrev cX1_half : ByteArray := prog_14_method_18_code
def yX1_half : MethodName := ⟨RX1, "half", "(I)I"⟩
def dkwX1_half_1 : List UInt8 := [42, 29, 182, 0, 48, 180, 0, 74, 4, 46, 96, 5, 108, 172]
abbrev dktX1_half_1 : List UInt8 := dkwX1_half_1 ++ []
def dkwX1_half_0 : List UInt8 := [27, 184, 0, 138, 61, 27, 27, 4, 100, 126, 184, 0, 138, 62, 42, 28, 182, 0, 48, 180, 0, 74, 4, 46]
abbrev dktX1_half_0 : List UInt8 := dkwX1_half_0 ++ dktX1_half_1
theorem dksX1_half_0 : cX1_half.data.toList.drop 0 = dktX1_half_0 := by decide +kernel
theorem dksX1_half_1 : cX1_half.data.toList.drop 24 = dktX1_half_1 := dk_seg dksX1_half_0 24 rfl rfl
theorem dX1_half_0 : decode cX1_half 0 = .ok (.iload_n 1, 1) := dk_27 (dk_at dksX1_half_0 0 rfl rfl)
theorem dX1_half_1 : decode cX1_half 1 = .ok (.invokestatic 138, 3) := dk_184 0 138 (dk_at dksX1_half_0 1 rfl rfl)
theorem dX1_half_4 : decode cX1_half 4 = .ok (.istore_n 2, 1) := dk_61 (dk_at dksX1_half_0 4 rfl rfl)
theorem dX1_half_5 : decode cX1_half 5 = .ok (.iload_n 1, 1) := dk_27 (dk_at dksX1_half_0 5 rfl rfl)
theorem dX1_half_6 : decode cX1_half 6 = .ok (.iload_n 1, 1) := dk_27 (dk_at dksX1_half_0 6 rfl rfl)
theorem dX1_half_7 : decode cX1_half 7 = .ok (.iconst 1, 1) := dk_4 (dk_at dksX1_half_0 7 rfl rfl)
theorem dX1_half_8 : decode cX1_half 8 = .ok (.isub, 1) := dk_100 (dk_at dksX1_half_0 8 rfl rfl)
theorem dX1_half_9 : decode cX1_half 9 = .ok (.iand, 1) := dk_126 (dk_at dksX1_half_0 9 rfl rfl)
theorem dX1_half_10 : decode cX1_half 10 = .ok (.invokestatic 138, 3) := dk_184 0 138 (dk_at dksX1_half_0 10 rfl rfl)
theorem dX1_half_13 : decode cX1_half 13 = .ok (.istore_n 3, 1) := dk_62 (dk_at dksX1_half_0 13 rfl rfl)
theorem dX1_half_14 : decode cX1_half 14 = .ok (.aload_n 0, 1) := dk_42 (dk_at dksX1_half_0 14 rfl rfl)
theorem dX1_half_15 : decode cX1_half 15 = .ok (.iload_n 2, 1) := dk_28 (dk_at dksX1_half_0 15 rfl rfl)
theorem dX1_half_16 : decode cX1_half 16 = .ok (.invokevirtual 48, 3) := dk_182 0 48 (dk_at dksX1_half_0 16 rfl rfl)
theorem dX1_half_19 : decode cX1_half 19 = .ok (.getfield 74, 3) := dk_180 0 74 (dk_at dksX1_half_0 19 rfl rfl)
theorem dX1_half_22 : decode cX1_half 22 = .ok (.iconst 1, 1) := dk_4 (dk_at dksX1_half_0 22 rfl rfl)
theorem dX1_half_23 : decode cX1_half 23 = .ok (.iaload, 1) := dk_46 (dk_at dksX1_half_0 23 rfl rfl)
theorem dX1_half_24 : decode cX1_half 24 = .ok (.aload_n 0, 1) := dk_42 (dk_at dksX1_half_1 0 rfl rfl)
theorem dX1_half_25 : decode cX1_half 25 = .ok (.iload_n 3, 1) := dk_29 (dk_at dksX1_half_1 1 rfl rfl)
theorem dX1_half_26 : decode cX1_half 26 = .ok (.invokevirtual 48, 3) := dk_182 0 48 (dk_at dksX1_half_1 2 rfl rfl)
theorem dX1_half_29 : decode cX1_half 29 = .ok (.getfield 74, 3) := dk_180 0 74 (dk_at dksX1_half_1 5 rfl rfl)
theorem dX1_half_32 : decode cX1_half 32 = .ok (.iconst 1, 1) := dk_4 (dk_at dksX1_half_1 8 rfl rfl)
theorem dX1_half_33 : decode cX1_half 33 = .ok (.iaload, 1) := dk_46 (dk_at dksX1_half_1 9 rfl rfl)
theorem dX1_half_34 : decode cX1_half 34 = .ok (.iadd, 1) := dk_96 (dk_at dksX1_half_1 10 rfl rfl)
theorem dX1_half_35 : decode cX1_half 35 = .ok (.iconst 2, 1) := dk_5 (dk_at dksX1_half_1 11 rfl rfl)
theorem dX1_half_36 : decode cX1_half 36 = .ok (.idiv, 1) := dk_108 (dk_at dksX1_half_1 12 rfl rfl)
theorem dX1_half_37 : decode cX1_half 37 = .ok (.ireturn, 1) := dk_172 (dk_at dksX1_half_1 13 rfl rfl)
abbrev cX1_larders : ByteArray := prog_14_method_21_code
def yX1_larders : MethodName := ⟨RX1, "larders", "()I"⟩
def dkwX1_larders_1 : List UInt8 := [167, 255, 238, 27, 172]
abbrev dktX1_larders_1 : List UInt8 := dkwX1_larders_1 ++ []
def dkwX1_larders_0 : List UInt8 := [3, 60, 3, 61, 28, 16, 8, 162, 0, 18, 27, 42, 180, 0, 15, 28, 46, 96, 60, 132, 2, 1]
abbrev dktX1_larders_0 : List UInt8 := dkwX1_larders_0 ++ dktX1_larders_1
theorem dksX1_larders_0 : cX1_larders.data.toList.drop 0 = dktX1_larders_0 := by decide +kernel
theorem dksX1_larders_1 : cX1_larders.data.toList.drop 22 = dktX1_larders_1 := dk_seg dksX1_larders_0 22 rfl rfl
theorem dX1_larders_0 : decode cX1_larders 0 = .ok (.iconst 0, 1) := dk_3 (dk_at dksX1_larders_0 0 rfl rfl)
theorem dX1_larders_1 : decode cX1_larders 1 = .ok (.istore_n 1, 1) := dk_60 (dk_at dksX1_larders_0 1 rfl rfl)
theorem dX1_larders_2 : decode cX1_larders 2 = .ok (.iconst 0, 1) := dk_3 (dk_at dksX1_larders_0 2 rfl rfl)
theorem dX1_larders_3 : decode cX1_larders 3 = .ok (.istore_n 2, 1) := dk_61 (dk_at dksX1_larders_0 3 rfl rfl)
theorem dX1_larders_4 : decode cX1_larders 4 = .ok (.iload_n 2, 1) := dk_28 (dk_at dksX1_larders_0 4 rfl rfl)
theorem dX1_larders_5 : decode cX1_larders 5 = .ok (.bipush 8, 2) := dk_16 8 (dk_at dksX1_larders_0 5 rfl rfl)
theorem dX1_larders_7 : decode cX1_larders 7 = .ok (.if_icmp .ge 18, 3) := dk_162 0 18 (dk_at dksX1_larders_0 7 rfl rfl)
theorem dX1_larders_10 : decode cX1_larders 10 = .ok (.iload_n 1, 1) := dk_27 (dk_at dksX1_larders_0 10 rfl rfl)
theorem dX1_larders_11 : decode cX1_larders 11 = .ok (.aload_n 0, 1) := dk_42 (dk_at dksX1_larders_0 11 rfl rfl)
theorem dX1_larders_12 : decode cX1_larders 12 = .ok (.getfield 15, 3) := dk_180 0 15 (dk_at dksX1_larders_0 12 rfl rfl)
theorem dX1_larders_15 : decode cX1_larders 15 = .ok (.iload_n 2, 1) := dk_28 (dk_at dksX1_larders_0 15 rfl rfl)
theorem dX1_larders_16 : decode cX1_larders 16 = .ok (.iaload, 1) := dk_46 (dk_at dksX1_larders_0 16 rfl rfl)
theorem dX1_larders_17 : decode cX1_larders 17 = .ok (.iadd, 1) := dk_96 (dk_at dksX1_larders_0 17 rfl rfl)
theorem dX1_larders_18 : decode cX1_larders 18 = .ok (.istore_n 1, 1) := dk_60 (dk_at dksX1_larders_0 18 rfl rfl)
theorem dX1_larders_19 : decode cX1_larders 19 = .ok (.iinc 2 1, 3) := dk_132 2 1 (dk_at dksX1_larders_0 19 rfl rfl)
theorem dX1_larders_22 : decode cX1_larders 22 = .ok (.goto (-18), 3) := dk_167 255 238 (dk_at dksX1_larders_1 0 rfl rfl)
theorem dX1_larders_25 : decode cX1_larders 25 = .ok (.iload_n 1, 1) := dk_27 (dk_at dksX1_larders_1 3 rfl rfl)
theorem dX1_larders_26 : decode cX1_larders 26 = .ok (.ireturn, 1) := dk_172 (dk_at dksX1_larders_1 4 rfl rfl)
abbrev cX1_become : ByteArray := prog_14_method_2_code
def yX1_become : MethodName := ⟨RX1, "become", "(LRumourBeds$Town;)V"⟩
def dkwX1_become_4 : List UInt8 := [182, 0, 48, 182, 0, 61, 42, 180, 0, 25, 28, 50, 45, 181, 0, 65, 132, 2, 1, 167, 255, 212, 177]
abbrev dktX1_become_4 : List UInt8 := dkwX1_become_4 ++ []
def dkwX1_become_3 : List UInt8 := [42, 180, 0, 39, 162, 0, 42, 42, 28, 43, 28, 182, 0, 48, 182, 0, 51, 182, 0, 57, 78, 45, 43, 28]
abbrev dktX1_become_3 : List UInt8 := dkwX1_become_3 ++ dktX1_become_4
def dkwX1_become_2 : List UInt8 := [3, 16, 8, 184, 0, 42, 43, 180, 0, 18, 3, 42, 180, 0, 18, 3, 16, 8, 184, 0, 42, 3, 61, 28]
abbrev dktX1_become_2 : List UInt8 := dkwX1_become_2 ++ dktX1_become_3
def dkwX1_become_1 : List UInt8 := [43, 180, 0, 9, 3, 42, 180, 0, 9, 3, 16, 8, 184, 0, 42, 43, 180, 0, 15, 3, 42, 180, 0, 15]
abbrev dktX1_become_1 : List UInt8 := dkwX1_become_1 ++ dktX1_become_2
def dkwX1_become_0 : List UInt8 := [42, 43, 180, 0, 32, 181, 0, 32, 42, 43, 180, 0, 36, 181, 0, 36, 42, 43, 180, 0, 39, 181, 0, 39]
abbrev dktX1_become_0 : List UInt8 := dkwX1_become_0 ++ dktX1_become_1
theorem dksX1_become_0 : cX1_become.data.toList.drop 0 = dktX1_become_0 := by decide +kernel
theorem dksX1_become_1 : cX1_become.data.toList.drop 24 = dktX1_become_1 := dk_seg dksX1_become_0 24 rfl rfl
theorem dksX1_become_2 : cX1_become.data.toList.drop 48 = dktX1_become_2 := dk_seg dksX1_become_1 24 rfl rfl
theorem dksX1_become_3 : cX1_become.data.toList.drop 72 = dktX1_become_3 := dk_seg dksX1_become_2 24 rfl rfl
theorem dksX1_become_4 : cX1_become.data.toList.drop 96 = dktX1_become_4 := dk_seg dksX1_become_3 24 rfl rfl
theorem dX1_become_0 : decode cX1_become 0 = .ok (.aload_n 0, 1) := dk_42 (dk_at dksX1_become_0 0 rfl rfl)
theorem dX1_become_1 : decode cX1_become 1 = .ok (.aload_n 1, 1) := dk_43 (dk_at dksX1_become_0 1 rfl rfl)
theorem dX1_become_2 : decode cX1_become 2 = .ok (.getfield 32, 3) := dk_180 0 32 (dk_at dksX1_become_0 2 rfl rfl)
theorem dX1_become_5 : decode cX1_become 5 = .ok (.putfield 32, 3) := dk_181 0 32 (dk_at dksX1_become_0 5 rfl rfl)
theorem dX1_become_8 : decode cX1_become 8 = .ok (.aload_n 0, 1) := dk_42 (dk_at dksX1_become_0 8 rfl rfl)
theorem dX1_become_9 : decode cX1_become 9 = .ok (.aload_n 1, 1) := dk_43 (dk_at dksX1_become_0 9 rfl rfl)
theorem dX1_become_10 : decode cX1_become 10 = .ok (.getfield 36, 3) := dk_180 0 36 (dk_at dksX1_become_0 10 rfl rfl)
theorem dX1_become_13 : decode cX1_become 13 = .ok (.putfield 36, 3) := dk_181 0 36 (dk_at dksX1_become_0 13 rfl rfl)
theorem dX1_become_16 : decode cX1_become 16 = .ok (.aload_n 0, 1) := dk_42 (dk_at dksX1_become_0 16 rfl rfl)
theorem dX1_become_17 : decode cX1_become 17 = .ok (.aload_n 1, 1) := dk_43 (dk_at dksX1_become_0 17 rfl rfl)
theorem dX1_become_18 : decode cX1_become 18 = .ok (.getfield 39, 3) := dk_180 0 39 (dk_at dksX1_become_0 18 rfl rfl)
theorem dX1_become_21 : decode cX1_become 21 = .ok (.putfield 39, 3) := dk_181 0 39 (dk_at dksX1_become_0 21 rfl rfl)
theorem dX1_become_24 : decode cX1_become 24 = .ok (.aload_n 1, 1) := dk_43 (dk_at dksX1_become_1 0 rfl rfl)
theorem dX1_become_25 : decode cX1_become 25 = .ok (.getfield 9, 3) := dk_180 0 9 (dk_at dksX1_become_1 1 rfl rfl)
theorem dX1_become_28 : decode cX1_become 28 = .ok (.iconst 0, 1) := dk_3 (dk_at dksX1_become_1 4 rfl rfl)
theorem dX1_become_29 : decode cX1_become 29 = .ok (.aload_n 0, 1) := dk_42 (dk_at dksX1_become_1 5 rfl rfl)
theorem dX1_become_30 : decode cX1_become 30 = .ok (.getfield 9, 3) := dk_180 0 9 (dk_at dksX1_become_1 6 rfl rfl)
theorem dX1_become_33 : decode cX1_become 33 = .ok (.iconst 0, 1) := dk_3 (dk_at dksX1_become_1 9 rfl rfl)
theorem dX1_become_34 : decode cX1_become 34 = .ok (.bipush 8, 2) := dk_16 8 (dk_at dksX1_become_1 10 rfl rfl)
theorem dX1_become_36 : decode cX1_become 36 = .ok (.invokestatic 42, 3) := dk_184 0 42 (dk_at dksX1_become_1 12 rfl rfl)
theorem dX1_become_39 : decode cX1_become 39 = .ok (.aload_n 1, 1) := dk_43 (dk_at dksX1_become_1 15 rfl rfl)
theorem dX1_become_40 : decode cX1_become 40 = .ok (.getfield 15, 3) := dk_180 0 15 (dk_at dksX1_become_1 16 rfl rfl)
theorem dX1_become_43 : decode cX1_become 43 = .ok (.iconst 0, 1) := dk_3 (dk_at dksX1_become_1 19 rfl rfl)
theorem dX1_become_44 : decode cX1_become 44 = .ok (.aload_n 0, 1) := dk_42 (dk_at dksX1_become_1 20 rfl rfl)
theorem dX1_become_45 : decode cX1_become 45 = .ok (.getfield 15, 3) := dk_180 0 15 (dk_at dksX1_become_1 21 rfl rfl)
theorem dX1_become_48 : decode cX1_become 48 = .ok (.iconst 0, 1) := dk_3 (dk_at dksX1_become_2 0 rfl rfl)
theorem dX1_become_49 : decode cX1_become 49 = .ok (.bipush 8, 2) := dk_16 8 (dk_at dksX1_become_2 1 rfl rfl)
theorem dX1_become_51 : decode cX1_become 51 = .ok (.invokestatic 42, 3) := dk_184 0 42 (dk_at dksX1_become_2 3 rfl rfl)
theorem dX1_become_54 : decode cX1_become 54 = .ok (.aload_n 1, 1) := dk_43 (dk_at dksX1_become_2 6 rfl rfl)
theorem dX1_become_55 : decode cX1_become 55 = .ok (.getfield 18, 3) := dk_180 0 18 (dk_at dksX1_become_2 7 rfl rfl)
theorem dX1_become_58 : decode cX1_become 58 = .ok (.iconst 0, 1) := dk_3 (dk_at dksX1_become_2 10 rfl rfl)
theorem dX1_become_59 : decode cX1_become 59 = .ok (.aload_n 0, 1) := dk_42 (dk_at dksX1_become_2 11 rfl rfl)
theorem dX1_become_60 : decode cX1_become 60 = .ok (.getfield 18, 3) := dk_180 0 18 (dk_at dksX1_become_2 12 rfl rfl)
theorem dX1_become_63 : decode cX1_become 63 = .ok (.iconst 0, 1) := dk_3 (dk_at dksX1_become_2 15 rfl rfl)
theorem dX1_become_64 : decode cX1_become 64 = .ok (.bipush 8, 2) := dk_16 8 (dk_at dksX1_become_2 16 rfl rfl)
theorem dX1_become_66 : decode cX1_become 66 = .ok (.invokestatic 42, 3) := dk_184 0 42 (dk_at dksX1_become_2 18 rfl rfl)
theorem dX1_become_69 : decode cX1_become 69 = .ok (.iconst 0, 1) := dk_3 (dk_at dksX1_become_2 21 rfl rfl)
theorem dX1_become_70 : decode cX1_become 70 = .ok (.istore_n 2, 1) := dk_61 (dk_at dksX1_become_2 22 rfl rfl)
theorem dX1_become_71 : decode cX1_become 71 = .ok (.iload_n 2, 1) := dk_28 (dk_at dksX1_become_2 23 rfl rfl)
theorem dX1_become_72 : decode cX1_become 72 = .ok (.aload_n 0, 1) := dk_42 (dk_at dksX1_become_3 0 rfl rfl)
theorem dX1_become_73 : decode cX1_become 73 = .ok (.getfield 39, 3) := dk_180 0 39 (dk_at dksX1_become_3 1 rfl rfl)
theorem dX1_become_76 : decode cX1_become 76 = .ok (.if_icmp .ge 42, 3) := dk_162 0 42 (dk_at dksX1_become_3 4 rfl rfl)
theorem dX1_become_79 : decode cX1_become 79 = .ok (.aload_n 0, 1) := dk_42 (dk_at dksX1_become_3 7 rfl rfl)
theorem dX1_become_80 : decode cX1_become 80 = .ok (.iload_n 2, 1) := dk_28 (dk_at dksX1_become_3 8 rfl rfl)
theorem dX1_become_81 : decode cX1_become 81 = .ok (.aload_n 1, 1) := dk_43 (dk_at dksX1_become_3 9 rfl rfl)
theorem dX1_become_82 : decode cX1_become 82 = .ok (.iload_n 2, 1) := dk_28 (dk_at dksX1_become_3 10 rfl rfl)
theorem dX1_become_83 : decode cX1_become 83 = .ok (.invokevirtual 48, 3) := dk_182 0 48 (dk_at dksX1_become_3 11 rfl rfl)
theorem dX1_become_86 : decode cX1_become 86 = .ok (.invokevirtual 51, 3) := dk_182 0 51 (dk_at dksX1_become_3 14 rfl rfl)
theorem dX1_become_89 : decode cX1_become 89 = .ok (.invokevirtual 57, 3) := dk_182 0 57 (dk_at dksX1_become_3 17 rfl rfl)
theorem dX1_become_92 : decode cX1_become 92 = .ok (.astore_n 3, 1) := dk_78 (dk_at dksX1_become_3 20 rfl rfl)
theorem dX1_become_93 : decode cX1_become 93 = .ok (.aload_n 3, 1) := dk_45 (dk_at dksX1_become_3 21 rfl rfl)
theorem dX1_become_94 : decode cX1_become 94 = .ok (.aload_n 1, 1) := dk_43 (dk_at dksX1_become_3 22 rfl rfl)
theorem dX1_become_95 : decode cX1_become 95 = .ok (.iload_n 2, 1) := dk_28 (dk_at dksX1_become_3 23 rfl rfl)
theorem dX1_become_96 : decode cX1_become 96 = .ok (.invokevirtual 48, 3) := dk_182 0 48 (dk_at dksX1_become_4 0 rfl rfl)
theorem dX1_become_99 : decode cX1_become 99 = .ok (.invokevirtual 61, 3) := dk_182 0 61 (dk_at dksX1_become_4 3 rfl rfl)
theorem dX1_become_102 : decode cX1_become 102 = .ok (.aload_n 0, 1) := dk_42 (dk_at dksX1_become_4 6 rfl rfl)
theorem dX1_become_103 : decode cX1_become 103 = .ok (.getfield 25, 3) := dk_180 0 25 (dk_at dksX1_become_4 7 rfl rfl)
theorem dX1_become_106 : decode cX1_become 106 = .ok (.iload_n 2, 1) := dk_28 (dk_at dksX1_become_4 10 rfl rfl)
theorem dX1_become_107 : decode cX1_become 107 = .ok (.aaload, 1) := dk_50 (dk_at dksX1_become_4 11 rfl rfl)
theorem dX1_become_108 : decode cX1_become 108 = .ok (.aload_n 3, 1) := dk_45 (dk_at dksX1_become_4 12 rfl rfl)
theorem dX1_become_109 : decode cX1_become 109 = .ok (.putfield 65, 3) := dk_181 0 65 (dk_at dksX1_become_4 13 rfl rfl)
theorem dX1_become_112 : decode cX1_become 112 = .ok (.iinc 2 1, 3) := dk_132 2 1 (dk_at dksX1_become_4 16 rfl rfl)
theorem dX1_become_115 : decode cX1_become 115 = .ok (.goto (-44), 3) := dk_167 255 212 (dk_at dksX1_become_4 19 rfl rfl)
theorem dX1_become_118 : decode cX1_become 118 = .ok (.return_, 1) := dk_177 (dk_at dksX1_become_4 22 rfl rfl)
theorem q84 : (Jvm.Cond.initialized "RumourBeds$Town") ∈ lw_all := lw_g (lw_at lw_m1 2 rfl) rfl
theorem q114 : (Jvm.Cond.instantiable "RumourBeds$Town" (8 : Nat)) ∈ lw_all := lw_g (lw_at lw_m1 32 rfl) rfl
theorem q116 : (Jvm.Cond.instanceMethod ({ cls := "RumourBeds$Town", name := "<init>", desc := "()V" } : Jvm.MethodName)) ∈ lw_all := lw_g (lw_at lw_m1 34 rfl) rfl
theorem q117 : (Jvm.Cond.code ({ cls := "RumourBeds$Town", name := "<init>", desc := "()V" } : Jvm.MethodName) prog_14_method_1_code (2 : Nat) (Option.none : Option Jvm.ClassFile.FieldType)) ∈ lw_all := lw_g (lw_at lw_m1 35 rfl) rfl
theorem q118 : (Jvm.Cond.methodLink "RumourBeds$Town" (3 : Nat) ({ cls := "java/lang/Object", name := "<init>", desc := "()V" } : Jvm.MethodName)) ∈ lw_all := lw_g (lw_at lw_m1 36 rfl) rfl
theorem q119 : (Jvm.Cond.methodLinkNest "RumourBeds$Town" (21 : Nat) ({ cls := "RumourBeds", name := "slots", desc := "(I)[LRumourBeds$Slot;" } : Jvm.MethodName) "RumourBeds") ∈ lw_tbl := lw_at lw_m1 37 rfl
theorem q129 : (Jvm.Cond.fieldLink "RumourBeds$Town" (65 : Nat) "RumourBeds$Slot" "held" "Ljava/lang/Object;") ∈ lw_all := lw_g (lw_at lw_m1 47 rfl) rfl
theorem q135 : (Jvm.Cond.fieldLink "RumourBeds$Town" (32 : Nat) "RumourBeds$Town" "day" "I") ∈ lw_all := lw_g (lw_at lw_m1 53 rfl) rfl
theorem q137 : (Jvm.Cond.fieldLink "RumourBeds$Town" (36 : Nat) "RumourBeds$Town" "true0" "I") ∈ lw_all := lw_g (lw_at lw_m1 55 rfl) rfl
theorem q139 : (Jvm.Cond.fieldLink "RumourBeds$Town" (39 : Nat) "RumourBeds$Town" "rumours" "I") ∈ lw_all := lw_g (lw_at lw_m1 57 rfl) rfl
theorem q142 : (Jvm.Cond.fieldLink "RumourBeds$Town" (9 : Nat) "RumourBeds$Town" "beds" "[I") ∈ lw_all := lw_g (lw_at lw_m1 60 rfl) rfl
theorem q145 : (Jvm.Cond.fieldLink "RumourBeds$Town" (15 : Nat) "RumourBeds$Town" "larder" "[I") ∈ lw_all := lw_g (lw_at lw_m1 63 rfl) rfl
theorem q148 : (Jvm.Cond.fieldLink "RumourBeds$Town" (18 : Nat) "RumourBeds$Town" "leans" "[I") ∈ lw_all := lw_g (lw_at lw_m1 66 rfl) rfl
theorem q151 : (Jvm.Cond.fieldLink "RumourBeds$Town" (25 : Nat) "RumourBeds$Town" "rumour" "[LRumourBeds$Slot;") ∈ lw_all := lw_g (lw_at lw_m1 69 rfl) rfl
theorem q152 : (Jvm.Cond.fieldLink "RumourBeds$Town" (29 : Nat) "RumourBeds$Town" "pool" "[LRumourBeds$Slot;") ∈ lw_all := lw_g (lw_at lw_m1 70 rfl) rfl
theorem q153 : (Jvm.Cond.lays "RumourBeds$Town" "RumourBeds$Town" "day" "I") ∈ lw_all := lw_g (lw_at lw_m1 71 rfl) rfl
theorem q154 : (Jvm.Cond.soleField "RumourBeds$Town" "day") ∈ lw_all := lw_g (lw_at lw_m1 72 rfl) rfl
theorem q155 : (Jvm.Cond.lays "RumourBeds$Town" "RumourBeds$Town" "true0" "I") ∈ lw_all := lw_g (lw_at lw_m1 73 rfl) rfl
theorem q156 : (Jvm.Cond.soleField "RumourBeds$Town" "true0") ∈ lw_all := lw_g (lw_at lw_m1 74 rfl) rfl
theorem q157 : (Jvm.Cond.lays "RumourBeds$Town" "RumourBeds$Town" "rumours" "I") ∈ lw_all := lw_g (lw_at lw_m1 75 rfl) rfl
theorem q158 : (Jvm.Cond.soleField "RumourBeds$Town" "rumours") ∈ lw_all := lw_g (lw_at lw_m1 76 rfl) rfl
theorem q159 : (Jvm.Cond.laysFinal "RumourBeds$Town" "RumourBeds$Town" "beds" "[I") ∈ lw_all := lw_g (lw_at lw_m1 77 rfl) rfl
theorem q160 : (Jvm.Cond.soleField "RumourBeds$Town" "beds") ∈ lw_all := lw_g (lw_at lw_m1 78 rfl) rfl
theorem q161 : (Jvm.Cond.laysFinal "RumourBeds$Town" "RumourBeds$Town" "larder" "[I") ∈ lw_all := lw_g (lw_at lw_m1 79 rfl) rfl
theorem q162 : (Jvm.Cond.soleField "RumourBeds$Town" "larder") ∈ lw_all := lw_g (lw_at lw_m1 80 rfl) rfl
theorem q163 : (Jvm.Cond.laysFinal "RumourBeds$Town" "RumourBeds$Town" "leans" "[I") ∈ lw_all := lw_g (lw_at lw_m1 81 rfl) rfl
theorem q164 : (Jvm.Cond.soleField "RumourBeds$Town" "leans") ∈ lw_all := lw_g (lw_at lw_m1 82 rfl) rfl
theorem q165 : (Jvm.Cond.laysFinal "RumourBeds$Town" "RumourBeds$Town" "rumour" "[LRumourBeds$Slot;") ∈ lw_all := lw_g (lw_at lw_m1 83 rfl) rfl
theorem q166 : (Jvm.Cond.soleField "RumourBeds$Town" "rumour") ∈ lw_all := lw_g (lw_at lw_m1 84 rfl) rfl
theorem q167 : (Jvm.Cond.laysFinal "RumourBeds$Town" "RumourBeds$Town" "pool" "[LRumourBeds$Slot;") ∈ lw_all := lw_g (lw_at lw_m1 85 rfl) rfl
theorem q168 : (Jvm.Cond.soleField "RumourBeds$Town" "pool") ∈ lw_all := lw_g (lw_at lw_m1 86 rfl) rfl
theorem q169 : (Jvm.Cond.superclass "RumourBeds$Town" "java/lang/Object") ∈ lw_all := lw_g (lw_at lw_m1 87 rfl) rfl
theorem q286 : (Jvm.Cond.instanceMethod ({ cls := "RumourBeds$Town", name := "rowOf", desc := "(I)[I" } : Jvm.MethodName)) ∈ lw_all := lw_g (lw_at lw_m1 204 rfl) rfl
theorem q287 : (Jvm.Cond.selects "RumourBeds$Town" ({ cls := "RumourBeds$Town", name := "rowOf", desc := "(I)[I" } : Jvm.MethodName) ({ cls := "RumourBeds$Town", name := "rowOf", desc := "(I)[I" } : Jvm.MethodName)) ∈ lw_all := lw_g (lw_at lw_m1 205 rfl) rfl
theorem q288 : (Jvm.Cond.code ({ cls := "RumourBeds$Town", name := "rowOf", desc := "(I)[I" } : Jvm.MethodName) prog_14_method_23_code (2 : Nat) (Option.some (Jvm.ClassFile.FieldType.array Jvm.ClassFile.FieldType.int))) ∈ lw_all := lw_g (lw_at lw_m1 206 rfl) rfl
theorem q304 : (Jvm.Cond.instanceMethod ({ cls := "RumourBeds$Town", name := "inside", desc := "(I)I" } : Jvm.MethodName)) ∈ lw_all := lw_g (lw_at lw_m1 222 rfl) rfl
theorem q305 : (Jvm.Cond.selects "RumourBeds$Town" ({ cls := "RumourBeds$Town", name := "inside", desc := "(I)I" } : Jvm.MethodName) ({ cls := "RumourBeds$Town", name := "inside", desc := "(I)I" } : Jvm.MethodName)) ∈ lw_all := lw_g (lw_at lw_m1 223 rfl) rfl
theorem q306 : (Jvm.Cond.code ({ cls := "RumourBeds$Town", name := "inside", desc := "(I)I" } : Jvm.MethodName) prog_14_method_7_code (4 : Nat) (Option.some Jvm.ClassFile.FieldType.int)) ∈ lw_all := lw_g (lw_at lw_m1 224 rfl) rfl
theorem q307 : (Jvm.Cond.methodLink "RumourBeds$Town" (48 : Nat) ({ cls := "RumourBeds$Town", name := "rumour", desc := "(I)LRumourBeds$Rumour;" } : Jvm.MethodName)) ∈ lw_all := lw_g (lw_at lw_m1 225 rfl) rfl
theorem q308 : (Jvm.Cond.instanceMethod ({ cls := "RumourBeds$Town", name := "rumour", desc := "(I)LRumourBeds$Rumour;" } : Jvm.MethodName)) ∈ lw_all := lw_g (lw_at lw_m1 226 rfl) rfl
theorem q309 : (Jvm.Cond.selects "RumourBeds$Town" ({ cls := "RumourBeds$Town", name := "rumour", desc := "(I)LRumourBeds$Rumour;" } : Jvm.MethodName) ({ cls := "RumourBeds$Town", name := "rumour", desc := "(I)LRumourBeds$Rumour;" } : Jvm.MethodName)) ∈ lw_all := lw_g (lw_at lw_m1 227 rfl) rfl
theorem q310 : (Jvm.Cond.code ({ cls := "RumourBeds$Town", name := "rumour", desc := "(I)LRumourBeds$Rumour;" } : Jvm.MethodName) prog_14_method_3_code (2 : Nat) (Option.some (Jvm.ClassFile.FieldType.object "RumourBeds$Rumour"))) ∈ lw_all := lw_g (lw_at lw_m1 228 rfl) rfl
theorem q311 : (Jvm.Cond.classLink "RumourBeds$Town" (52 : Nat) "RumourBeds$Rumour") ∈ lw_all := lw_g (lw_at lw_m1 229 rfl) rfl
theorem q318 : (Jvm.Cond.instanceMethod ({ cls := "RumourBeds$Town", name := "eaten", desc := "(I)I" } : Jvm.MethodName)) ∈ lw_all := lw_g (lw_at lw_m1 236 rfl) rfl
theorem q319 : (Jvm.Cond.selects "RumourBeds$Town" ({ cls := "RumourBeds$Town", name := "eaten", desc := "(I)I" } : Jvm.MethodName) ({ cls := "RumourBeds$Town", name := "eaten", desc := "(I)I" } : Jvm.MethodName)) ∈ lw_all := lw_g (lw_at lw_m1 237 rfl) rfl
theorem q320 : (Jvm.Cond.code ({ cls := "RumourBeds$Town", name := "eaten", desc := "(I)I" } : Jvm.MethodName) prog_14_method_22_code (4 : Nat) (Option.some Jvm.ClassFile.FieldType.int)) ∈ lw_all := lw_g (lw_at lw_m1 238 rfl) rfl
theorem q321 : (Jvm.Cond.methodLink "RumourBeds$Town" (116 : Nat) ({ cls := "RumourBeds$Rumour", name := "eats", desc := "()I" } : Jvm.MethodName)) ∈ lw_all := lw_g (lw_at lw_m1 239 rfl) rfl
theorem q361 : (Jvm.Cond.instanceMethod ({ cls := "RumourBeds$Town", name := "comes", desc := "(III)LRumourBeds$Rumour;" } : Jvm.MethodName)) ∈ lw_all := lw_g (lw_at lw_m2 39 rfl) rfl
theorem q362 : (Jvm.Cond.selects "RumourBeds$Town" ({ cls := "RumourBeds$Town", name := "comes", desc := "(III)LRumourBeds$Rumour;" } : Jvm.MethodName) ({ cls := "RumourBeds$Town", name := "comes", desc := "(III)LRumourBeds$Rumour;" } : Jvm.MethodName)) ∈ lw_all := lw_g (lw_at lw_m2 40 rfl) rfl
theorem q363 : (Jvm.Cond.code ({ cls := "RumourBeds$Town", name := "comes", desc := "(III)LRumourBeds$Rumour;" } : Jvm.MethodName) prog_14_method_5_code (6 : Nat) (Option.some (Jvm.ClassFile.FieldType.object "RumourBeds$Rumour"))) ∈ lw_all := lw_g (lw_at lw_m2 41 rfl) rfl
theorem q364 : (Jvm.Cond.methodLink "RumourBeds$Town" (57 : Nat) ({ cls := "RumourBeds$Town", name := "pooled", desc := "(II)LRumourBeds$Rumour;" } : Jvm.MethodName)) ∈ lw_all := lw_g (lw_at lw_m2 42 rfl) rfl
theorem q365 : (Jvm.Cond.privateMethod ({ cls := "RumourBeds$Town", name := "pooled", desc := "(II)LRumourBeds$Rumour;" } : Jvm.MethodName)) ∈ lw_tbl := lw_at lw_m2 43 rfl
theorem q366 : (Jvm.Cond.instanceMethod ({ cls := "RumourBeds$Town", name := "pooled", desc := "(II)LRumourBeds$Rumour;" } : Jvm.MethodName)) ∈ lw_all := lw_g (lw_at lw_m2 44 rfl) rfl
theorem q367 : (Jvm.Cond.code ({ cls := "RumourBeds$Town", name := "pooled", desc := "(II)LRumourBeds$Rumour;" } : Jvm.MethodName) prog_14_method_4_code (4 : Nat) (Option.some (Jvm.ClassFile.FieldType.object "RumourBeds$Rumour"))) ∈ lw_all := lw_g (lw_at lw_m2 45 rfl) rfl
theorem q368 : (Jvm.Cond.methodLinkNest "RumourBeds$Town" (71 : Nat) ({ cls := "RumourBeds", name := "rumourFor", desc := "(I)LRumourBeds$Rumour;" } : Jvm.MethodName) "RumourBeds") ∈ lw_tbl := lw_at lw_m2 46 rfl
theorem q382 : (Jvm.Cond.fieldLink "RumourBeds$Town" (74 : Nat) "RumourBeds$Rumour" "part" "[I") ∈ lw_all := lw_g (lw_at lw_m2 60 rfl) rfl
theorem q508 : (Jvm.Cond.instanceMethod ({ cls := "RumourBeds$Town", name := "turns", desc := "(II)V" } : Jvm.MethodName)) ∈ lw_all := lw_g (lw_at lw_m2 186 rfl) rfl
theorem q509 : (Jvm.Cond.selects "RumourBeds$Town" ({ cls := "RumourBeds$Town", name := "turns", desc := "(II)V" } : Jvm.MethodName) ({ cls := "RumourBeds$Town", name := "turns", desc := "(II)V" } : Jvm.MethodName)) ∈ lw_all := lw_g (lw_at lw_m2 187 rfl) rfl
theorem q510 : (Jvm.Cond.code ({ cls := "RumourBeds$Town", name := "turns", desc := "(II)V" } : Jvm.MethodName) prog_14_method_6_code (4 : Nat) (Option.none : Option Jvm.ClassFile.FieldType)) ∈ lw_all := lw_g (lw_at lw_m2 188 rfl) rfl
theorem q511 : (Jvm.Cond.methodLink "RumourBeds$Town" (61 : Nat) ({ cls := "RumourBeds$Rumour", name := "like", desc := "(LRumourBeds$Rumour;)V" } : Jvm.MethodName)) ∈ lw_all := lw_g (lw_at lw_m2 189 rfl) rfl
theorem q550 : (Jvm.Cond.instanceMethod ({ cls := "RumourBeds$Town", name := "takes", desc := "(ILRumourBeds$Rumour;)Z" } : Jvm.MethodName)) ∈ lw_all := lw_g (lw_at lw_m2 228 rfl) rfl
theorem q551 : (Jvm.Cond.selects "RumourBeds$Town" ({ cls := "RumourBeds$Town", name := "takes", desc := "(ILRumourBeds$Rumour;)Z" } : Jvm.MethodName) ({ cls := "RumourBeds$Town", name := "takes", desc := "(ILRumourBeds$Rumour;)Z" } : Jvm.MethodName)) ∈ lw_all := lw_g (lw_at lw_m2 229 rfl) rfl
theorem q552 : (Jvm.Cond.code ({ cls := "RumourBeds$Town", name := "takes", desc := "(ILRumourBeds$Rumour;)Z" } : Jvm.MethodName) prog_14_method_9_code (3 : Nat) (Option.some Jvm.ClassFile.FieldType.boolean)) ∈ lw_all := lw_g (lw_at lw_m2 230 rfl) rfl
theorem q553 : (Jvm.Cond.methodLink "RumourBeds$Town" (86 : Nat) ({ cls := "RumourBeds$Town", name := "hasBed", desc := "(I)Z" } : Jvm.MethodName)) ∈ lw_all := lw_g (lw_at lw_m2 231 rfl) rfl
theorem q554 : (Jvm.Cond.instanceMethod ({ cls := "RumourBeds$Town", name := "hasBed", desc := "(I)Z" } : Jvm.MethodName)) ∈ lw_all := lw_g (lw_at lw_m2 232 rfl) rfl
theorem q555 : (Jvm.Cond.selects "RumourBeds$Town" ({ cls := "RumourBeds$Town", name := "hasBed", desc := "(I)Z" } : Jvm.MethodName) ({ cls := "RumourBeds$Town", name := "hasBed", desc := "(I)Z" } : Jvm.MethodName)) ∈ lw_all := lw_g (lw_at lw_m2 233 rfl) rfl
theorem q556 : (Jvm.Cond.code ({ cls := "RumourBeds$Town", name := "hasBed", desc := "(I)Z" } : Jvm.MethodName) prog_14_method_8_code (2 : Nat) (Option.some Jvm.ClassFile.FieldType.boolean)) ∈ lw_all := lw_g (lw_at lw_m2 234 rfl) rfl
theorem q557 : (Jvm.Cond.methodLink "RumourBeds$Town" (77 : Nat) ({ cls := "RumourBeds$Town", name := "inside", desc := "(I)I" } : Jvm.MethodName)) ∈ lw_all := lw_g (lw_at lw_m2 235 rfl) rfl
theorem q558 : (Jvm.Cond.methodLink "RumourBeds$Town" (81 : Nat) ({ cls := "java/lang/Integer", name := "bitCount", desc := "(I)I" } : Jvm.MethodName)) ∈ lw_all := lw_g (lw_at lw_m2 236 rfl) rfl
theorem q579 : (Jvm.Cond.instanceMethod ({ cls := "RumourBeds$Town", name := "isTrue", desc := "(I)Z" } : Jvm.MethodName)) ∈ lw_all := lw_g (lw_at lw_m3 17 rfl) rfl
theorem q580 : (Jvm.Cond.selects "RumourBeds$Town" ({ cls := "RumourBeds$Town", name := "isTrue", desc := "(I)Z" } : Jvm.MethodName) ({ cls := "RumourBeds$Town", name := "isTrue", desc := "(I)Z" } : Jvm.MethodName)) ∈ lw_all := lw_g (lw_at lw_m3 18 rfl) rfl
theorem q581 : (Jvm.Cond.code ({ cls := "RumourBeds$Town", name := "isTrue", desc := "(I)Z" } : Jvm.MethodName) prog_14_method_10_code (2 : Nat) (Option.some Jvm.ClassFile.FieldType.boolean)) ∈ lw_all := lw_g (lw_at lw_m3 19 rfl) rfl
theorem q582 : (Jvm.Cond.methodLinkNest "RumourBeds$Town" (93 : Nat) ({ cls := "RumourBeds", name := "has", desc := "(II)Z" } : Jvm.MethodName) "RumourBeds") ∈ lw_tbl := lw_at lw_m3 20 rfl
theorem q586 : (Jvm.Cond.instanceMethod ({ cls := "RumourBeds$Town", name := "comesIn", desc := "(LRumourBeds$Rumour;)V" } : Jvm.MethodName)) ∈ lw_all := lw_g (lw_at lw_m3 24 rfl) rfl
theorem q587 : (Jvm.Cond.selects "RumourBeds$Town" ({ cls := "RumourBeds$Town", name := "comesIn", desc := "(LRumourBeds$Rumour;)V" } : Jvm.MethodName) ({ cls := "RumourBeds$Town", name := "comesIn", desc := "(LRumourBeds$Rumour;)V" } : Jvm.MethodName)) ∈ lw_all := lw_g (lw_at lw_m3 25 rfl) rfl
theorem q588 : (Jvm.Cond.code ({ cls := "RumourBeds$Town", name := "comesIn", desc := "(LRumourBeds$Rumour;)V" } : Jvm.MethodName) prog_14_method_12_code (2 : Nat) (Option.none : Option Jvm.ClassFile.FieldType)) ∈ lw_all := lw_g (lw_at lw_m3 26 rfl) rfl
theorem q589 : (Jvm.Cond.methodLink "RumourBeds$Town" (104 : Nat) ({ cls := "RumourBeds$Town", name := "host", desc := "(LRumourBeds$Rumour;)I" } : Jvm.MethodName)) ∈ lw_all := lw_g (lw_at lw_m3 27 rfl) rfl
theorem q590 : (Jvm.Cond.instanceMethod ({ cls := "RumourBeds$Town", name := "host", desc := "(LRumourBeds$Rumour;)I" } : Jvm.MethodName)) ∈ lw_all := lw_g (lw_at lw_m3 28 rfl) rfl
theorem q591 : (Jvm.Cond.selects "RumourBeds$Town" ({ cls := "RumourBeds$Town", name := "host", desc := "(LRumourBeds$Rumour;)I" } : Jvm.MethodName) ({ cls := "RumourBeds$Town", name := "host", desc := "(LRumourBeds$Rumour;)I" } : Jvm.MethodName)) ∈ lw_all := lw_g (lw_at lw_m3 29 rfl) rfl
theorem q592 : (Jvm.Cond.code ({ cls := "RumourBeds$Town", name := "host", desc := "(LRumourBeds$Rumour;)I" } : Jvm.MethodName) prog_14_method_11_code (4 : Nat) (Option.some Jvm.ClassFile.FieldType.int)) ∈ lw_all := lw_g (lw_at lw_m3 30 rfl) rfl
theorem q593 : (Jvm.Cond.methodLink "RumourBeds$Town" (97 : Nat) ({ cls := "RumourBeds$Town", name := "isTrue", desc := "(I)Z" } : Jvm.MethodName)) ∈ lw_all := lw_g (lw_at lw_m3 31 rfl) rfl
theorem q594 : (Jvm.Cond.methodLink "RumourBeds$Town" (100 : Nat) ({ cls := "RumourBeds$Town", name := "takes", desc := "(ILRumourBeds$Rumour;)Z" } : Jvm.MethodName)) ∈ lw_all := lw_g (lw_at lw_m3 32 rfl) rfl
theorem q605 : (Jvm.Cond.instanceMethod ({ cls := "RumourBeds$Town", name := "improves", desc := "(LRumourBeds$Rumour;I)V" } : Jvm.MethodName)) ∈ lw_all := lw_g (lw_at lw_m3 43 rfl) rfl
theorem q606 : (Jvm.Cond.selects "RumourBeds$Town" ({ cls := "RumourBeds$Town", name := "improves", desc := "(LRumourBeds$Rumour;I)V" } : Jvm.MethodName) ({ cls := "RumourBeds$Town", name := "improves", desc := "(LRumourBeds$Rumour;I)V" } : Jvm.MethodName)) ∈ lw_all := lw_g (lw_at lw_m3 44 rfl) rfl
theorem q607 : (Jvm.Cond.code ({ cls := "RumourBeds$Town", name := "improves", desc := "(LRumourBeds$Rumour;I)V" } : Jvm.MethodName) prog_14_method_13_code (6 : Nat) (Option.none : Option Jvm.ClassFile.FieldType)) ∈ lw_all := lw_g (lw_at lw_m3 45 rfl) rfl
theorem q608 : (Jvm.Cond.methodLink "RumourBeds$Town" (108 : Nat) ({ cls := "RumourBeds$Rumour", name := "swells", desc := "(I)V" } : Jvm.MethodName)) ∈ lw_all := lw_g (lw_at lw_m3 46 rfl) rfl
theorem q626 : (Jvm.Cond.instanceMethod ({ cls := "RumourBeds$Town", name := "comesTrue", desc := "(I)I" } : Jvm.MethodName)) ∈ lw_all := lw_g (lw_at lw_m3 64 rfl) rfl
theorem q627 : (Jvm.Cond.selects "RumourBeds$Town" ({ cls := "RumourBeds$Town", name := "comesTrue", desc := "(I)I" } : Jvm.MethodName) ({ cls := "RumourBeds$Town", name := "comesTrue", desc := "(I)I" } : Jvm.MethodName)) ∈ lw_all := lw_g (lw_at lw_m3 65 rfl) rfl
theorem q628 : (Jvm.Cond.code ({ cls := "RumourBeds$Town", name := "comesTrue", desc := "(I)I" } : Jvm.MethodName) prog_14_method_14_code (5 : Nat) (Option.some Jvm.ClassFile.FieldType.int)) ∈ lw_all := lw_g (lw_at lw_m3 66 rfl) rfl
theorem q629 : (Jvm.Cond.methodLink "RumourBeds$Town" (112 : Nat) ({ cls := "RumourBeds$Rumour", name := "isIn", desc := "()Z" } : Jvm.MethodName)) ∈ lw_all := lw_g (lw_at lw_m3 67 rfl) rfl
theorem q640 : (Jvm.Cond.instanceMethod ({ cls := "RumourBeds$Town", name := "days", desc := "(I)V" } : Jvm.MethodName)) ∈ lw_all := lw_g (lw_at lw_m3 78 rfl) rfl
theorem q641 : (Jvm.Cond.selects "RumourBeds$Town" ({ cls := "RumourBeds$Town", name := "days", desc := "(I)V" } : Jvm.MethodName) ({ cls := "RumourBeds$Town", name := "days", desc := "(I)V" } : Jvm.MethodName)) ∈ lw_all := lw_g (lw_at lw_m3 79 rfl) rfl
theorem q642 : (Jvm.Cond.code ({ cls := "RumourBeds$Town", name := "days", desc := "(I)V" } : Jvm.MethodName) prog_14_method_20_code (3 : Nat) (Option.none : Option Jvm.ClassFile.FieldType)) ∈ lw_all := lw_g (lw_at lw_m3 80 rfl) rfl
theorem q643 : (Jvm.Cond.methodLink "RumourBeds$Town" (153 : Nat) ({ cls := "RumourBeds$Town", name := "aDay", desc := "()V" } : Jvm.MethodName)) ∈ lw_all := lw_g (lw_at lw_m3 81 rfl) rfl
theorem q644 : (Jvm.Cond.instanceMethod ({ cls := "RumourBeds$Town", name := "aDay", desc := "()V" } : Jvm.MethodName)) ∈ lw_all := lw_g (lw_at lw_m3 82 rfl) rfl
theorem q645 : (Jvm.Cond.selects "RumourBeds$Town" ({ cls := "RumourBeds$Town", name := "aDay", desc := "()V" } : Jvm.MethodName) ({ cls := "RumourBeds$Town", name := "aDay", desc := "()V" } : Jvm.MethodName)) ∈ lw_all := lw_g (lw_at lw_m3 83 rfl) rfl
theorem q646 : (Jvm.Cond.code ({ cls := "RumourBeds$Town", name := "aDay", desc := "()V" } : Jvm.MethodName) prog_14_method_19_code (3 : Nat) (Option.none : Option Jvm.ClassFile.FieldType)) ∈ lw_all := lw_g (lw_at lw_m3 84 rfl) rfl
theorem q647 : (Jvm.Cond.methodLink "RumourBeds$Town" (141 : Nat) ({ cls := "RumourBeds$Town", name := "lodges", desc := "(LRumourBeds$Rumour;)V" } : Jvm.MethodName)) ∈ lw_all := lw_g (lw_at lw_m3 85 rfl) rfl
theorem q648 : (Jvm.Cond.privateMethod ({ cls := "RumourBeds$Town", name := "lodges", desc := "(LRumourBeds$Rumour;)V" } : Jvm.MethodName)) ∈ lw_tbl := lw_at lw_m3 86 rfl
theorem q649 : (Jvm.Cond.instanceMethod ({ cls := "RumourBeds$Town", name := "lodges", desc := "(LRumourBeds$Rumour;)V" } : Jvm.MethodName)) ∈ lw_all := lw_g (lw_at lw_m3 87 rfl) rfl
theorem q650 : (Jvm.Cond.code ({ cls := "RumourBeds$Town", name := "lodges", desc := "(LRumourBeds$Rumour;)V" } : Jvm.MethodName) prog_14_method_15_code (4 : Nat) (Option.none : Option Jvm.ClassFile.FieldType)) ∈ lw_all := lw_g (lw_at lw_m3 88 rfl) rfl
theorem q651 : (Jvm.Cond.methodLink "RumourBeds$Town" (119 : Nat) ({ cls := "java/lang/Math", name := "max", desc := "(II)I" } : Jvm.MethodName)) ∈ lw_all := lw_g (lw_at lw_m3 89 rfl) rfl
theorem q652 : (Jvm.Cond.methodLink "RumourBeds$Town" (125 : Nat) ({ cls := "RumourBeds$Rumour", name := "grows", desc := "()I" } : Jvm.MethodName)) ∈ lw_all := lw_g (lw_at lw_m3 90 rfl) rfl
theorem q653 : (Jvm.Cond.methodLink "RumourBeds$Town" (144 : Nat) ({ cls := "java/lang/Math", name := "min", desc := "(II)I" } : Jvm.MethodName)) ∈ lw_all := lw_g (lw_at lw_m3 91 rfl) rfl
theorem q654 : (Jvm.Cond.methodLink "RumourBeds$Town" (147 : Nat) ({ cls := "RumourBeds$Town", name := "third", desc := "(I)V" } : Jvm.MethodName)) ∈ lw_all := lw_g (lw_at lw_m3 92 rfl) rfl
theorem q655 : (Jvm.Cond.privateMethod ({ cls := "RumourBeds$Town", name := "third", desc := "(I)V" } : Jvm.MethodName)) ∈ lw_tbl := lw_at lw_m3 93 rfl
theorem q656 : (Jvm.Cond.instanceMethod ({ cls := "RumourBeds$Town", name := "third", desc := "(I)V" } : Jvm.MethodName)) ∈ lw_all := lw_g (lw_at lw_m3 94 rfl) rfl
theorem q657 : (Jvm.Cond.code ({ cls := "RumourBeds$Town", name := "third", desc := "(I)V" } : Jvm.MethodName) prog_14_method_17_code (4 : Nat) (Option.none : Option Jvm.ClassFile.FieldType)) ∈ lw_all := lw_g (lw_at lw_m3 95 rfl) rfl
theorem q658 : (Jvm.Cond.methodLink "RumourBeds$Town" (128 : Nat) ({ cls := "RumourBeds$Town", name := "ofEvent", desc := "(II)I" } : Jvm.MethodName)) ∈ lw_all := lw_g (lw_at lw_m3 96 rfl) rfl
theorem q659 : (Jvm.Cond.privateMethod ({ cls := "RumourBeds$Town", name := "ofEvent", desc := "(II)I" } : Jvm.MethodName)) ∈ lw_tbl := lw_at lw_m3 97 rfl
theorem q660 : (Jvm.Cond.instanceMethod ({ cls := "RumourBeds$Town", name := "ofEvent", desc := "(II)I" } : Jvm.MethodName)) ∈ lw_all := lw_g (lw_at lw_m3 98 rfl) rfl
theorem q661 : (Jvm.Cond.code ({ cls := "RumourBeds$Town", name := "ofEvent", desc := "(II)I" } : Jvm.MethodName) prog_14_method_16_code (5 : Nat) (Option.some Jvm.ClassFile.FieldType.int)) ∈ lw_all := lw_g (lw_at lw_m3 99 rfl) rfl
theorem q662 : (Jvm.Cond.methodLink "RumourBeds$Town" (131 : Nat) ({ cls := "RumourBeds$Town", name := "half", desc := "(I)I" } : Jvm.MethodName)) ∈ lw_all := lw_g (lw_at lw_m3 100 rfl) rfl
theorem q663 : (Jvm.Cond.privateMethod ({ cls := "RumourBeds$Town", name := "half", desc := "(I)I" } : Jvm.MethodName)) ∈ lw_tbl := lw_at lw_m3 101 rfl
theorem q664 : (Jvm.Cond.instanceMethod ({ cls := "RumourBeds$Town", name := "half", desc := "(I)I" } : Jvm.MethodName)) ∈ lw_all := lw_g (lw_at lw_m3 102 rfl) rfl
theorem q665 : (Jvm.Cond.code ({ cls := "RumourBeds$Town", name := "half", desc := "(I)I" } : Jvm.MethodName) prog_14_method_18_code (4 : Nat) (Option.some Jvm.ClassFile.FieldType.int)) ∈ lw_all := lw_g (lw_at lw_m3 103 rfl) rfl
theorem q666 : (Jvm.Cond.methodLink "RumourBeds$Town" (138 : Nat) ({ cls := "java/lang/Integer", name := "numberOfTrailingZeros", desc := "(I)I" } : Jvm.MethodName)) ∈ lw_all := lw_g (lw_at lw_m3 104 rfl) rfl
theorem q670 : (Jvm.Cond.methodLink "RumourBeds$Town" (134 : Nat) ({ cls := "RumourBeds$Town", name := "comes", desc := "(III)LRumourBeds$Rumour;" } : Jvm.MethodName)) ∈ lw_all := lw_g (lw_at lw_m3 108 rfl) rfl
theorem q671 : (Jvm.Cond.methodLink "RumourBeds$Town" (150 : Nat) ({ cls := "RumourBeds$Town", name := "comesIn", desc := "(LRumourBeds$Rumour;)V" } : Jvm.MethodName)) ∈ lw_all := lw_g (lw_at lw_m3 109 rfl) rfl
theorem q682 : (Jvm.Cond.instanceMethod ({ cls := "RumourBeds$Town", name := "larders", desc := "()I" } : Jvm.MethodName)) ∈ lw_all := lw_g (lw_at lw_m3 120 rfl) rfl
theorem q683 : (Jvm.Cond.selects "RumourBeds$Town" ({ cls := "RumourBeds$Town", name := "larders", desc := "()I" } : Jvm.MethodName) ({ cls := "RumourBeds$Town", name := "larders", desc := "()I" } : Jvm.MethodName)) ∈ lw_all := lw_g (lw_at lw_m3 121 rfl) rfl
theorem q684 : (Jvm.Cond.code ({ cls := "RumourBeds$Town", name := "larders", desc := "()I" } : Jvm.MethodName) prog_14_method_21_code (3 : Nat) (Option.some Jvm.ClassFile.FieldType.int)) ∈ lw_all := lw_g (lw_at lw_m3 122 rfl) rfl
theorem q707 : (Jvm.Cond.instanceMethod ({ cls := "RumourBeds$Town", name := "become", desc := "(LRumourBeds$Town;)V" } : Jvm.MethodName)) ∈ lw_all := lw_g (lw_at lw_m3 145 rfl) rfl
theorem q708 : (Jvm.Cond.selects "RumourBeds$Town" ({ cls := "RumourBeds$Town", name := "become", desc := "(LRumourBeds$Town;)V" } : Jvm.MethodName) ({ cls := "RumourBeds$Town", name := "become", desc := "(LRumourBeds$Town;)V" } : Jvm.MethodName)) ∈ lw_all := lw_g (lw_at lw_m3 146 rfl) rfl
theorem q709 : (Jvm.Cond.code ({ cls := "RumourBeds$Town", name := "become", desc := "(LRumourBeds$Town;)V" } : Jvm.MethodName) prog_14_method_2_code (4 : Nat) (Option.none : Option Jvm.ClassFile.FieldType)) ∈ lw_all := lw_g (lw_at lw_m3 147 rfl) rfl
theorem q710 : (Jvm.Cond.methodLink "RumourBeds$Town" (42 : Nat) ({ cls := "java/lang/System", name := "arraycopy", desc := "(Ljava/lang/Object;ILjava/lang/Object;II)V" } : Jvm.MethodName)) ∈ lw_all := lw_g (lw_at lw_m3 148 rfl) rfl
theorem q711 : (Jvm.Cond.methodLink "RumourBeds$Town" (51 : Nat) ({ cls := "RumourBeds$Rumour", name := "kind", desc := "()I" } : Jvm.MethodName)) ∈ lw_all := lw_g (lw_at lw_m3 149 rfl) rfl
theorem in_X1 : ∀ w ∈ wsX10, w ∈ lw_all := lw_in wsX10 [153, 155, 157, 159, 161, 163, 165, 167] (by decide +kernel) (by decide +kernel)

/-! RumourBeds$Slot -/
set_option maxRecDepth 100000
def RX2 : String := "RumourBeds$Slot"
def TX2 : u_T := fun k => match k with
  | _ => ("RumourBeds$Slot", "held", "Ljava/lang/Object;", false)
def tyX2 : Nat → FieldType := fun k => match k with
  | _ => .object "java/lang/Object"
abbrev wsX20 : List Cond := u_ws RX2 TX2 1
theorem nmX2 : ∀ a, a < 1 → ∀ b, b < 1 → a ≠ b → (TX2 a).2.1 ≠ (TX2 b).2.1 := by decide +kernel
theorem tyX2_ok : ∀ k, k < 1 → parseFieldDescriptor (TX2 k).2.2.1 = some (tyX2 k) := by decide +kernel
abbrev cX2_init : ByteArray := prog_13_method_1_code
def yX2_init : MethodName := ⟨RX2, "<init>", "()V"⟩
theorem dX2_init_0 : decode cX2_init 0 = .ok (.aload_n 0, 1) := by decide +kernel
theorem dX2_init_1 : decode cX2_init 1 = .ok (.invokespecial 1, 3) := by decide +kernel
theorem dX2_init_4 : decode cX2_init 4 = .ok (.return_, 1) := by decide +kernel
theorem q85 : (Jvm.Cond.initialized "RumourBeds$Slot") ∈ lw_all := lw_g (lw_at lw_m1 3 rfl) rfl
theorem q124 : (Jvm.Cond.instantiable "RumourBeds$Slot" (1 : Nat)) ∈ lw_all := lw_g (lw_at lw_m1 42 rfl) rfl
theorem q126 : (Jvm.Cond.instanceMethod ({ cls := "RumourBeds$Slot", name := "<init>", desc := "()V" } : Jvm.MethodName)) ∈ lw_all := lw_g (lw_at lw_m1 44 rfl) rfl
theorem q127 : (Jvm.Cond.code ({ cls := "RumourBeds$Slot", name := "<init>", desc := "()V" } : Jvm.MethodName) prog_13_method_1_code (1 : Nat) (Option.none : Option Jvm.ClassFile.FieldType)) ∈ lw_all := lw_g (lw_at lw_m1 45 rfl) rfl
theorem q128 : (Jvm.Cond.methodLink "RumourBeds$Slot" (1 : Nat) ({ cls := "java/lang/Object", name := "<init>", desc := "()V" } : Jvm.MethodName)) ∈ lw_all := lw_g (lw_at lw_m1 46 rfl) rfl
theorem q131 : (Jvm.Cond.lays "RumourBeds$Slot" "RumourBeds$Slot" "held" "Ljava/lang/Object;") ∈ lw_all := lw_g (lw_at lw_m1 49 rfl) rfl
theorem q132 : (Jvm.Cond.soleField "RumourBeds$Slot" "held") ∈ lw_all := lw_g (lw_at lw_m1 50 rfl) rfl
theorem q133 : (Jvm.Cond.superclass "RumourBeds$Slot" "java/lang/Object") ∈ lw_all := lw_g (lw_at lw_m1 51 rfl) rfl
theorem in_X2 : ∀ w ∈ wsX20, w ∈ lw_all := lw_in wsX20 [131] (by decide +kernel) (by decide +kernel)

/-! RumourBeds$Finding -/
set_option maxRecDepth 100000
def RX4 : String := "RumourBeds$Finding"
def TX4 : u_T := fun k => match k with
  | 0 => ("java/lang/Throwable", "cause", "Ljava/lang/Throwable;", false)
  | 1 => ("java/lang/Throwable", "stackTrace", "[Ljava/lang/StackTraceElement;", false)
  | 2 => ("java/lang/Throwable", "suppressedExceptions", "Ljava/util/List;", false)
  | 3 => ("java/lang/Throwable", "detailMessage", "Ljava/lang/String;", false)
  | 4 => ("java/lang/Throwable", "backtrace", "Ljava/lang/Object;", false)
  | 5 => ("java/lang/Throwable", "depth", "I", false)
  | _ => ("RumourBeds$Finding", "which", "I", true)
def tyX4 : Nat → FieldType := fun k => match k with
  | 0 => .object "java/lang/Throwable"
  | 1 => .array (.object "java/lang/StackTraceElement")
  | 2 => .object "java/util/List"
  | 3 => .object "java/lang/String"
  | 4 => .object "java/lang/Object"
  | 5 => .int
  | _ => .int
abbrev wsX40 : List Cond := u_ws RX4 TX4 7
theorem nmX4 : ∀ a, a < 7 → ∀ b, b < 7 → a ≠ b → (TX4 a).2.1 ≠ (TX4 b).2.1 := by decide +kernel
theorem tyX4_ok : ∀ k, k < 7 → parseFieldDescriptor (TX4 k).2.2.1 = some (tyX4 k) := by decide +kernel
abbrev cX4_init : ByteArray := prog_6_method_1_code
def yX4_init : MethodName := ⟨RX4, "<init>", "(I)V"⟩
def dkwX4_init_0 : List UInt8 := [42, 1, 1, 3, 3, 183, 0, 1, 42, 27, 181, 0, 7, 177]
abbrev dktX4_init_0 : List UInt8 := dkwX4_init_0 ++ []
theorem dksX4_init_0 : cX4_init.data.toList.drop 0 = dktX4_init_0 := by decide +kernel
theorem dX4_init_0 : decode cX4_init 0 = .ok (.aload_n 0, 1) := dk_42 (dk_at dksX4_init_0 0 rfl rfl)
theorem dX4_init_1 : decode cX4_init 1 = .ok (.aconst_null, 1) := dk_1 (dk_at dksX4_init_0 1 rfl rfl)
theorem dX4_init_2 : decode cX4_init 2 = .ok (.aconst_null, 1) := dk_1 (dk_at dksX4_init_0 2 rfl rfl)
theorem dX4_init_3 : decode cX4_init 3 = .ok (.iconst 0, 1) := dk_3 (dk_at dksX4_init_0 3 rfl rfl)
theorem dX4_init_4 : decode cX4_init 4 = .ok (.iconst 0, 1) := dk_3 (dk_at dksX4_init_0 4 rfl rfl)
theorem dX4_init_5 : decode cX4_init 5 = .ok (.invokespecial 1, 3) := dk_183 0 1 (dk_at dksX4_init_0 5 rfl rfl)
theorem dX4_init_8 : decode cX4_init 8 = .ok (.aload_n 0, 1) := dk_42 (dk_at dksX4_init_0 8 rfl rfl)
theorem dX4_init_9 : decode cX4_init 9 = .ok (.iload_n 1, 1) := dk_27 (dk_at dksX4_init_0 9 rfl rfl)
theorem dX4_init_10 : decode cX4_init 10 = .ok (.putfield 7, 3) := dk_181 0 7 (dk_at dksX4_init_0 10 rfl rfl)
theorem dX4_init_13 : decode cX4_init 13 = .ok (.return_, 1) := dk_177 (dk_at dksX4_init_0 13 rfl rfl)
abbrev cX4_answer : ByteArray := prog_6_method_2_code
def yX4_answer : MethodName := ⟨RX4, "answer", "()I"⟩
def dkwX4_answer_0 : List UInt8 := [18, 13, 42, 180, 0, 7, 100, 172]
abbrev dktX4_answer_0 : List UInt8 := dkwX4_answer_0 ++ []
theorem dksX4_answer_0 : cX4_answer.data.toList.drop 0 = dktX4_answer_0 := by decide +kernel
theorem dX4_answer_0 : decode cX4_answer 0 = .ok (.ldc 13, 2) := dk_18 13 (dk_at dksX4_answer_0 0 rfl rfl)
theorem dX4_answer_2 : decode cX4_answer 2 = .ok (.aload_n 0, 1) := dk_42 (dk_at dksX4_answer_0 2 rfl rfl)
theorem dX4_answer_3 : decode cX4_answer 3 = .ok (.getfield 7, 3) := dk_180 0 7 (dk_at dksX4_answer_0 3 rfl rfl)
theorem dX4_answer_6 : decode cX4_answer 6 = .ok (.isub, 1) := dk_100 (dk_at dksX4_answer_0 6 rfl rfl)
theorem dX4_answer_7 : decode cX4_answer 7 = .ok (.ireturn, 1) := dk_172 (dk_at dksX4_answer_0 7 rfl rfl)
theorem q89 : (Jvm.Cond.initialized "RumourBeds$Finding") ∈ lw_all := lw_g (lw_at lw_m1 7 rfl) rfl
theorem q222 : (Jvm.Cond.instantiable "RumourBeds$Finding" (7 : Nat)) ∈ lw_all := lw_g (lw_at lw_m1 140 rfl) rfl
theorem q223 : (Jvm.Cond.castable "RumourBeds$Finding" "RumourBeds$Finding") ∈ lw_tbl := lw_at lw_m1 141 rfl
theorem q228 : (Jvm.Cond.selects "RumourBeds$Finding" ({ cls := "java/lang/Throwable", name := "fillInStackTrace", desc := "(I)Ljava/lang/Throwable;" } : Jvm.MethodName) ({ cls := "java/lang/Throwable", name := "fillInStackTrace", desc := "(I)Ljava/lang/Throwable;" } : Jvm.MethodName)) ∈ lw_all := lw_g (lw_at lw_m1 146 rfl) rfl
theorem q229 : (Jvm.Cond.selects "RumourBeds$Finding" ({ cls := "java/lang/Throwable", name := "fillInStackTrace", desc := "()Ljava/lang/Throwable;" } : Jvm.MethodName) ({ cls := "java/lang/Throwable", name := "fillInStackTrace", desc := "()Ljava/lang/Throwable;" } : Jvm.MethodName)) ∈ lw_all := lw_g (lw_at lw_m1 147 rfl) rfl
theorem q230 : (Jvm.Cond.lays "RumourBeds$Finding" "java/lang/Throwable" "cause" "Ljava/lang/Throwable;") ∈ lw_all := lw_g (lw_at lw_m1 148 rfl) rfl
theorem q232 : (Jvm.Cond.lays "RumourBeds$Finding" "java/lang/Throwable" "stackTrace" "[Ljava/lang/StackTraceElement;") ∈ lw_all := lw_g (lw_at lw_m1 150 rfl) rfl
theorem q234 : (Jvm.Cond.lays "RumourBeds$Finding" "java/lang/Throwable" "suppressedExceptions" "Ljava/util/List;") ∈ lw_all := lw_g (lw_at lw_m1 152 rfl) rfl
theorem q236 : (Jvm.Cond.lays "RumourBeds$Finding" "java/lang/Throwable" "detailMessage" "Ljava/lang/String;") ∈ lw_all := lw_g (lw_at lw_m1 154 rfl) rfl
theorem q238 : (Jvm.Cond.lays "RumourBeds$Finding" "java/lang/Throwable" "backtrace" "Ljava/lang/Object;") ∈ lw_all := lw_g (lw_at lw_m1 156 rfl) rfl
theorem q260 : (Jvm.Cond.instanceMethod ({ cls := "RumourBeds$Finding", name := "<init>", desc := "(I)V" } : Jvm.MethodName)) ∈ lw_all := lw_g (lw_at lw_m1 178 rfl) rfl
theorem q261 : (Jvm.Cond.code ({ cls := "RumourBeds$Finding", name := "<init>", desc := "(I)V" } : Jvm.MethodName) prog_6_method_1_code (2 : Nat) (Option.none : Option Jvm.ClassFile.FieldType)) ∈ lw_all := lw_g (lw_at lw_m1 179 rfl) rfl
theorem q262 : (Jvm.Cond.methodLink "RumourBeds$Finding" (1 : Nat) ({ cls := "java/lang/Exception", name := "<init>", desc := "(Ljava/lang/String;Ljava/lang/Throwable;ZZ)V" } : Jvm.MethodName)) ∈ lw_all := lw_g (lw_at lw_m1 180 rfl) rfl
theorem q268 : (Jvm.Cond.fieldLink "RumourBeds$Finding" (7 : Nat) "RumourBeds$Finding" "which" "I") ∈ lw_all := lw_g (lw_at lw_m1 186 rfl) rfl
theorem q275 : (Jvm.Cond.laysFinal "RumourBeds$Finding" "RumourBeds$Finding" "which" "I") ∈ lw_all := lw_g (lw_at lw_m1 193 rfl) rfl
theorem q276 : (Jvm.Cond.soleField "RumourBeds$Finding" "which") ∈ lw_all := lw_g (lw_at lw_m1 194 rfl) rfl
theorem q281 : (Jvm.Cond.lays "RumourBeds$Finding" "java/lang/Throwable" "depth" "I") ∈ lw_all := lw_g (lw_at lw_m1 199 rfl) rfl
theorem q284 : (Jvm.Cond.superclass "RumourBeds$Finding" "java/lang/Exception") ∈ lw_all := lw_g (lw_at lw_m1 202 rfl) rfl
theorem q294 : (Jvm.Cond.instanceMethod ({ cls := "RumourBeds$Finding", name := "answer", desc := "()I" } : Jvm.MethodName)) ∈ lw_all := lw_g (lw_at lw_m1 212 rfl) rfl
theorem q295 : (Jvm.Cond.selects "RumourBeds$Finding" ({ cls := "RumourBeds$Finding", name := "answer", desc := "()I" } : Jvm.MethodName) ({ cls := "RumourBeds$Finding", name := "answer", desc := "()I" } : Jvm.MethodName)) ∈ lw_all := lw_g (lw_at lw_m1 213 rfl) rfl
theorem q296 : (Jvm.Cond.code ({ cls := "RumourBeds$Finding", name := "answer", desc := "()I" } : Jvm.MethodName) prog_6_method_2_code (1 : Nat) (Option.some Jvm.ClassFile.FieldType.int)) ∈ lw_all := lw_g (lw_at lw_m1 214 rfl) rfl
theorem q297 : (Jvm.Cond.constant "RumourBeds$Finding" (13 : Nat) (-1000000001 : Int32)) ∈ lw_all := lw_g (lw_at lw_m1 215 rfl) rfl
theorem in_X4 : ∀ w ∈ wsX40, w ∈ lw_all := lw_in wsX40 [230, 232, 234, 236, 238, 281, 275] (by decide +kernel) (by decide +kernel)

/-! RumourBeds$Rumour -/
set_option maxRecDepth 100000
def RX5 : String := "RumourBeds$Rumour"
def TX5 : u_T := fun k => match k with
  | _ => ("RumourBeds$Rumour", "part", "[I", true)
def tyX5 : Nat → FieldType := fun k => match k with
  | _ => .array .int
abbrev wsX50 : List Cond := u_ws RX5 TX5 1
theorem nmX5 : ∀ a, a < 1 → ∀ b, b < 1 → a ≠ b → (TX5 a).2.1 ≠ (TX5 b).2.1 := by decide +kernel
theorem tyX5_ok : ∀ k, k < 1 → parseFieldDescriptor (TX5 k).2.2.1 = some (tyX5 k) := by decide +kernel
abbrev cX5_eats : ByteArray := prog_11_method_4_code
def yX5_eats : MethodName := ⟨RX5, "eats", "()I"⟩
def dkwX5_eats_0 : List UInt8 := [42, 180, 0, 9, 4, 46, 16, 10, 108, 4, 96, 172]
abbrev dktX5_eats_0 : List UInt8 := dkwX5_eats_0 ++ []
theorem dksX5_eats_0 : cX5_eats.data.toList.drop 0 = dktX5_eats_0 := by decide +kernel
theorem dX5_eats_0 : decode cX5_eats 0 = .ok (.aload_n 0, 1) := dk_42 (dk_at dksX5_eats_0 0 rfl rfl)
theorem dX5_eats_1 : decode cX5_eats 1 = .ok (.getfield 9, 3) := dk_180 0 9 (dk_at dksX5_eats_0 1 rfl rfl)
theorem dX5_eats_4 : decode cX5_eats 4 = .ok (.iconst 1, 1) := dk_4 (dk_at dksX5_eats_0 4 rfl rfl)
theorem dX5_eats_5 : decode cX5_eats 5 = .ok (.iaload, 1) := dk_46 (dk_at dksX5_eats_0 5 rfl rfl)
theorem dX5_eats_6 : decode cX5_eats 6 = .ok (.bipush 10, 2) := dk_16 10 (dk_at dksX5_eats_0 6 rfl rfl)
theorem dX5_eats_8 : decode cX5_eats 8 = .ok (.idiv, 1) := dk_108 (dk_at dksX5_eats_0 8 rfl rfl)
theorem dX5_eats_9 : decode cX5_eats 9 = .ok (.iconst 1, 1) := dk_4 (dk_at dksX5_eats_0 9 rfl rfl)
theorem dX5_eats_10 : decode cX5_eats 10 = .ok (.iadd, 1) := dk_96 (dk_at dksX5_eats_0 10 rfl rfl)
theorem dX5_eats_11 : decode cX5_eats 11 = .ok (.ireturn, 1) := dk_172 (dk_at dksX5_eats_0 11 rfl rfl)
abbrev cX5_init : ByteArray := prog_11_method_1_code
def yX5_init : MethodName := ⟨RX5, "<init>", "()V"⟩
def dkwX5_init_1 : List UInt8 := [79, 181, 0, 9, 177]
abbrev dktX5_init_1 : List UInt8 := dkwX5_init_1 ++ []
def dkwX5_init_0 : List UInt8 := [42, 183, 0, 3, 42, 7, 188, 10, 89, 3, 3, 79, 89, 4, 16, 10, 79, 89, 5, 3, 79, 89, 6, 2]
abbrev dktX5_init_0 : List UInt8 := dkwX5_init_0 ++ dktX5_init_1
theorem dksX5_init_0 : cX5_init.data.toList.drop 0 = dktX5_init_0 := by decide +kernel
theorem dksX5_init_1 : cX5_init.data.toList.drop 24 = dktX5_init_1 := dk_seg dksX5_init_0 24 rfl rfl
theorem dX5_init_0 : decode cX5_init 0 = .ok (.aload_n 0, 1) := dk_42 (dk_at dksX5_init_0 0 rfl rfl)
theorem dX5_init_1 : decode cX5_init 1 = .ok (.invokespecial 3, 3) := dk_183 0 3 (dk_at dksX5_init_0 1 rfl rfl)
theorem dX5_init_4 : decode cX5_init 4 = .ok (.aload_n 0, 1) := dk_42 (dk_at dksX5_init_0 4 rfl rfl)
theorem dX5_init_5 : decode cX5_init 5 = .ok (.iconst 4, 1) := dk_7 (dk_at dksX5_init_0 5 rfl rfl)
theorem dX5_init_6 : decode cX5_init 6 = .ok (.newarray .int, 2) := dk_188_10 (dk_at dksX5_init_0 6 rfl rfl)
theorem dX5_init_8 : decode cX5_init 8 = .ok (.dup, 1) := dk_89 (dk_at dksX5_init_0 8 rfl rfl)
theorem dX5_init_9 : decode cX5_init 9 = .ok (.iconst 0, 1) := dk_3 (dk_at dksX5_init_0 9 rfl rfl)
theorem dX5_init_10 : decode cX5_init 10 = .ok (.iconst 0, 1) := dk_3 (dk_at dksX5_init_0 10 rfl rfl)
theorem dX5_init_11 : decode cX5_init 11 = .ok (.iastore, 1) := dk_79 (dk_at dksX5_init_0 11 rfl rfl)
theorem dX5_init_12 : decode cX5_init 12 = .ok (.dup, 1) := dk_89 (dk_at dksX5_init_0 12 rfl rfl)
theorem dX5_init_13 : decode cX5_init 13 = .ok (.iconst 1, 1) := dk_4 (dk_at dksX5_init_0 13 rfl rfl)
theorem dX5_init_14 : decode cX5_init 14 = .ok (.bipush 10, 2) := dk_16 10 (dk_at dksX5_init_0 14 rfl rfl)
theorem dX5_init_16 : decode cX5_init 16 = .ok (.iastore, 1) := dk_79 (dk_at dksX5_init_0 16 rfl rfl)
theorem dX5_init_17 : decode cX5_init 17 = .ok (.dup, 1) := dk_89 (dk_at dksX5_init_0 17 rfl rfl)
theorem dX5_init_18 : decode cX5_init 18 = .ok (.iconst 2, 1) := dk_5 (dk_at dksX5_init_0 18 rfl rfl)
theorem dX5_init_19 : decode cX5_init 19 = .ok (.iconst 0, 1) := dk_3 (dk_at dksX5_init_0 19 rfl rfl)
theorem dX5_init_20 : decode cX5_init 20 = .ok (.iastore, 1) := dk_79 (dk_at dksX5_init_0 20 rfl rfl)
theorem dX5_init_21 : decode cX5_init 21 = .ok (.dup, 1) := dk_89 (dk_at dksX5_init_0 21 rfl rfl)
theorem dX5_init_22 : decode cX5_init 22 = .ok (.iconst 3, 1) := dk_6 (dk_at dksX5_init_0 22 rfl rfl)
theorem dX5_init_23 : decode cX5_init 23 = .ok (.iconst (-1), 1) := dk_2 (dk_at dksX5_init_0 23 rfl rfl)
theorem dX5_init_24 : decode cX5_init 24 = .ok (.iastore, 1) := dk_79 (dk_at dksX5_init_1 0 rfl rfl)
theorem dX5_init_25 : decode cX5_init 25 = .ok (.putfield 9, 3) := dk_181 0 9 (dk_at dksX5_init_1 1 rfl rfl)
theorem dX5_init_28 : decode cX5_init 28 = .ok (.return_, 1) := dk_177 (dk_at dksX5_init_1 4 rfl rfl)
abbrev cX5_kind : ByteArray := prog_11_method_2_code
def yX5_kind : MethodName := ⟨RX5, "kind", "()I"⟩
theorem dX5_kind_0 : decode cX5_kind 0 = .ok (.iconst 0, 1) := by decide +kernel
theorem dX5_kind_1 : decode cX5_kind 1 = .ok (.ireturn, 1) := by decide +kernel
abbrev cX5_grows : ByteArray := prog_11_method_5_code
def yX5_grows : MethodName := ⟨RX5, "grows", "()I"⟩
theorem dX5_grows_0 : decode cX5_grows 0 = .ok (.iconst 1, 1) := by decide +kernel
theorem dX5_grows_1 : decode cX5_grows 1 = .ok (.ireturn, 1) := by decide +kernel
abbrev cX5_like : ByteArray := prog_11_method_6_code
def yX5_like : MethodName := ⟨RX5, "like", "(LRumourBeds$Rumour;)V"⟩
def dkwX5_like_0 : List UInt8 := [43, 180, 0, 9, 3, 42, 180, 0, 9, 3, 42, 180, 0, 9, 190, 184, 0, 19, 177]
abbrev dktX5_like_0 : List UInt8 := dkwX5_like_0 ++ []
theorem dksX5_like_0 : cX5_like.data.toList.drop 0 = dktX5_like_0 := by decide +kernel
theorem dX5_like_0 : decode cX5_like 0 = .ok (.aload_n 1, 1) := dk_43 (dk_at dksX5_like_0 0 rfl rfl)
theorem dX5_like_1 : decode cX5_like 1 = .ok (.getfield 9, 3) := dk_180 0 9 (dk_at dksX5_like_0 1 rfl rfl)
theorem dX5_like_4 : decode cX5_like 4 = .ok (.iconst 0, 1) := dk_3 (dk_at dksX5_like_0 4 rfl rfl)
theorem dX5_like_5 : decode cX5_like 5 = .ok (.aload_n 0, 1) := dk_42 (dk_at dksX5_like_0 5 rfl rfl)
theorem dX5_like_6 : decode cX5_like 6 = .ok (.getfield 9, 3) := dk_180 0 9 (dk_at dksX5_like_0 6 rfl rfl)
theorem dX5_like_9 : decode cX5_like 9 = .ok (.iconst 0, 1) := dk_3 (dk_at dksX5_like_0 9 rfl rfl)
theorem dX5_like_10 : decode cX5_like 10 = .ok (.aload_n 0, 1) := dk_42 (dk_at dksX5_like_0 10 rfl rfl)
theorem dX5_like_11 : decode cX5_like 11 = .ok (.getfield 9, 3) := dk_180 0 9 (dk_at dksX5_like_0 11 rfl rfl)
theorem dX5_like_14 : decode cX5_like 14 = .ok (.arraylength, 1) := dk_190 (dk_at dksX5_like_0 14 rfl rfl)
theorem dX5_like_15 : decode cX5_like 15 = .ok (.invokestatic 19, 3) := dk_184 0 19 (dk_at dksX5_like_0 15 rfl rfl)
theorem dX5_like_18 : decode cX5_like 18 = .ok (.return_, 1) := dk_177 (dk_at dksX5_like_0 18 rfl rfl)
abbrev cX5_is : ByteArray := prog_11_method_3_code
def yX5_is : MethodName := ⟨RX5, "is", "(I)Z"⟩
def dkwX5_is_0 : List UInt8 := [27, 153, 0, 11, 27, 42, 182, 0, 15, 160, 0, 7, 4, 167, 0, 4, 3, 172]
abbrev dktX5_is_0 : List UInt8 := dkwX5_is_0 ++ []
theorem dksX5_is_0 : cX5_is.data.toList.drop 0 = dktX5_is_0 := by decide +kernel
theorem dX5_is_0 : decode cX5_is 0 = .ok (.iload_n 1, 1) := dk_27 (dk_at dksX5_is_0 0 rfl rfl)
theorem dX5_is_1 : decode cX5_is 1 = .ok (.ifCond .eq 11, 3) := dk_153 0 11 (dk_at dksX5_is_0 1 rfl rfl)
theorem dX5_is_4 : decode cX5_is 4 = .ok (.iload_n 1, 1) := dk_27 (dk_at dksX5_is_0 4 rfl rfl)
theorem dX5_is_5 : decode cX5_is 5 = .ok (.aload_n 0, 1) := dk_42 (dk_at dksX5_is_0 5 rfl rfl)
theorem dX5_is_6 : decode cX5_is 6 = .ok (.invokevirtual 15, 3) := dk_182 0 15 (dk_at dksX5_is_0 6 rfl rfl)
theorem dX5_is_9 : decode cX5_is 9 = .ok (.if_icmp .ne 7, 3) := dk_160 0 7 (dk_at dksX5_is_0 9 rfl rfl)
theorem dX5_is_12 : decode cX5_is 12 = .ok (.iconst 1, 1) := dk_4 (dk_at dksX5_is_0 12 rfl rfl)
theorem dX5_is_13 : decode cX5_is 13 = .ok (.goto 4, 3) := dk_167 0 4 (dk_at dksX5_is_0 13 rfl rfl)
theorem dX5_is_16 : decode cX5_is 16 = .ok (.iconst 0, 1) := dk_3 (dk_at dksX5_is_0 16 rfl rfl)
theorem dX5_is_17 : decode cX5_is 17 = .ok (.ireturn, 1) := dk_172 (dk_at dksX5_is_0 17 rfl rfl)
abbrev cX5_isIn : ByteArray := prog_11_method_7_code
def yX5_isIn : MethodName := ⟨RX5, "isIn", "()Z"⟩
def dkwX5_isIn_0 : List UInt8 := [42, 180, 0, 9, 6, 46, 155, 0, 7, 4, 167, 0, 4, 3, 172]
abbrev dktX5_isIn_0 : List UInt8 := dkwX5_isIn_0 ++ []
theorem dksX5_isIn_0 : cX5_isIn.data.toList.drop 0 = dktX5_isIn_0 := by decide +kernel
theorem dX5_isIn_0 : decode cX5_isIn 0 = .ok (.aload_n 0, 1) := dk_42 (dk_at dksX5_isIn_0 0 rfl rfl)
theorem dX5_isIn_1 : decode cX5_isIn 1 = .ok (.getfield 9, 3) := dk_180 0 9 (dk_at dksX5_isIn_0 1 rfl rfl)
theorem dX5_isIn_4 : decode cX5_isIn 4 = .ok (.iconst 3, 1) := dk_6 (dk_at dksX5_isIn_0 4 rfl rfl)
theorem dX5_isIn_5 : decode cX5_isIn 5 = .ok (.iaload, 1) := dk_46 (dk_at dksX5_isIn_0 5 rfl rfl)
theorem dX5_isIn_6 : decode cX5_isIn 6 = .ok (.ifCond .lt 7, 3) := dk_155 0 7 (dk_at dksX5_isIn_0 6 rfl rfl)
theorem dX5_isIn_9 : decode cX5_isIn 9 = .ok (.iconst 1, 1) := dk_4 (dk_at dksX5_isIn_0 9 rfl rfl)
theorem dX5_isIn_10 : decode cX5_isIn 10 = .ok (.goto 4, 3) := dk_167 0 4 (dk_at dksX5_isIn_0 10 rfl rfl)
theorem dX5_isIn_13 : decode cX5_isIn 13 = .ok (.iconst 0, 1) := dk_3 (dk_at dksX5_isIn_0 13 rfl rfl)
theorem dX5_isIn_14 : decode cX5_isIn 14 = .ok (.ireturn, 1) := dk_172 (dk_at dksX5_isIn_0 14 rfl rfl)
abbrev cX5_swells : ByteArray := prog_11_method_8_code
def yX5_swells : MethodName := ⟨RX5, "swells", "(I)V"⟩
def dkwX5_swells_0 : List UInt8 := [42, 180, 0, 9, 4, 16, 99, 42, 180, 0, 9, 4, 46, 27, 96, 184, 0, 25, 79, 177]
abbrev dktX5_swells_0 : List UInt8 := dkwX5_swells_0 ++ []
theorem dksX5_swells_0 : cX5_swells.data.toList.drop 0 = dktX5_swells_0 := by decide +kernel
theorem dX5_swells_0 : decode cX5_swells 0 = .ok (.aload_n 0, 1) := dk_42 (dk_at dksX5_swells_0 0 rfl rfl)
theorem dX5_swells_1 : decode cX5_swells 1 = .ok (.getfield 9, 3) := dk_180 0 9 (dk_at dksX5_swells_0 1 rfl rfl)
theorem dX5_swells_4 : decode cX5_swells 4 = .ok (.iconst 1, 1) := dk_4 (dk_at dksX5_swells_0 4 rfl rfl)
theorem dX5_swells_5 : decode cX5_swells 5 = .ok (.bipush 99, 2) := dk_16 99 (dk_at dksX5_swells_0 5 rfl rfl)
theorem dX5_swells_7 : decode cX5_swells 7 = .ok (.aload_n 0, 1) := dk_42 (dk_at dksX5_swells_0 7 rfl rfl)
theorem dX5_swells_8 : decode cX5_swells 8 = .ok (.getfield 9, 3) := dk_180 0 9 (dk_at dksX5_swells_0 8 rfl rfl)
theorem dX5_swells_11 : decode cX5_swells 11 = .ok (.iconst 1, 1) := dk_4 (dk_at dksX5_swells_0 11 rfl rfl)
theorem dX5_swells_12 : decode cX5_swells 12 = .ok (.iaload, 1) := dk_46 (dk_at dksX5_swells_0 12 rfl rfl)
theorem dX5_swells_13 : decode cX5_swells 13 = .ok (.iload_n 1, 1) := dk_27 (dk_at dksX5_swells_0 13 rfl rfl)
theorem dX5_swells_14 : decode cX5_swells 14 = .ok (.iadd, 1) := dk_96 (dk_at dksX5_swells_0 14 rfl rfl)
theorem dX5_swells_15 : decode cX5_swells 15 = .ok (.invokestatic 25, 3) := dk_184 0 25 (dk_at dksX5_swells_0 15 rfl rfl)
theorem dX5_swells_18 : decode cX5_swells 18 = .ok (.iastore, 1) := dk_79 (dk_at dksX5_swells_0 18 rfl rfl)
theorem dX5_swells_19 : decode cX5_swells 19 = .ok (.return_, 1) := dk_177 (dk_at dksX5_swells_0 19 rfl rfl)
theorem q91 : (Jvm.Cond.initialized "RumourBeds$Rumour") ∈ lw_all := lw_g (lw_at lw_m1 9 rfl) rfl
theorem q322 : (Jvm.Cond.instanceMethod ({ cls := "RumourBeds$Rumour", name := "eats", desc := "()I" } : Jvm.MethodName)) ∈ lw_all := lw_g (lw_at lw_m2 0 rfl) rfl
theorem q323 : (Jvm.Cond.selects "RumourBeds$Rumour" ({ cls := "RumourBeds$Rumour", name := "eats", desc := "()I" } : Jvm.MethodName) ({ cls := "RumourBeds$Rumour", name := "eats", desc := "()I" } : Jvm.MethodName)) ∈ lw_all := lw_g (lw_at lw_m2 1 rfl) rfl
theorem q324 : (Jvm.Cond.sameMethod "RumourBeds$Rumour" "RumourBeds$Rumour" "eats" "()I") ∈ lw_all := lw_g (lw_at lw_m2 2 rfl) rfl
theorem q351 : (Jvm.Cond.code ({ cls := "RumourBeds$Rumour", name := "eats", desc := "()I" } : Jvm.MethodName) prog_11_method_4_code (1 : Nat) (Option.some Jvm.ClassFile.FieldType.int)) ∈ lw_all := lw_g (lw_at lw_m2 29 rfl) rfl
theorem q372 : (Jvm.Cond.instantiable "RumourBeds$Rumour" (1 : Nat)) ∈ lw_all := lw_g (lw_at lw_m2 50 rfl) rfl
theorem q374 : (Jvm.Cond.instanceMethod ({ cls := "RumourBeds$Rumour", name := "<init>", desc := "()V" } : Jvm.MethodName)) ∈ lw_all := lw_g (lw_at lw_m2 52 rfl) rfl
theorem q375 : (Jvm.Cond.code ({ cls := "RumourBeds$Rumour", name := "<init>", desc := "()V" } : Jvm.MethodName) prog_11_method_1_code (1 : Nat) (Option.none : Option Jvm.ClassFile.FieldType)) ∈ lw_all := lw_g (lw_at lw_m2 53 rfl) rfl
theorem q376 : (Jvm.Cond.methodLink "RumourBeds$Rumour" (3 : Nat) ({ cls := "java/lang/Object", name := "<init>", desc := "()V" } : Jvm.MethodName)) ∈ lw_all := lw_g (lw_at lw_m2 54 rfl) rfl
theorem q377 : (Jvm.Cond.fieldLink "RumourBeds$Rumour" (9 : Nat) "RumourBeds$Rumour" "part" "[I") ∈ lw_all := lw_g (lw_at lw_m2 55 rfl) rfl
theorem q385 : (Jvm.Cond.laysFinal "RumourBeds$Rumour" "RumourBeds$Rumour" "part" "[I") ∈ lw_all := lw_g (lw_at lw_m2 63 rfl) rfl
theorem q386 : (Jvm.Cond.soleField "RumourBeds$Rumour" "part") ∈ lw_all := lw_g (lw_at lw_m2 64 rfl) rfl
theorem q387 : (Jvm.Cond.superclass "RumourBeds$Rumour" "java/lang/Object") ∈ lw_all := lw_g (lw_at lw_m2 65 rfl) rfl
theorem q433 : (Jvm.Cond.instanceMethod ({ cls := "RumourBeds$Rumour", name := "kind", desc := "()I" } : Jvm.MethodName)) ∈ lw_all := lw_g (lw_at lw_m2 111 rfl) rfl
theorem q434 : (Jvm.Cond.selects "RumourBeds$Rumour" ({ cls := "RumourBeds$Rumour", name := "kind", desc := "()I" } : Jvm.MethodName) ({ cls := "RumourBeds$Rumour", name := "kind", desc := "()I" } : Jvm.MethodName)) ∈ lw_all := lw_g (lw_at lw_m2 112 rfl) rfl
theorem q435 : (Jvm.Cond.sameMethod "RumourBeds$Rumour" "RumourBeds$Rumour" "kind" "()I") ∈ lw_all := lw_g (lw_at lw_m2 113 rfl) rfl
theorem q456 : (Jvm.Cond.code ({ cls := "RumourBeds$Rumour", name := "kind", desc := "()I" } : Jvm.MethodName) prog_11_method_2_code (1 : Nat) (Option.some Jvm.ClassFile.FieldType.int)) ∈ lw_all := lw_g (lw_at lw_m2 134 rfl) rfl
theorem q471 : (Jvm.Cond.unhidden "RumourBeds$Rumour" "needs" "()I") ∈ lw_tbl := lw_at lw_m2 149 rfl
theorem q481 : (Jvm.Cond.instanceMethod ({ cls := "RumourBeds$Rumour", name := "grows", desc := "()I" } : Jvm.MethodName)) ∈ lw_all := lw_g (lw_at lw_m2 159 rfl) rfl
theorem q482 : (Jvm.Cond.selects "RumourBeds$Rumour" ({ cls := "RumourBeds$Rumour", name := "grows", desc := "()I" } : Jvm.MethodName) ({ cls := "RumourBeds$Rumour", name := "grows", desc := "()I" } : Jvm.MethodName)) ∈ lw_all := lw_g (lw_at lw_m2 160 rfl) rfl
theorem q483 : (Jvm.Cond.sameMethod "RumourBeds$Rumour" "RumourBeds$Rumour" "grows" "()I") ∈ lw_all := lw_g (lw_at lw_m2 161 rfl) rfl
theorem q497 : (Jvm.Cond.code ({ cls := "RumourBeds$Rumour", name := "grows", desc := "()I" } : Jvm.MethodName) prog_11_method_5_code (1 : Nat) (Option.some Jvm.ClassFile.FieldType.int)) ∈ lw_all := lw_g (lw_at lw_m2 175 rfl) rfl
theorem q512 : (Jvm.Cond.instanceMethod ({ cls := "RumourBeds$Rumour", name := "like", desc := "(LRumourBeds$Rumour;)V" } : Jvm.MethodName)) ∈ lw_all := lw_g (lw_at lw_m2 190 rfl) rfl
theorem q513 : (Jvm.Cond.selects "RumourBeds$Rumour" ({ cls := "RumourBeds$Rumour", name := "like", desc := "(LRumourBeds$Rumour;)V" } : Jvm.MethodName) ({ cls := "RumourBeds$Rumour", name := "like", desc := "(LRumourBeds$Rumour;)V" } : Jvm.MethodName)) ∈ lw_all := lw_g (lw_at lw_m2 191 rfl) rfl
theorem q514 : (Jvm.Cond.sameMethod "RumourBeds$Rumour" "RumourBeds$Rumour" "like" "(LRumourBeds$Rumour;)V") ∈ lw_all := lw_g (lw_at lw_m2 192 rfl) rfl
theorem q520 : (Jvm.Cond.code ({ cls := "RumourBeds$Rumour", name := "like", desc := "(LRumourBeds$Rumour;)V" } : Jvm.MethodName) prog_11_method_6_code (2 : Nat) (Option.none : Option Jvm.ClassFile.FieldType)) ∈ lw_all := lw_g (lw_at lw_m2 198 rfl) rfl
theorem q521 : (Jvm.Cond.methodLink "RumourBeds$Rumour" (19 : Nat) ({ cls := "java/lang/System", name := "arraycopy", desc := "(Ljava/lang/Object;ILjava/lang/Object;II)V" } : Jvm.MethodName)) ∈ lw_all := lw_g (lw_at lw_m2 199 rfl) rfl
theorem q529 : (Jvm.Cond.instanceMethod ({ cls := "RumourBeds$Rumour", name := "is", desc := "(I)Z" } : Jvm.MethodName)) ∈ lw_all := lw_g (lw_at lw_m2 207 rfl) rfl
theorem q530 : (Jvm.Cond.selects "RumourBeds$Rumour" ({ cls := "RumourBeds$Rumour", name := "is", desc := "(I)Z" } : Jvm.MethodName) ({ cls := "RumourBeds$Rumour", name := "is", desc := "(I)Z" } : Jvm.MethodName)) ∈ lw_all := lw_g (lw_at lw_m2 208 rfl) rfl
theorem q531 : (Jvm.Cond.sameMethod "RumourBeds$Rumour" "RumourBeds$Rumour" "is" "(I)Z") ∈ lw_all := lw_g (lw_at lw_m2 209 rfl) rfl
theorem q543 : (Jvm.Cond.code ({ cls := "RumourBeds$Rumour", name := "is", desc := "(I)Z" } : Jvm.MethodName) prog_11_method_3_code (2 : Nat) (Option.some Jvm.ClassFile.FieldType.boolean)) ∈ lw_all := lw_g (lw_at lw_m2 221 rfl) rfl
theorem q544 : (Jvm.Cond.methodLink "RumourBeds$Rumour" (15 : Nat) ({ cls := "RumourBeds$Rumour", name := "kind", desc := "()I" } : Jvm.MethodName)) ∈ lw_all := lw_g (lw_at lw_m2 222 rfl) rfl
theorem q569 : (Jvm.Cond.instanceMethod ({ cls := "RumourBeds$Rumour", name := "isIn", desc := "()Z" } : Jvm.MethodName)) ∈ lw_all := lw_g (lw_at lw_m3 7 rfl) rfl
theorem q570 : (Jvm.Cond.selects "RumourBeds$Rumour" ({ cls := "RumourBeds$Rumour", name := "isIn", desc := "()Z" } : Jvm.MethodName) ({ cls := "RumourBeds$Rumour", name := "isIn", desc := "()Z" } : Jvm.MethodName)) ∈ lw_all := lw_g (lw_at lw_m3 8 rfl) rfl
theorem q571 : (Jvm.Cond.sameMethod "RumourBeds$Rumour" "RumourBeds$Rumour" "isIn" "()Z") ∈ lw_all := lw_g (lw_at lw_m3 9 rfl) rfl
theorem q577 : (Jvm.Cond.code ({ cls := "RumourBeds$Rumour", name := "isIn", desc := "()Z" } : Jvm.MethodName) prog_11_method_7_code (1 : Nat) (Option.some Jvm.ClassFile.FieldType.boolean)) ∈ lw_all := lw_g (lw_at lw_m3 15 rfl) rfl
theorem q609 : (Jvm.Cond.instanceMethod ({ cls := "RumourBeds$Rumour", name := "swells", desc := "(I)V" } : Jvm.MethodName)) ∈ lw_all := lw_g (lw_at lw_m3 47 rfl) rfl
theorem q610 : (Jvm.Cond.selects "RumourBeds$Rumour" ({ cls := "RumourBeds$Rumour", name := "swells", desc := "(I)V" } : Jvm.MethodName) ({ cls := "RumourBeds$Rumour", name := "swells", desc := "(I)V" } : Jvm.MethodName)) ∈ lw_all := lw_g (lw_at lw_m3 48 rfl) rfl
theorem q611 : (Jvm.Cond.sameMethod "RumourBeds$Rumour" "RumourBeds$Rumour" "swells" "(I)V") ∈ lw_all := lw_g (lw_at lw_m3 49 rfl) rfl
theorem q617 : (Jvm.Cond.code ({ cls := "RumourBeds$Rumour", name := "swells", desc := "(I)V" } : Jvm.MethodName) prog_11_method_8_code (2 : Nat) (Option.none : Option Jvm.ClassFile.FieldType)) ∈ lw_all := lw_g (lw_at lw_m3 55 rfl) rfl
theorem q618 : (Jvm.Cond.methodLink "RumourBeds$Rumour" (25 : Nat) ({ cls := "java/lang/Math", name := "min", desc := "(II)I" } : Jvm.MethodName)) ∈ lw_all := lw_g (lw_at lw_m3 56 rfl) rfl
theorem in_X5 : ∀ w ∈ wsX50, w ∈ lw_all := lw_in wsX50 [385] (by decide +kernel) (by decide +kernel)

/-! RumourBeds$Big -/
set_option maxRecDepth 100000
def RX6 : String := "RumourBeds$Big"
def TX6 : u_T := fun k => match k with
  | _ => ("RumourBeds$Rumour", "part", "[I", true)
def tyX6 : Nat → FieldType := fun k => match k with
  | _ => .array .int
abbrev wsX60 : List Cond := u_ws RX6 TX6 1
theorem nmX6 : ∀ a, a < 1 → ∀ b, b < 1 → a ≠ b → (TX6 a).2.1 ≠ (TX6 b).2.1 := by decide +kernel
theorem tyX6_ok : ∀ k, k < 1 → parseFieldDescriptor (TX6 k).2.2.1 = some (tyX6 k) := by decide +kernel
abbrev cX6_eats : ByteArray := prog_2_method_4_code
def yX6_eats : MethodName := ⟨RX6, "eats", "()I"⟩
def dkwX6_eats_0 : List UInt8 := [5, 42, 183, 0, 15, 104, 172]
abbrev dktX6_eats_0 : List UInt8 := dkwX6_eats_0 ++ []
theorem dksX6_eats_0 : cX6_eats.data.toList.drop 0 = dktX6_eats_0 := by decide +kernel
theorem dX6_eats_0 : decode cX6_eats 0 = .ok (.iconst 2, 1) := dk_5 (dk_at dksX6_eats_0 0 rfl rfl)
theorem dX6_eats_1 : decode cX6_eats 1 = .ok (.aload_n 0, 1) := dk_42 (dk_at dksX6_eats_0 1 rfl rfl)
theorem dX6_eats_2 : decode cX6_eats 2 = .ok (.invokespecial 15, 3) := dk_183 0 15 (dk_at dksX6_eats_0 2 rfl rfl)
theorem dX6_eats_5 : decode cX6_eats 5 = .ok (.imul, 1) := dk_104 (dk_at dksX6_eats_0 5 rfl rfl)
theorem dX6_eats_6 : decode cX6_eats 6 = .ok (.ireturn, 1) := dk_172 (dk_at dksX6_eats_0 6 rfl rfl)
abbrev cX6_init : ByteArray := prog_2_method_1_code
def yX6_init : MethodName := ⟨RX6, "<init>", "()V"⟩
theorem dX6_init_0 : decode cX6_init 0 = .ok (.aload_n 0, 1) := by decide +kernel
theorem dX6_init_1 : decode cX6_init 1 = .ok (.invokespecial 1, 3) := by decide +kernel
theorem dX6_init_4 : decode cX6_init 4 = .ok (.return_, 1) := by decide +kernel
abbrev cX6_kind : ByteArray := prog_2_method_2_code
def yX6_kind : MethodName := ⟨RX6, "kind", "()I"⟩
def dkwX6_kind_0 : List UInt8 := [42, 183, 0, 7, 4, 96, 172]
abbrev dktX6_kind_0 : List UInt8 := dkwX6_kind_0 ++ []
theorem dksX6_kind_0 : cX6_kind.data.toList.drop 0 = dktX6_kind_0 := by decide +kernel
theorem dX6_kind_0 : decode cX6_kind 0 = .ok (.aload_n 0, 1) := dk_42 (dk_at dksX6_kind_0 0 rfl rfl)
theorem dX6_kind_1 : decode cX6_kind 1 = .ok (.invokespecial 7, 3) := dk_183 0 7 (dk_at dksX6_kind_0 1 rfl rfl)
theorem dX6_kind_4 : decode cX6_kind 4 = .ok (.iconst 1, 1) := dk_4 (dk_at dksX6_kind_0 4 rfl rfl)
theorem dX6_kind_5 : decode cX6_kind 5 = .ok (.iadd, 1) := dk_96 (dk_at dksX6_kind_0 5 rfl rfl)
theorem dX6_kind_6 : decode cX6_kind 6 = .ok (.ireturn, 1) := dk_172 (dk_at dksX6_kind_0 6 rfl rfl)
abbrev cX6_needs : ByteArray := prog_2_method_5_code
def yX6_needs : MethodName := ⟨RX6, "needs", "()I"⟩
def dkwX6_needs_0 : List UInt8 := [42, 180, 0, 18, 4, 46, 16, 20, 162, 0, 7, 4, 167, 0, 7, 42, 183, 0, 24, 172]
abbrev dktX6_needs_0 : List UInt8 := dkwX6_needs_0 ++ []
theorem dksX6_needs_0 : cX6_needs.data.toList.drop 0 = dktX6_needs_0 := by decide +kernel
theorem dX6_needs_0 : decode cX6_needs 0 = .ok (.aload_n 0, 1) := dk_42 (dk_at dksX6_needs_0 0 rfl rfl)
theorem dX6_needs_1 : decode cX6_needs 1 = .ok (.getfield 18, 3) := dk_180 0 18 (dk_at dksX6_needs_0 1 rfl rfl)
theorem dX6_needs_4 : decode cX6_needs 4 = .ok (.iconst 1, 1) := dk_4 (dk_at dksX6_needs_0 4 rfl rfl)
theorem dX6_needs_5 : decode cX6_needs 5 = .ok (.iaload, 1) := dk_46 (dk_at dksX6_needs_0 5 rfl rfl)
theorem dX6_needs_6 : decode cX6_needs 6 = .ok (.bipush 20, 2) := dk_16 20 (dk_at dksX6_needs_0 6 rfl rfl)
theorem dX6_needs_8 : decode cX6_needs 8 = .ok (.if_icmp .ge 7, 3) := dk_162 0 7 (dk_at dksX6_needs_0 8 rfl rfl)
theorem dX6_needs_11 : decode cX6_needs 11 = .ok (.iconst 1, 1) := dk_4 (dk_at dksX6_needs_0 11 rfl rfl)
theorem dX6_needs_12 : decode cX6_needs 12 = .ok (.goto 7, 3) := dk_167 0 7 (dk_at dksX6_needs_0 12 rfl rfl)
theorem dX6_needs_15 : decode cX6_needs 15 = .ok (.aload_n 0, 1) := dk_42 (dk_at dksX6_needs_0 15 rfl rfl)
theorem dX6_needs_16 : decode cX6_needs 16 = .ok (.invokespecial 24, 3) := dk_183 0 24 (dk_at dksX6_needs_0 16 rfl rfl)
theorem dX6_needs_19 : decode cX6_needs 19 = .ok (.ireturn, 1) := dk_172 (dk_at dksX6_needs_0 19 rfl rfl)
abbrev cX6_grows : ByteArray := prog_2_method_6_code
def yX6_grows : MethodName := ⟨RX6, "grows", "()I"⟩
def dkwX6_grows_0 : List UInt8 := [42, 183, 0, 27, 42, 180, 0, 18, 4, 46, 16, 10, 108, 96, 172]
abbrev dktX6_grows_0 : List UInt8 := dkwX6_grows_0 ++ []
theorem dksX6_grows_0 : cX6_grows.data.toList.drop 0 = dktX6_grows_0 := by decide +kernel
theorem dX6_grows_0 : decode cX6_grows 0 = .ok (.aload_n 0, 1) := dk_42 (dk_at dksX6_grows_0 0 rfl rfl)
theorem dX6_grows_1 : decode cX6_grows 1 = .ok (.invokespecial 27, 3) := dk_183 0 27 (dk_at dksX6_grows_0 1 rfl rfl)
theorem dX6_grows_4 : decode cX6_grows 4 = .ok (.aload_n 0, 1) := dk_42 (dk_at dksX6_grows_0 4 rfl rfl)
theorem dX6_grows_5 : decode cX6_grows 5 = .ok (.getfield 18, 3) := dk_180 0 18 (dk_at dksX6_grows_0 5 rfl rfl)
theorem dX6_grows_8 : decode cX6_grows 8 = .ok (.iconst 1, 1) := dk_4 (dk_at dksX6_grows_0 8 rfl rfl)
theorem dX6_grows_9 : decode cX6_grows 9 = .ok (.iaload, 1) := dk_46 (dk_at dksX6_grows_0 9 rfl rfl)
theorem dX6_grows_10 : decode cX6_grows 10 = .ok (.bipush 10, 2) := dk_16 10 (dk_at dksX6_grows_0 10 rfl rfl)
theorem dX6_grows_12 : decode cX6_grows 12 = .ok (.idiv, 1) := dk_108 (dk_at dksX6_grows_0 12 rfl rfl)
theorem dX6_grows_13 : decode cX6_grows 13 = .ok (.iadd, 1) := dk_96 (dk_at dksX6_grows_0 13 rfl rfl)
theorem dX6_grows_14 : decode cX6_grows 14 = .ok (.ireturn, 1) := dk_172 (dk_at dksX6_grows_0 14 rfl rfl)
abbrev cX6_is : ByteArray := prog_2_method_3_code
def yX6_is : MethodName := ⟨RX6, "is", "(I)Z"⟩
def dkwX6_is_0 : List UInt8 := [27, 4, 159, 0, 11, 42, 27, 183, 0, 11, 153, 0, 7, 4, 167, 0, 4, 3, 172]
abbrev dktX6_is_0 : List UInt8 := dkwX6_is_0 ++ []
theorem dksX6_is_0 : cX6_is.data.toList.drop 0 = dktX6_is_0 := by decide +kernel
theorem dX6_is_0 : decode cX6_is 0 = .ok (.iload_n 1, 1) := dk_27 (dk_at dksX6_is_0 0 rfl rfl)
theorem dX6_is_1 : decode cX6_is 1 = .ok (.iconst 1, 1) := dk_4 (dk_at dksX6_is_0 1 rfl rfl)
theorem dX6_is_2 : decode cX6_is 2 = .ok (.if_icmp .eq 11, 3) := dk_159 0 11 (dk_at dksX6_is_0 2 rfl rfl)
theorem dX6_is_5 : decode cX6_is 5 = .ok (.aload_n 0, 1) := dk_42 (dk_at dksX6_is_0 5 rfl rfl)
theorem dX6_is_6 : decode cX6_is 6 = .ok (.iload_n 1, 1) := dk_27 (dk_at dksX6_is_0 6 rfl rfl)
theorem dX6_is_7 : decode cX6_is 7 = .ok (.invokespecial 11, 3) := dk_183 0 11 (dk_at dksX6_is_0 7 rfl rfl)
theorem dX6_is_10 : decode cX6_is 10 = .ok (.ifCond .eq 7, 3) := dk_153 0 7 (dk_at dksX6_is_0 10 rfl rfl)
theorem dX6_is_13 : decode cX6_is 13 = .ok (.iconst 1, 1) := dk_4 (dk_at dksX6_is_0 13 rfl rfl)
theorem dX6_is_14 : decode cX6_is 14 = .ok (.goto 4, 3) := dk_167 0 4 (dk_at dksX6_is_0 14 rfl rfl)
theorem dX6_is_17 : decode cX6_is 17 = .ok (.iconst 0, 1) := dk_3 (dk_at dksX6_is_0 17 rfl rfl)
theorem dX6_is_18 : decode cX6_is 18 = .ok (.ireturn, 1) := dk_172 (dk_at dksX6_is_0 18 rfl rfl)
theorem q92 : (Jvm.Cond.initialized "RumourBeds$Big") ∈ lw_all := lw_g (lw_at lw_m1 10 rfl) rfl
theorem q325 : (Jvm.Cond.selects "RumourBeds$Big" ({ cls := "RumourBeds$Rumour", name := "eats", desc := "()I" } : Jvm.MethodName) ({ cls := "RumourBeds$Big", name := "eats", desc := "()I" } : Jvm.MethodName)) ∈ lw_all := lw_g (lw_at lw_m2 3 rfl) rfl
theorem q326 : (Jvm.Cond.instanceMethod ({ cls := "RumourBeds$Big", name := "eats", desc := "()I" } : Jvm.MethodName)) ∈ lw_all := lw_g (lw_at lw_m2 4 rfl) rfl
theorem q327 : (Jvm.Cond.code ({ cls := "RumourBeds$Big", name := "eats", desc := "()I" } : Jvm.MethodName) prog_2_method_4_code (1 : Nat) (Option.some Jvm.ClassFile.FieldType.int)) ∈ lw_all := lw_g (lw_at lw_m2 5 rfl) rfl
theorem q328 : (Jvm.Cond.methodLink "RumourBeds$Big" (15 : Nat) ({ cls := "RumourBeds$Rumour", name := "eats", desc := "()I" } : Jvm.MethodName)) ∈ lw_all := lw_g (lw_at lw_m2 6 rfl) rfl
theorem q329 : (Jvm.Cond.superclass "RumourBeds$Big" "RumourBeds$Rumour") ∈ lw_all := lw_g (lw_at lw_m2 7 rfl) rfl
theorem q380 : (Jvm.Cond.fieldLink "RumourBeds$Big" (18 : Nat) "RumourBeds$Big" "part" "[I") ∈ lw_all := lw_g (lw_at lw_m2 58 rfl) rfl
theorem q381 : (Jvm.Cond.sameField "RumourBeds$Big" "RumourBeds$Rumour" "part" "[I") ∈ lw_all := lw_g (lw_at lw_m2 59 rfl) rfl
theorem q389 : (Jvm.Cond.instantiable "RumourBeds$Big" (1 : Nat)) ∈ lw_all := lw_g (lw_at lw_m2 67 rfl) rfl
theorem q391 : (Jvm.Cond.instanceMethod ({ cls := "RumourBeds$Big", name := "<init>", desc := "()V" } : Jvm.MethodName)) ∈ lw_all := lw_g (lw_at lw_m2 69 rfl) rfl
theorem q392 : (Jvm.Cond.code ({ cls := "RumourBeds$Big", name := "<init>", desc := "()V" } : Jvm.MethodName) prog_2_method_1_code (1 : Nat) (Option.none : Option Jvm.ClassFile.FieldType)) ∈ lw_all := lw_g (lw_at lw_m2 70 rfl) rfl
theorem q393 : (Jvm.Cond.methodLinkNest "RumourBeds$Big" (1 : Nat) ({ cls := "RumourBeds$Rumour", name := "<init>", desc := "()V" } : Jvm.MethodName) "RumourBeds") ∈ lw_tbl := lw_at lw_m2 71 rfl
theorem q394 : (Jvm.Cond.laysFinal "RumourBeds$Big" "RumourBeds$Rumour" "part" "[I") ∈ lw_all := lw_g (lw_at lw_m2 72 rfl) rfl
theorem q436 : (Jvm.Cond.selects "RumourBeds$Big" ({ cls := "RumourBeds$Rumour", name := "kind", desc := "()I" } : Jvm.MethodName) ({ cls := "RumourBeds$Big", name := "kind", desc := "()I" } : Jvm.MethodName)) ∈ lw_all := lw_g (lw_at lw_m2 114 rfl) rfl
theorem q437 : (Jvm.Cond.instanceMethod ({ cls := "RumourBeds$Big", name := "kind", desc := "()I" } : Jvm.MethodName)) ∈ lw_all := lw_g (lw_at lw_m2 115 rfl) rfl
theorem q438 : (Jvm.Cond.code ({ cls := "RumourBeds$Big", name := "kind", desc := "()I" } : Jvm.MethodName) prog_2_method_2_code (1 : Nat) (Option.some Jvm.ClassFile.FieldType.int)) ∈ lw_all := lw_g (lw_at lw_m2 116 rfl) rfl
theorem q439 : (Jvm.Cond.methodLink "RumourBeds$Big" (7 : Nat) ({ cls := "RumourBeds$Rumour", name := "kind", desc := "()I" } : Jvm.MethodName)) ∈ lw_all := lw_g (lw_at lw_m2 117 rfl) rfl
theorem q459 : (Jvm.Cond.selects "RumourBeds$Big" ({ cls := "RumourBeds$Needs", name := "needs", desc := "()I" } : Jvm.MethodName) ({ cls := "RumourBeds$Big", name := "needs", desc := "()I" } : Jvm.MethodName)) ∈ lw_all := lw_g (lw_at lw_m2 137 rfl) rfl
theorem q460 : (Jvm.Cond.instanceMethod ({ cls := "RumourBeds$Big", name := "needs", desc := "()I" } : Jvm.MethodName)) ∈ lw_all := lw_g (lw_at lw_m2 138 rfl) rfl
theorem q461 : (Jvm.Cond.code ({ cls := "RumourBeds$Big", name := "needs", desc := "()I" } : Jvm.MethodName) prog_2_method_5_code (1 : Nat) (Option.some Jvm.ClassFile.FieldType.int)) ∈ lw_all := lw_g (lw_at lw_m2 139 rfl) rfl
theorem q484 : (Jvm.Cond.selects "RumourBeds$Big" ({ cls := "RumourBeds$Rumour", name := "grows", desc := "()I" } : Jvm.MethodName) ({ cls := "RumourBeds$Big", name := "grows", desc := "()I" } : Jvm.MethodName)) ∈ lw_all := lw_g (lw_at lw_m2 162 rfl) rfl
theorem q485 : (Jvm.Cond.instanceMethod ({ cls := "RumourBeds$Big", name := "grows", desc := "()I" } : Jvm.MethodName)) ∈ lw_all := lw_g (lw_at lw_m2 163 rfl) rfl
theorem q486 : (Jvm.Cond.code ({ cls := "RumourBeds$Big", name := "grows", desc := "()I" } : Jvm.MethodName) prog_2_method_6_code (1 : Nat) (Option.some Jvm.ClassFile.FieldType.int)) ∈ lw_all := lw_g (lw_at lw_m2 164 rfl) rfl
theorem q487 : (Jvm.Cond.methodLink "RumourBeds$Big" (27 : Nat) ({ cls := "RumourBeds$Rumour", name := "grows", desc := "()I" } : Jvm.MethodName)) ∈ lw_all := lw_g (lw_at lw_m2 165 rfl) rfl
theorem q515 : (Jvm.Cond.selects "RumourBeds$Big" ({ cls := "RumourBeds$Rumour", name := "like", desc := "(LRumourBeds$Rumour;)V" } : Jvm.MethodName) ({ cls := "RumourBeds$Rumour", name := "like", desc := "(LRumourBeds$Rumour;)V" } : Jvm.MethodName)) ∈ lw_all := lw_g (lw_at lw_m2 193 rfl) rfl
theorem q532 : (Jvm.Cond.selects "RumourBeds$Big" ({ cls := "RumourBeds$Rumour", name := "is", desc := "(I)Z" } : Jvm.MethodName) ({ cls := "RumourBeds$Big", name := "is", desc := "(I)Z" } : Jvm.MethodName)) ∈ lw_all := lw_g (lw_at lw_m2 210 rfl) rfl
theorem q533 : (Jvm.Cond.instanceMethod ({ cls := "RumourBeds$Big", name := "is", desc := "(I)Z" } : Jvm.MethodName)) ∈ lw_all := lw_g (lw_at lw_m2 211 rfl) rfl
theorem q534 : (Jvm.Cond.code ({ cls := "RumourBeds$Big", name := "is", desc := "(I)Z" } : Jvm.MethodName) prog_2_method_3_code (2 : Nat) (Option.some Jvm.ClassFile.FieldType.boolean)) ∈ lw_all := lw_g (lw_at lw_m2 212 rfl) rfl
theorem q535 : (Jvm.Cond.methodLink "RumourBeds$Big" (11 : Nat) ({ cls := "RumourBeds$Rumour", name := "is", desc := "(I)Z" } : Jvm.MethodName)) ∈ lw_all := lw_g (lw_at lw_m2 213 rfl) rfl
theorem q572 : (Jvm.Cond.selects "RumourBeds$Big" ({ cls := "RumourBeds$Rumour", name := "isIn", desc := "()Z" } : Jvm.MethodName) ({ cls := "RumourBeds$Rumour", name := "isIn", desc := "()Z" } : Jvm.MethodName)) ∈ lw_all := lw_g (lw_at lw_m3 10 rfl) rfl
theorem q612 : (Jvm.Cond.selects "RumourBeds$Big" ({ cls := "RumourBeds$Rumour", name := "swells", desc := "(I)V" } : Jvm.MethodName) ({ cls := "RumourBeds$Rumour", name := "swells", desc := "(I)V" } : Jvm.MethodName)) ∈ lw_all := lw_g (lw_at lw_m3 50 rfl) rfl
theorem q1545 : (Jvm.Cond.sameMethod "RumourBeds$Big" "RumourBeds$Big" "eats" "()I") ∈ lw_all := lw_g (lw_at lw_m7 23 rfl) rfl
theorem q1547 : (Jvm.Cond.sameMethod "RumourBeds$Big" "RumourBeds$Big" "kind" "()I") ∈ lw_all := lw_g (lw_at lw_m7 25 rfl) rfl
theorem q1549 : (Jvm.Cond.sameMethod "RumourBeds$Big" "RumourBeds$Big" "needs" "()I") ∈ lw_all := lw_g (lw_at lw_m7 27 rfl) rfl
theorem q1551 : (Jvm.Cond.castable "RumourBeds$Big" "RumourBeds$Rumour") ∈ lw_tbl := lw_at lw_m7 29 rfl
theorem in_X6 : ∀ w ∈ wsX60, w ∈ lw_all := lw_in wsX60 [394] (by decide +kernel) (by decide +kernel)

/-! RumourBeds$Dull -/
set_option maxRecDepth 100000
def RX7 : String := "RumourBeds$Dull"
def TX7 : u_T := fun k => match k with
  | _ => ("RumourBeds$Rumour", "part", "[I", true)
def tyX7 : Nat → FieldType := fun k => match k with
  | _ => .array .int
abbrev wsX70 : List Cond := u_ws RX7 TX7 1
theorem nmX7 : ∀ a, a < 1 → ∀ b, b < 1 → a ≠ b → (TX7 a).2.1 ≠ (TX7 b).2.1 := by decide +kernel
theorem tyX7_ok : ∀ k, k < 1 → parseFieldDescriptor (TX7 k).2.2.1 = some (tyX7 k) := by decide +kernel
abbrev cX7_eats : ByteArray := prog_3_method_4_code
def yX7_eats : MethodName := ⟨RX7, "eats", "()I"⟩
theorem dX7_eats_0 : decode cX7_eats 0 = .ok (.iconst 1, 1) := by decide +kernel
theorem dX7_eats_1 : decode cX7_eats 1 = .ok (.ireturn, 1) := by decide +kernel
abbrev cX7_init : ByteArray := prog_3_method_1_code
def yX7_init : MethodName := ⟨RX7, "<init>", "()V"⟩
theorem dX7_init_0 : decode cX7_init 0 = .ok (.aload_n 0, 1) := by decide +kernel
theorem dX7_init_1 : decode cX7_init 1 = .ok (.invokespecial 1, 3) := by decide +kernel
theorem dX7_init_4 : decode cX7_init 4 = .ok (.return_, 1) := by decide +kernel
abbrev cX7_kind : ByteArray := prog_3_method_2_code
def yX7_kind : MethodName := ⟨RX7, "kind", "()I"⟩
def dkwX7_kind_0 : List UInt8 := [42, 183, 0, 7, 5, 96, 172]
abbrev dktX7_kind_0 : List UInt8 := dkwX7_kind_0 ++ []
theorem dksX7_kind_0 : cX7_kind.data.toList.drop 0 = dktX7_kind_0 := by decide +kernel
theorem dX7_kind_0 : decode cX7_kind 0 = .ok (.aload_n 0, 1) := dk_42 (dk_at dksX7_kind_0 0 rfl rfl)
theorem dX7_kind_1 : decode cX7_kind 1 = .ok (.invokespecial 7, 3) := dk_183 0 7 (dk_at dksX7_kind_0 1 rfl rfl)
theorem dX7_kind_4 : decode cX7_kind 4 = .ok (.iconst 2, 1) := dk_5 (dk_at dksX7_kind_0 4 rfl rfl)
theorem dX7_kind_5 : decode cX7_kind 5 = .ok (.iadd, 1) := dk_96 (dk_at dksX7_kind_0 5 rfl rfl)
theorem dX7_kind_6 : decode cX7_kind 6 = .ok (.ireturn, 1) := dk_172 (dk_at dksX7_kind_0 6 rfl rfl)
abbrev cX7_needs : ByteArray := prog_3_method_5_code
def yX7_needs : MethodName := ⟨RX7, "needs", "()I"⟩
def dkwX7_needs_0 : List UInt8 := [5, 42, 183, 0, 15, 104, 172]
abbrev dktX7_needs_0 : List UInt8 := dkwX7_needs_0 ++ []
theorem dksX7_needs_0 : cX7_needs.data.toList.drop 0 = dktX7_needs_0 := by decide +kernel
theorem dX7_needs_0 : decode cX7_needs 0 = .ok (.iconst 2, 1) := dk_5 (dk_at dksX7_needs_0 0 rfl rfl)
theorem dX7_needs_1 : decode cX7_needs 1 = .ok (.aload_n 0, 1) := dk_42 (dk_at dksX7_needs_0 1 rfl rfl)
theorem dX7_needs_2 : decode cX7_needs 2 = .ok (.invokespecial 15, 3) := dk_183 0 15 (dk_at dksX7_needs_0 2 rfl rfl)
theorem dX7_needs_5 : decode cX7_needs 5 = .ok (.imul, 1) := dk_104 (dk_at dksX7_needs_0 5 rfl rfl)
theorem dX7_needs_6 : decode cX7_needs 6 = .ok (.ireturn, 1) := dk_172 (dk_at dksX7_needs_0 6 rfl rfl)
abbrev cX7_grows : ByteArray := prog_3_method_6_code
def yX7_grows : MethodName := ⟨RX7, "grows", "()I"⟩
theorem dX7_grows_0 : decode cX7_grows 0 = .ok (.iconst 0, 1) := by decide +kernel
theorem dX7_grows_1 : decode cX7_grows 1 = .ok (.ireturn, 1) := by decide +kernel
abbrev cX7_is : ByteArray := prog_3_method_3_code
def yX7_is : MethodName := ⟨RX7, "is", "(I)Z"⟩
def dkwX7_is_0 : List UInt8 := [27, 5, 159, 0, 11, 42, 27, 183, 0, 11, 153, 0, 7, 4, 167, 0, 4, 3, 172]
abbrev dktX7_is_0 : List UInt8 := dkwX7_is_0 ++ []
theorem dksX7_is_0 : cX7_is.data.toList.drop 0 = dktX7_is_0 := by decide +kernel
theorem dX7_is_0 : decode cX7_is 0 = .ok (.iload_n 1, 1) := dk_27 (dk_at dksX7_is_0 0 rfl rfl)
theorem dX7_is_1 : decode cX7_is 1 = .ok (.iconst 2, 1) := dk_5 (dk_at dksX7_is_0 1 rfl rfl)
theorem dX7_is_2 : decode cX7_is 2 = .ok (.if_icmp .eq 11, 3) := dk_159 0 11 (dk_at dksX7_is_0 2 rfl rfl)
theorem dX7_is_5 : decode cX7_is 5 = .ok (.aload_n 0, 1) := dk_42 (dk_at dksX7_is_0 5 rfl rfl)
theorem dX7_is_6 : decode cX7_is 6 = .ok (.iload_n 1, 1) := dk_27 (dk_at dksX7_is_0 6 rfl rfl)
theorem dX7_is_7 : decode cX7_is 7 = .ok (.invokespecial 11, 3) := dk_183 0 11 (dk_at dksX7_is_0 7 rfl rfl)
theorem dX7_is_10 : decode cX7_is 10 = .ok (.ifCond .eq 7, 3) := dk_153 0 7 (dk_at dksX7_is_0 10 rfl rfl)
theorem dX7_is_13 : decode cX7_is 13 = .ok (.iconst 1, 1) := dk_4 (dk_at dksX7_is_0 13 rfl rfl)
theorem dX7_is_14 : decode cX7_is 14 = .ok (.goto 4, 3) := dk_167 0 4 (dk_at dksX7_is_0 14 rfl rfl)
theorem dX7_is_17 : decode cX7_is 17 = .ok (.iconst 0, 1) := dk_3 (dk_at dksX7_is_0 17 rfl rfl)
theorem dX7_is_18 : decode cX7_is 18 = .ok (.ireturn, 1) := dk_172 (dk_at dksX7_is_0 18 rfl rfl)
theorem q93 : (Jvm.Cond.initialized "RumourBeds$Dull") ∈ lw_all := lw_g (lw_at lw_m1 11 rfl) rfl
theorem q330 : (Jvm.Cond.selects "RumourBeds$Dull" ({ cls := "RumourBeds$Rumour", name := "eats", desc := "()I" } : Jvm.MethodName) ({ cls := "RumourBeds$Dull", name := "eats", desc := "()I" } : Jvm.MethodName)) ∈ lw_all := lw_g (lw_at lw_m2 8 rfl) rfl
theorem q331 : (Jvm.Cond.instanceMethod ({ cls := "RumourBeds$Dull", name := "eats", desc := "()I" } : Jvm.MethodName)) ∈ lw_all := lw_g (lw_at lw_m2 9 rfl) rfl
theorem q332 : (Jvm.Cond.code ({ cls := "RumourBeds$Dull", name := "eats", desc := "()I" } : Jvm.MethodName) prog_3_method_4_code (1 : Nat) (Option.some Jvm.ClassFile.FieldType.int)) ∈ lw_all := lw_g (lw_at lw_m2 10 rfl) rfl
theorem q396 : (Jvm.Cond.instantiable "RumourBeds$Dull" (1 : Nat)) ∈ lw_all := lw_g (lw_at lw_m2 74 rfl) rfl
theorem q398 : (Jvm.Cond.instanceMethod ({ cls := "RumourBeds$Dull", name := "<init>", desc := "()V" } : Jvm.MethodName)) ∈ lw_all := lw_g (lw_at lw_m2 76 rfl) rfl
theorem q399 : (Jvm.Cond.code ({ cls := "RumourBeds$Dull", name := "<init>", desc := "()V" } : Jvm.MethodName) prog_3_method_1_code (1 : Nat) (Option.none : Option Jvm.ClassFile.FieldType)) ∈ lw_all := lw_g (lw_at lw_m2 77 rfl) rfl
theorem q400 : (Jvm.Cond.methodLinkNest "RumourBeds$Dull" (1 : Nat) ({ cls := "RumourBeds$Rumour", name := "<init>", desc := "()V" } : Jvm.MethodName) "RumourBeds") ∈ lw_tbl := lw_at lw_m2 78 rfl
theorem q401 : (Jvm.Cond.laysFinal "RumourBeds$Dull" "RumourBeds$Rumour" "part" "[I") ∈ lw_all := lw_g (lw_at lw_m2 79 rfl) rfl
theorem q402 : (Jvm.Cond.superclass "RumourBeds$Dull" "RumourBeds$Rumour") ∈ lw_all := lw_g (lw_at lw_m2 80 rfl) rfl
theorem q440 : (Jvm.Cond.selects "RumourBeds$Dull" ({ cls := "RumourBeds$Rumour", name := "kind", desc := "()I" } : Jvm.MethodName) ({ cls := "RumourBeds$Dull", name := "kind", desc := "()I" } : Jvm.MethodName)) ∈ lw_all := lw_g (lw_at lw_m2 118 rfl) rfl
theorem q441 : (Jvm.Cond.instanceMethod ({ cls := "RumourBeds$Dull", name := "kind", desc := "()I" } : Jvm.MethodName)) ∈ lw_all := lw_g (lw_at lw_m2 119 rfl) rfl
theorem q442 : (Jvm.Cond.code ({ cls := "RumourBeds$Dull", name := "kind", desc := "()I" } : Jvm.MethodName) prog_3_method_2_code (1 : Nat) (Option.some Jvm.ClassFile.FieldType.int)) ∈ lw_all := lw_g (lw_at lw_m2 120 rfl) rfl
theorem q443 : (Jvm.Cond.methodLink "RumourBeds$Dull" (7 : Nat) ({ cls := "RumourBeds$Rumour", name := "kind", desc := "()I" } : Jvm.MethodName)) ∈ lw_all := lw_g (lw_at lw_m2 121 rfl) rfl
theorem q464 : (Jvm.Cond.selects "RumourBeds$Dull" ({ cls := "RumourBeds$Needs", name := "needs", desc := "()I" } : Jvm.MethodName) ({ cls := "RumourBeds$Dull", name := "needs", desc := "()I" } : Jvm.MethodName)) ∈ lw_all := lw_g (lw_at lw_m2 142 rfl) rfl
theorem q465 : (Jvm.Cond.instanceMethod ({ cls := "RumourBeds$Dull", name := "needs", desc := "()I" } : Jvm.MethodName)) ∈ lw_all := lw_g (lw_at lw_m2 143 rfl) rfl
theorem q466 : (Jvm.Cond.code ({ cls := "RumourBeds$Dull", name := "needs", desc := "()I" } : Jvm.MethodName) prog_3_method_5_code (1 : Nat) (Option.some Jvm.ClassFile.FieldType.int)) ∈ lw_all := lw_g (lw_at lw_m2 144 rfl) rfl
theorem q488 : (Jvm.Cond.selects "RumourBeds$Dull" ({ cls := "RumourBeds$Rumour", name := "grows", desc := "()I" } : Jvm.MethodName) ({ cls := "RumourBeds$Dull", name := "grows", desc := "()I" } : Jvm.MethodName)) ∈ lw_all := lw_g (lw_at lw_m2 166 rfl) rfl
theorem q489 : (Jvm.Cond.instanceMethod ({ cls := "RumourBeds$Dull", name := "grows", desc := "()I" } : Jvm.MethodName)) ∈ lw_all := lw_g (lw_at lw_m2 167 rfl) rfl
theorem q490 : (Jvm.Cond.code ({ cls := "RumourBeds$Dull", name := "grows", desc := "()I" } : Jvm.MethodName) prog_3_method_6_code (1 : Nat) (Option.some Jvm.ClassFile.FieldType.int)) ∈ lw_all := lw_g (lw_at lw_m2 168 rfl) rfl
theorem q516 : (Jvm.Cond.selects "RumourBeds$Dull" ({ cls := "RumourBeds$Rumour", name := "like", desc := "(LRumourBeds$Rumour;)V" } : Jvm.MethodName) ({ cls := "RumourBeds$Rumour", name := "like", desc := "(LRumourBeds$Rumour;)V" } : Jvm.MethodName)) ∈ lw_all := lw_g (lw_at lw_m2 194 rfl) rfl
theorem q536 : (Jvm.Cond.selects "RumourBeds$Dull" ({ cls := "RumourBeds$Rumour", name := "is", desc := "(I)Z" } : Jvm.MethodName) ({ cls := "RumourBeds$Dull", name := "is", desc := "(I)Z" } : Jvm.MethodName)) ∈ lw_all := lw_g (lw_at lw_m2 214 rfl) rfl
theorem q537 : (Jvm.Cond.instanceMethod ({ cls := "RumourBeds$Dull", name := "is", desc := "(I)Z" } : Jvm.MethodName)) ∈ lw_all := lw_g (lw_at lw_m2 215 rfl) rfl
theorem q538 : (Jvm.Cond.code ({ cls := "RumourBeds$Dull", name := "is", desc := "(I)Z" } : Jvm.MethodName) prog_3_method_3_code (2 : Nat) (Option.some Jvm.ClassFile.FieldType.boolean)) ∈ lw_all := lw_g (lw_at lw_m2 216 rfl) rfl
theorem q539 : (Jvm.Cond.methodLink "RumourBeds$Dull" (11 : Nat) ({ cls := "RumourBeds$Rumour", name := "is", desc := "(I)Z" } : Jvm.MethodName)) ∈ lw_all := lw_g (lw_at lw_m2 217 rfl) rfl
theorem q573 : (Jvm.Cond.selects "RumourBeds$Dull" ({ cls := "RumourBeds$Rumour", name := "isIn", desc := "()Z" } : Jvm.MethodName) ({ cls := "RumourBeds$Rumour", name := "isIn", desc := "()Z" } : Jvm.MethodName)) ∈ lw_all := lw_g (lw_at lw_m3 11 rfl) rfl
theorem q613 : (Jvm.Cond.selects "RumourBeds$Dull" ({ cls := "RumourBeds$Rumour", name := "swells", desc := "(I)V" } : Jvm.MethodName) ({ cls := "RumourBeds$Rumour", name := "swells", desc := "(I)V" } : Jvm.MethodName)) ∈ lw_all := lw_g (lw_at lw_m3 51 rfl) rfl
theorem q1546 : (Jvm.Cond.sameMethod "RumourBeds$Dull" "RumourBeds$Dull" "eats" "()I") ∈ lw_all := lw_g (lw_at lw_m7 24 rfl) rfl
theorem q1548 : (Jvm.Cond.sameMethod "RumourBeds$Dull" "RumourBeds$Dull" "kind" "()I") ∈ lw_all := lw_g (lw_at lw_m7 26 rfl) rfl
theorem q1550 : (Jvm.Cond.sameMethod "RumourBeds$Dull" "RumourBeds$Dull" "needs" "()I") ∈ lw_all := lw_g (lw_at lw_m7 28 rfl) rfl
theorem q1552 : (Jvm.Cond.castable "RumourBeds$Dull" "RumourBeds$Rumour") ∈ lw_tbl := lw_at lw_m7 30 rfl
theorem in_X7 : ∀ w ∈ wsX70, w ∈ lw_all := lw_in wsX70 [401] (by decide +kernel) (by decide +kernel)

/-! RumourBeds$Shy -/
set_option maxRecDepth 100000
def RX8 : String := "RumourBeds$Shy"
def TX8 : u_T := fun k => match k with
  | _ => ("RumourBeds$Rumour", "part", "[I", true)
def tyX8 : Nat → FieldType := fun k => match k with
  | _ => .array .int
abbrev wsX80 : List Cond := u_ws RX8 TX8 1
theorem nmX8 : ∀ a, a < 1 → ∀ b, b < 1 → a ≠ b → (TX8 a).2.1 ≠ (TX8 b).2.1 := by decide +kernel
theorem tyX8_ok : ∀ k, k < 1 → parseFieldDescriptor (TX8 k).2.2.1 = some (tyX8 k) := by decide +kernel
abbrev cX8_eats : ByteArray := prog_12_method_3_code
def yX8_eats : MethodName := ⟨RX8, "eats", "()I"⟩
def dkwX8_eats_0 : List UInt8 := [3, 42, 183, 0, 11, 42, 180, 0, 14, 5, 46, 16, 10, 108, 100, 184, 0, 20, 172]
abbrev dktX8_eats_0 : List UInt8 := dkwX8_eats_0 ++ []
theorem dksX8_eats_0 : cX8_eats.data.toList.drop 0 = dktX8_eats_0 := by decide +kernel
theorem dX8_eats_0 : decode cX8_eats 0 = .ok (.iconst 0, 1) := dk_3 (dk_at dksX8_eats_0 0 rfl rfl)
theorem dX8_eats_1 : decode cX8_eats 1 = .ok (.aload_n 0, 1) := dk_42 (dk_at dksX8_eats_0 1 rfl rfl)
theorem dX8_eats_2 : decode cX8_eats 2 = .ok (.invokespecial 11, 3) := dk_183 0 11 (dk_at dksX8_eats_0 2 rfl rfl)
theorem dX8_eats_5 : decode cX8_eats 5 = .ok (.aload_n 0, 1) := dk_42 (dk_at dksX8_eats_0 5 rfl rfl)
theorem dX8_eats_6 : decode cX8_eats 6 = .ok (.getfield 14, 3) := dk_180 0 14 (dk_at dksX8_eats_0 6 rfl rfl)
theorem dX8_eats_9 : decode cX8_eats 9 = .ok (.iconst 2, 1) := dk_5 (dk_at dksX8_eats_0 9 rfl rfl)
theorem dX8_eats_10 : decode cX8_eats 10 = .ok (.iaload, 1) := dk_46 (dk_at dksX8_eats_0 10 rfl rfl)
theorem dX8_eats_11 : decode cX8_eats 11 = .ok (.bipush 10, 2) := dk_16 10 (dk_at dksX8_eats_0 11 rfl rfl)
theorem dX8_eats_13 : decode cX8_eats 13 = .ok (.idiv, 1) := dk_108 (dk_at dksX8_eats_0 13 rfl rfl)
theorem dX8_eats_14 : decode cX8_eats 14 = .ok (.isub, 1) := dk_100 (dk_at dksX8_eats_0 14 rfl rfl)
theorem dX8_eats_15 : decode cX8_eats 15 = .ok (.invokestatic 20, 3) := dk_184 0 20 (dk_at dksX8_eats_0 15 rfl rfl)
theorem dX8_eats_18 : decode cX8_eats 18 = .ok (.ireturn, 1) := dk_172 (dk_at dksX8_eats_0 18 rfl rfl)
abbrev cX8_init : ByteArray := prog_12_method_1_code
def yX8_init : MethodName := ⟨RX8, "<init>", "()V"⟩
theorem dX8_init_0 : decode cX8_init 0 = .ok (.aload_n 0, 1) := by decide +kernel
theorem dX8_init_1 : decode cX8_init 1 = .ok (.invokespecial 1, 3) := by decide +kernel
theorem dX8_init_4 : decode cX8_init 4 = .ok (.return_, 1) := by decide +kernel
abbrev cX8_kind : ByteArray := prog_12_method_2_code
def yX8_kind : MethodName := ⟨RX8, "kind", "()I"⟩
def dkwX8_kind_0 : List UInt8 := [42, 183, 0, 7, 6, 96, 172]
abbrev dktX8_kind_0 : List UInt8 := dkwX8_kind_0 ++ []
theorem dksX8_kind_0 : cX8_kind.data.toList.drop 0 = dktX8_kind_0 := by decide +kernel
theorem dX8_kind_0 : decode cX8_kind 0 = .ok (.aload_n 0, 1) := dk_42 (dk_at dksX8_kind_0 0 rfl rfl)
theorem dX8_kind_1 : decode cX8_kind 1 = .ok (.invokespecial 7, 3) := dk_183 0 7 (dk_at dksX8_kind_0 1 rfl rfl)
theorem dX8_kind_4 : decode cX8_kind 4 = .ok (.iconst 3, 1) := dk_6 (dk_at dksX8_kind_0 4 rfl rfl)
theorem dX8_kind_5 : decode cX8_kind 5 = .ok (.iadd, 1) := dk_96 (dk_at dksX8_kind_0 5 rfl rfl)
theorem dX8_kind_6 : decode cX8_kind 6 = .ok (.ireturn, 1) := dk_172 (dk_at dksX8_kind_0 6 rfl rfl)
abbrev cX8_needs : ByteArray := prog_12_method_4_code
def yX8_needs : MethodName := ⟨RX8, "needs", "()I"⟩
def dkwX8_needs_0 : List UInt8 := [42, 183, 0, 26, 4, 96, 172]
abbrev dktX8_needs_0 : List UInt8 := dkwX8_needs_0 ++ []
theorem dksX8_needs_0 : cX8_needs.data.toList.drop 0 = dktX8_needs_0 := by decide +kernel
theorem dX8_needs_0 : decode cX8_needs 0 = .ok (.aload_n 0, 1) := dk_42 (dk_at dksX8_needs_0 0 rfl rfl)
theorem dX8_needs_1 : decode cX8_needs 1 = .ok (.invokespecial 26, 3) := dk_183 0 26 (dk_at dksX8_needs_0 1 rfl rfl)
theorem dX8_needs_4 : decode cX8_needs 4 = .ok (.iconst 1, 1) := dk_4 (dk_at dksX8_needs_0 4 rfl rfl)
theorem dX8_needs_5 : decode cX8_needs 5 = .ok (.iadd, 1) := dk_96 (dk_at dksX8_needs_0 5 rfl rfl)
theorem dX8_needs_6 : decode cX8_needs 6 = .ok (.ireturn, 1) := dk_172 (dk_at dksX8_needs_0 6 rfl rfl)
abbrev cX8_grows : ByteArray := prog_12_method_5_code
def yX8_grows : MethodName := ⟨RX8, "grows", "()I"⟩
def dkwX8_grows_0 : List UInt8 := [42, 180, 0, 14, 5, 46, 5, 112, 154, 0, 10, 42, 183, 0, 29, 167, 0, 4, 3, 172]
abbrev dktX8_grows_0 : List UInt8 := dkwX8_grows_0 ++ []
theorem dksX8_grows_0 : cX8_grows.data.toList.drop 0 = dktX8_grows_0 := by decide +kernel
theorem dX8_grows_0 : decode cX8_grows 0 = .ok (.aload_n 0, 1) := dk_42 (dk_at dksX8_grows_0 0 rfl rfl)
theorem dX8_grows_1 : decode cX8_grows 1 = .ok (.getfield 14, 3) := dk_180 0 14 (dk_at dksX8_grows_0 1 rfl rfl)
theorem dX8_grows_4 : decode cX8_grows 4 = .ok (.iconst 2, 1) := dk_5 (dk_at dksX8_grows_0 4 rfl rfl)
theorem dX8_grows_5 : decode cX8_grows 5 = .ok (.iaload, 1) := dk_46 (dk_at dksX8_grows_0 5 rfl rfl)
theorem dX8_grows_6 : decode cX8_grows 6 = .ok (.iconst 2, 1) := dk_5 (dk_at dksX8_grows_0 6 rfl rfl)
theorem dX8_grows_7 : decode cX8_grows 7 = .ok (.irem, 1) := dk_112 (dk_at dksX8_grows_0 7 rfl rfl)
theorem dX8_grows_8 : decode cX8_grows 8 = .ok (.ifCond .ne 10, 3) := dk_154 0 10 (dk_at dksX8_grows_0 8 rfl rfl)
theorem dX8_grows_11 : decode cX8_grows 11 = .ok (.aload_n 0, 1) := dk_42 (dk_at dksX8_grows_0 11 rfl rfl)
theorem dX8_grows_12 : decode cX8_grows 12 = .ok (.invokespecial 29, 3) := dk_183 0 29 (dk_at dksX8_grows_0 12 rfl rfl)
theorem dX8_grows_15 : decode cX8_grows 15 = .ok (.goto 4, 3) := dk_167 0 4 (dk_at dksX8_grows_0 15 rfl rfl)
theorem dX8_grows_18 : decode cX8_grows 18 = .ok (.iconst 0, 1) := dk_3 (dk_at dksX8_grows_0 18 rfl rfl)
theorem dX8_grows_19 : decode cX8_grows 19 = .ok (.ireturn, 1) := dk_172 (dk_at dksX8_grows_0 19 rfl rfl)
theorem q94 : (Jvm.Cond.initialized "RumourBeds$Shy") ∈ lw_all := lw_g (lw_at lw_m1 12 rfl) rfl
theorem q338 : (Jvm.Cond.selects "RumourBeds$Shy" ({ cls := "RumourBeds$Rumour", name := "eats", desc := "()I" } : Jvm.MethodName) ({ cls := "RumourBeds$Shy", name := "eats", desc := "()I" } : Jvm.MethodName)) ∈ lw_all := lw_g (lw_at lw_m2 16 rfl) rfl
theorem q339 : (Jvm.Cond.instanceMethod ({ cls := "RumourBeds$Shy", name := "eats", desc := "()I" } : Jvm.MethodName)) ∈ lw_all := lw_g (lw_at lw_m2 17 rfl) rfl
theorem q340 : (Jvm.Cond.code ({ cls := "RumourBeds$Shy", name := "eats", desc := "()I" } : Jvm.MethodName) prog_12_method_3_code (1 : Nat) (Option.some Jvm.ClassFile.FieldType.int)) ∈ lw_all := lw_g (lw_at lw_m2 18 rfl) rfl
theorem q341 : (Jvm.Cond.methodLink "RumourBeds$Shy" (11 : Nat) ({ cls := "RumourBeds$Rumour", name := "eats", desc := "()I" } : Jvm.MethodName)) ∈ lw_all := lw_g (lw_at lw_m2 19 rfl) rfl
theorem q342 : (Jvm.Cond.superclass "RumourBeds$Shy" "RumourBeds$Rumour") ∈ lw_all := lw_g (lw_at lw_m2 20 rfl) rfl
theorem q343 : (Jvm.Cond.methodLink "RumourBeds$Shy" (20 : Nat) ({ cls := "java/lang/Math", name := "max", desc := "(II)I" } : Jvm.MethodName)) ∈ lw_all := lw_g (lw_at lw_m2 21 rfl) rfl
theorem q378 : (Jvm.Cond.fieldLink "RumourBeds$Shy" (14 : Nat) "RumourBeds$Shy" "part" "[I") ∈ lw_all := lw_g (lw_at lw_m2 56 rfl) rfl
theorem q379 : (Jvm.Cond.sameField "RumourBeds$Shy" "RumourBeds$Rumour" "part" "[I") ∈ lw_all := lw_g (lw_at lw_m2 57 rfl) rfl
theorem q404 : (Jvm.Cond.instantiable "RumourBeds$Shy" (1 : Nat)) ∈ lw_all := lw_g (lw_at lw_m2 82 rfl) rfl
theorem q406 : (Jvm.Cond.instanceMethod ({ cls := "RumourBeds$Shy", name := "<init>", desc := "()V" } : Jvm.MethodName)) ∈ lw_all := lw_g (lw_at lw_m2 84 rfl) rfl
theorem q407 : (Jvm.Cond.code ({ cls := "RumourBeds$Shy", name := "<init>", desc := "()V" } : Jvm.MethodName) prog_12_method_1_code (1 : Nat) (Option.none : Option Jvm.ClassFile.FieldType)) ∈ lw_all := lw_g (lw_at lw_m2 85 rfl) rfl
theorem q408 : (Jvm.Cond.methodLinkNest "RumourBeds$Shy" (1 : Nat) ({ cls := "RumourBeds$Rumour", name := "<init>", desc := "()V" } : Jvm.MethodName) "RumourBeds") ∈ lw_tbl := lw_at lw_m2 86 rfl
theorem q409 : (Jvm.Cond.laysFinal "RumourBeds$Shy" "RumourBeds$Rumour" "part" "[I") ∈ lw_all := lw_g (lw_at lw_m2 87 rfl) rfl
theorem q448 : (Jvm.Cond.selects "RumourBeds$Shy" ({ cls := "RumourBeds$Rumour", name := "kind", desc := "()I" } : Jvm.MethodName) ({ cls := "RumourBeds$Shy", name := "kind", desc := "()I" } : Jvm.MethodName)) ∈ lw_all := lw_g (lw_at lw_m2 126 rfl) rfl
theorem q449 : (Jvm.Cond.instanceMethod ({ cls := "RumourBeds$Shy", name := "kind", desc := "()I" } : Jvm.MethodName)) ∈ lw_all := lw_g (lw_at lw_m2 127 rfl) rfl
theorem q450 : (Jvm.Cond.code ({ cls := "RumourBeds$Shy", name := "kind", desc := "()I" } : Jvm.MethodName) prog_12_method_2_code (1 : Nat) (Option.some Jvm.ClassFile.FieldType.int)) ∈ lw_all := lw_g (lw_at lw_m2 128 rfl) rfl
theorem q451 : (Jvm.Cond.methodLink "RumourBeds$Shy" (7 : Nat) ({ cls := "RumourBeds$Rumour", name := "kind", desc := "()I" } : Jvm.MethodName)) ∈ lw_all := lw_g (lw_at lw_m2 129 rfl) rfl
theorem q472 : (Jvm.Cond.selects "RumourBeds$Shy" ({ cls := "RumourBeds$Needs", name := "needs", desc := "()I" } : Jvm.MethodName) ({ cls := "RumourBeds$Shy", name := "needs", desc := "()I" } : Jvm.MethodName)) ∈ lw_all := lw_g (lw_at lw_m2 150 rfl) rfl
theorem q473 : (Jvm.Cond.instanceMethod ({ cls := "RumourBeds$Shy", name := "needs", desc := "()I" } : Jvm.MethodName)) ∈ lw_all := lw_g (lw_at lw_m2 151 rfl) rfl
theorem q474 : (Jvm.Cond.code ({ cls := "RumourBeds$Shy", name := "needs", desc := "()I" } : Jvm.MethodName) prog_12_method_4_code (1 : Nat) (Option.some Jvm.ClassFile.FieldType.int)) ∈ lw_all := lw_g (lw_at lw_m2 152 rfl) rfl
theorem q492 : (Jvm.Cond.selects "RumourBeds$Shy" ({ cls := "RumourBeds$Rumour", name := "grows", desc := "()I" } : Jvm.MethodName) ({ cls := "RumourBeds$Shy", name := "grows", desc := "()I" } : Jvm.MethodName)) ∈ lw_all := lw_g (lw_at lw_m2 170 rfl) rfl
theorem q493 : (Jvm.Cond.instanceMethod ({ cls := "RumourBeds$Shy", name := "grows", desc := "()I" } : Jvm.MethodName)) ∈ lw_all := lw_g (lw_at lw_m2 171 rfl) rfl
theorem q494 : (Jvm.Cond.code ({ cls := "RumourBeds$Shy", name := "grows", desc := "()I" } : Jvm.MethodName) prog_12_method_5_code (1 : Nat) (Option.some Jvm.ClassFile.FieldType.int)) ∈ lw_all := lw_g (lw_at lw_m2 172 rfl) rfl
theorem q495 : (Jvm.Cond.methodLink "RumourBeds$Shy" (29 : Nat) ({ cls := "RumourBeds$Rumour", name := "grows", desc := "()I" } : Jvm.MethodName)) ∈ lw_all := lw_g (lw_at lw_m2 173 rfl) rfl
theorem q518 : (Jvm.Cond.selects "RumourBeds$Shy" ({ cls := "RumourBeds$Rumour", name := "like", desc := "(LRumourBeds$Rumour;)V" } : Jvm.MethodName) ({ cls := "RumourBeds$Rumour", name := "like", desc := "(LRumourBeds$Rumour;)V" } : Jvm.MethodName)) ∈ lw_all := lw_g (lw_at lw_m2 196 rfl) rfl
theorem q541 : (Jvm.Cond.selects "RumourBeds$Shy" ({ cls := "RumourBeds$Rumour", name := "is", desc := "(I)Z" } : Jvm.MethodName) ({ cls := "RumourBeds$Rumour", name := "is", desc := "(I)Z" } : Jvm.MethodName)) ∈ lw_all := lw_g (lw_at lw_m2 219 rfl) rfl
theorem q575 : (Jvm.Cond.selects "RumourBeds$Shy" ({ cls := "RumourBeds$Rumour", name := "isIn", desc := "()Z" } : Jvm.MethodName) ({ cls := "RumourBeds$Rumour", name := "isIn", desc := "()Z" } : Jvm.MethodName)) ∈ lw_all := lw_g (lw_at lw_m3 13 rfl) rfl
theorem q615 : (Jvm.Cond.selects "RumourBeds$Shy" ({ cls := "RumourBeds$Rumour", name := "swells", desc := "(I)V" } : Jvm.MethodName) ({ cls := "RumourBeds$Rumour", name := "swells", desc := "(I)V" } : Jvm.MethodName)) ∈ lw_all := lw_g (lw_at lw_m3 53 rfl) rfl
theorem q1554 : (Jvm.Cond.castable "RumourBeds$Shy" "RumourBeds$Rumour") ∈ lw_tbl := lw_at lw_m7 32 rfl
theorem in_X8 : ∀ w ∈ wsX80, w ∈ lw_all := lw_in wsX80 [409] (by decide +kernel) (by decide +kernel)

/-! RumourBeds$Royal -/
set_option maxRecDepth 100000
def RX9 : String := "RumourBeds$Royal"
def TX9 : u_T := fun k => match k with
  | _ => ("RumourBeds$Rumour", "part", "[I", true)
def tyX9 : Nat → FieldType := fun k => match k with
  | _ => .array .int
abbrev wsX90 : List Cond := u_ws RX9 TX9 1
theorem nmX9 : ∀ a, a < 1 → ∀ b, b < 1 → a ≠ b → (TX9 a).2.1 ≠ (TX9 b).2.1 := by decide +kernel
theorem tyX9_ok : ∀ k, k < 1 → parseFieldDescriptor (TX9 k).2.2.1 = some (tyX9 k) := by decide +kernel
abbrev cX9_eats : ByteArray := prog_10_method_3_code
def yX9_eats : MethodName := ⟨RX9, "eats", "()I"⟩
def dkwX9_eats_0 : List UInt8 := [42, 183, 0, 11, 6, 96, 172]
abbrev dktX9_eats_0 : List UInt8 := dkwX9_eats_0 ++ []
theorem dksX9_eats_0 : cX9_eats.data.toList.drop 0 = dktX9_eats_0 := by decide +kernel
theorem dX9_eats_0 : decode cX9_eats 0 = .ok (.aload_n 0, 1) := dk_42 (dk_at dksX9_eats_0 0 rfl rfl)
theorem dX9_eats_1 : decode cX9_eats 1 = .ok (.invokespecial 11, 3) := dk_183 0 11 (dk_at dksX9_eats_0 1 rfl rfl)
theorem dX9_eats_4 : decode cX9_eats 4 = .ok (.iconst 3, 1) := dk_6 (dk_at dksX9_eats_0 4 rfl rfl)
theorem dX9_eats_5 : decode cX9_eats 5 = .ok (.iadd, 1) := dk_96 (dk_at dksX9_eats_0 5 rfl rfl)
theorem dX9_eats_6 : decode cX9_eats 6 = .ok (.ireturn, 1) := dk_172 (dk_at dksX9_eats_0 6 rfl rfl)
abbrev cX9_init : ByteArray := prog_10_method_1_code
def yX9_init : MethodName := ⟨RX9, "<init>", "()V"⟩
theorem dX9_init_0 : decode cX9_init 0 = .ok (.aload_n 0, 1) := by decide +kernel
theorem dX9_init_1 : decode cX9_init 1 = .ok (.invokespecial 1, 3) := by decide +kernel
theorem dX9_init_4 : decode cX9_init 4 = .ok (.return_, 1) := by decide +kernel
abbrev cX9_kind : ByteArray := prog_10_method_2_code
def yX9_kind : MethodName := ⟨RX9, "kind", "()I"⟩
def dkwX9_kind_0 : List UInt8 := [42, 183, 0, 7, 6, 96, 172]
abbrev dktX9_kind_0 : List UInt8 := dkwX9_kind_0 ++ []
theorem dksX9_kind_0 : cX9_kind.data.toList.drop 0 = dktX9_kind_0 := by decide +kernel
theorem dX9_kind_0 : decode cX9_kind 0 = .ok (.aload_n 0, 1) := dk_42 (dk_at dksX9_kind_0 0 rfl rfl)
theorem dX9_kind_1 : decode cX9_kind 1 = .ok (.invokespecial 7, 3) := dk_183 0 7 (dk_at dksX9_kind_0 1 rfl rfl)
theorem dX9_kind_4 : decode cX9_kind 4 = .ok (.iconst 3, 1) := dk_6 (dk_at dksX9_kind_0 4 rfl rfl)
theorem dX9_kind_5 : decode cX9_kind 5 = .ok (.iadd, 1) := dk_96 (dk_at dksX9_kind_0 5 rfl rfl)
theorem dX9_kind_6 : decode cX9_kind 6 = .ok (.ireturn, 1) := dk_172 (dk_at dksX9_kind_0 6 rfl rfl)
abbrev cX9_needs : ByteArray := prog_10_method_4_code
def yX9_needs : MethodName := ⟨RX9, "needs", "()I"⟩
def dkwX9_needs_0 : List UInt8 := [42, 183, 0, 14, 4, 100, 172]
abbrev dktX9_needs_0 : List UInt8 := dkwX9_needs_0 ++ []
theorem dksX9_needs_0 : cX9_needs.data.toList.drop 0 = dktX9_needs_0 := by decide +kernel
theorem dX9_needs_0 : decode cX9_needs 0 = .ok (.aload_n 0, 1) := dk_42 (dk_at dksX9_needs_0 0 rfl rfl)
theorem dX9_needs_1 : decode cX9_needs 1 = .ok (.invokespecial 14, 3) := dk_183 0 14 (dk_at dksX9_needs_0 1 rfl rfl)
theorem dX9_needs_4 : decode cX9_needs 4 = .ok (.iconst 1, 1) := dk_4 (dk_at dksX9_needs_0 4 rfl rfl)
theorem dX9_needs_5 : decode cX9_needs 5 = .ok (.isub, 1) := dk_100 (dk_at dksX9_needs_0 5 rfl rfl)
theorem dX9_needs_6 : decode cX9_needs 6 = .ok (.ireturn, 1) := dk_172 (dk_at dksX9_needs_0 6 rfl rfl)
theorem q95 : (Jvm.Cond.initialized "RumourBeds$Royal") ∈ lw_all := lw_g (lw_at lw_m1 13 rfl) rfl
theorem q333 : (Jvm.Cond.selects "RumourBeds$Royal" ({ cls := "RumourBeds$Rumour", name := "eats", desc := "()I" } : Jvm.MethodName) ({ cls := "RumourBeds$Royal", name := "eats", desc := "()I" } : Jvm.MethodName)) ∈ lw_all := lw_g (lw_at lw_m2 11 rfl) rfl
theorem q334 : (Jvm.Cond.instanceMethod ({ cls := "RumourBeds$Royal", name := "eats", desc := "()I" } : Jvm.MethodName)) ∈ lw_all := lw_g (lw_at lw_m2 12 rfl) rfl
theorem q335 : (Jvm.Cond.code ({ cls := "RumourBeds$Royal", name := "eats", desc := "()I" } : Jvm.MethodName) prog_10_method_3_code (1 : Nat) (Option.some Jvm.ClassFile.FieldType.int)) ∈ lw_all := lw_g (lw_at lw_m2 13 rfl) rfl
theorem q336 : (Jvm.Cond.methodLink "RumourBeds$Royal" (11 : Nat) ({ cls := "RumourBeds$Big", name := "eats", desc := "()I" } : Jvm.MethodName)) ∈ lw_all := lw_g (lw_at lw_m2 14 rfl) rfl
theorem q337 : (Jvm.Cond.superclass "RumourBeds$Royal" "RumourBeds$Big") ∈ lw_all := lw_g (lw_at lw_m2 15 rfl) rfl
theorem q411 : (Jvm.Cond.instantiable "RumourBeds$Royal" (1 : Nat)) ∈ lw_all := lw_g (lw_at lw_m2 89 rfl) rfl
theorem q413 : (Jvm.Cond.instanceMethod ({ cls := "RumourBeds$Royal", name := "<init>", desc := "()V" } : Jvm.MethodName)) ∈ lw_all := lw_g (lw_at lw_m2 91 rfl) rfl
theorem q414 : (Jvm.Cond.code ({ cls := "RumourBeds$Royal", name := "<init>", desc := "()V" } : Jvm.MethodName) prog_10_method_1_code (1 : Nat) (Option.none : Option Jvm.ClassFile.FieldType)) ∈ lw_all := lw_g (lw_at lw_m2 92 rfl) rfl
theorem q415 : (Jvm.Cond.methodLinkNest "RumourBeds$Royal" (1 : Nat) ({ cls := "RumourBeds$Big", name := "<init>", desc := "()V" } : Jvm.MethodName) "RumourBeds") ∈ lw_tbl := lw_at lw_m2 93 rfl
theorem q416 : (Jvm.Cond.laysFinal "RumourBeds$Royal" "RumourBeds$Rumour" "part" "[I") ∈ lw_all := lw_g (lw_at lw_m2 94 rfl) rfl
theorem q444 : (Jvm.Cond.selects "RumourBeds$Royal" ({ cls := "RumourBeds$Rumour", name := "kind", desc := "()I" } : Jvm.MethodName) ({ cls := "RumourBeds$Royal", name := "kind", desc := "()I" } : Jvm.MethodName)) ∈ lw_all := lw_g (lw_at lw_m2 122 rfl) rfl
theorem q445 : (Jvm.Cond.instanceMethod ({ cls := "RumourBeds$Royal", name := "kind", desc := "()I" } : Jvm.MethodName)) ∈ lw_all := lw_g (lw_at lw_m2 123 rfl) rfl
theorem q446 : (Jvm.Cond.code ({ cls := "RumourBeds$Royal", name := "kind", desc := "()I" } : Jvm.MethodName) prog_10_method_2_code (1 : Nat) (Option.some Jvm.ClassFile.FieldType.int)) ∈ lw_all := lw_g (lw_at lw_m2 124 rfl) rfl
theorem q447 : (Jvm.Cond.methodLink "RumourBeds$Royal" (7 : Nat) ({ cls := "RumourBeds$Big", name := "kind", desc := "()I" } : Jvm.MethodName)) ∈ lw_all := lw_g (lw_at lw_m2 125 rfl) rfl
theorem q467 : (Jvm.Cond.selects "RumourBeds$Royal" ({ cls := "RumourBeds$Needs", name := "needs", desc := "()I" } : Jvm.MethodName) ({ cls := "RumourBeds$Royal", name := "needs", desc := "()I" } : Jvm.MethodName)) ∈ lw_all := lw_g (lw_at lw_m2 145 rfl) rfl
theorem q468 : (Jvm.Cond.instanceMethod ({ cls := "RumourBeds$Royal", name := "needs", desc := "()I" } : Jvm.MethodName)) ∈ lw_all := lw_g (lw_at lw_m2 146 rfl) rfl
theorem q469 : (Jvm.Cond.code ({ cls := "RumourBeds$Royal", name := "needs", desc := "()I" } : Jvm.MethodName) prog_10_method_4_code (1 : Nat) (Option.some Jvm.ClassFile.FieldType.int)) ∈ lw_all := lw_g (lw_at lw_m2 147 rfl) rfl
theorem q470 : (Jvm.Cond.methodLink "RumourBeds$Royal" (14 : Nat) ({ cls := "RumourBeds$Big", name := "needs", desc := "()I" } : Jvm.MethodName)) ∈ lw_all := lw_g (lw_at lw_m2 148 rfl) rfl
theorem q491 : (Jvm.Cond.selects "RumourBeds$Royal" ({ cls := "RumourBeds$Rumour", name := "grows", desc := "()I" } : Jvm.MethodName) ({ cls := "RumourBeds$Big", name := "grows", desc := "()I" } : Jvm.MethodName)) ∈ lw_all := lw_g (lw_at lw_m2 169 rfl) rfl
theorem q517 : (Jvm.Cond.selects "RumourBeds$Royal" ({ cls := "RumourBeds$Rumour", name := "like", desc := "(LRumourBeds$Rumour;)V" } : Jvm.MethodName) ({ cls := "RumourBeds$Rumour", name := "like", desc := "(LRumourBeds$Rumour;)V" } : Jvm.MethodName)) ∈ lw_all := lw_g (lw_at lw_m2 195 rfl) rfl
theorem q540 : (Jvm.Cond.selects "RumourBeds$Royal" ({ cls := "RumourBeds$Rumour", name := "is", desc := "(I)Z" } : Jvm.MethodName) ({ cls := "RumourBeds$Big", name := "is", desc := "(I)Z" } : Jvm.MethodName)) ∈ lw_all := lw_g (lw_at lw_m2 218 rfl) rfl
theorem q574 : (Jvm.Cond.selects "RumourBeds$Royal" ({ cls := "RumourBeds$Rumour", name := "isIn", desc := "()Z" } : Jvm.MethodName) ({ cls := "RumourBeds$Rumour", name := "isIn", desc := "()Z" } : Jvm.MethodName)) ∈ lw_all := lw_g (lw_at lw_m3 12 rfl) rfl
theorem q614 : (Jvm.Cond.selects "RumourBeds$Royal" ({ cls := "RumourBeds$Rumour", name := "swells", desc := "(I)V" } : Jvm.MethodName) ({ cls := "RumourBeds$Rumour", name := "swells", desc := "(I)V" } : Jvm.MethodName)) ∈ lw_all := lw_g (lw_at lw_m3 52 rfl) rfl
theorem q1553 : (Jvm.Cond.castable "RumourBeds$Royal" "RumourBeds$Rumour") ∈ lw_tbl := lw_at lw_m7 31 rfl
theorem in_X9 : ∀ w ∈ wsX90, w ∈ lw_all := lw_in wsX90 [416] (by decide +kernel) (by decide +kernel)

/-! RumourBeds$Wells -/
set_option maxRecDepth 100000
def RX10 : String := "RumourBeds$Wells"
def TX10 : u_T := fun k => match k with
  | _ => ("RumourBeds$Rumour", "part", "[I", true)
def tyX10 : Nat → FieldType := fun k => match k with
  | _ => .array .int
abbrev wsX100 : List Cond := u_ws RX10 TX10 1
theorem nmX10 : ∀ a, a < 1 → ∀ b, b < 1 → a ≠ b → (TX10 a).2.1 ≠ (TX10 b).2.1 := by decide +kernel
theorem tyX10_ok : ∀ k, k < 1 → parseFieldDescriptor (TX10 k).2.2.1 = some (tyX10 k) := by decide +kernel
abbrev cX10_eats : ByteArray := prog_15_method_3_code
def yX10_eats : MethodName := ⟨RX10, "eats", "()I"⟩
def dkwX10_eats_0 : List UInt8 := [42, 183, 0, 11, 4, 100, 172]
abbrev dktX10_eats_0 : List UInt8 := dkwX10_eats_0 ++ []
theorem dksX10_eats_0 : cX10_eats.data.toList.drop 0 = dktX10_eats_0 := by decide +kernel
theorem dX10_eats_0 : decode cX10_eats 0 = .ok (.aload_n 0, 1) := dk_42 (dk_at dksX10_eats_0 0 rfl rfl)
theorem dX10_eats_1 : decode cX10_eats 1 = .ok (.invokespecial 11, 3) := dk_183 0 11 (dk_at dksX10_eats_0 1 rfl rfl)
theorem dX10_eats_4 : decode cX10_eats 4 = .ok (.iconst 1, 1) := dk_4 (dk_at dksX10_eats_0 4 rfl rfl)
theorem dX10_eats_5 : decode cX10_eats 5 = .ok (.isub, 1) := dk_100 (dk_at dksX10_eats_0 5 rfl rfl)
theorem dX10_eats_6 : decode cX10_eats 6 = .ok (.ireturn, 1) := dk_172 (dk_at dksX10_eats_0 6 rfl rfl)
abbrev cX10_init : ByteArray := prog_15_method_1_code
def yX10_init : MethodName := ⟨RX10, "<init>", "()V"⟩
theorem dX10_init_0 : decode cX10_init 0 = .ok (.aload_n 0, 1) := by decide +kernel
theorem dX10_init_1 : decode cX10_init 1 = .ok (.invokespecial 1, 3) := by decide +kernel
theorem dX10_init_4 : decode cX10_init 4 = .ok (.return_, 1) := by decide +kernel
abbrev cX10_kind : ByteArray := prog_15_method_2_code
def yX10_kind : MethodName := ⟨RX10, "kind", "()I"⟩
def dkwX10_kind_0 : List UInt8 := [42, 183, 0, 7, 6, 96, 172]
abbrev dktX10_kind_0 : List UInt8 := dkwX10_kind_0 ++ []
theorem dksX10_kind_0 : cX10_kind.data.toList.drop 0 = dktX10_kind_0 := by decide +kernel
theorem dX10_kind_0 : decode cX10_kind 0 = .ok (.aload_n 0, 1) := dk_42 (dk_at dksX10_kind_0 0 rfl rfl)
theorem dX10_kind_1 : decode cX10_kind 1 = .ok (.invokespecial 7, 3) := dk_183 0 7 (dk_at dksX10_kind_0 1 rfl rfl)
theorem dX10_kind_4 : decode cX10_kind 4 = .ok (.iconst 3, 1) := dk_6 (dk_at dksX10_kind_0 4 rfl rfl)
theorem dX10_kind_5 : decode cX10_kind 5 = .ok (.iadd, 1) := dk_96 (dk_at dksX10_kind_0 5 rfl rfl)
theorem dX10_kind_6 : decode cX10_kind 6 = .ok (.ireturn, 1) := dk_172 (dk_at dksX10_kind_0 6 rfl rfl)
abbrev cX10_needs : ByteArray := prog_15_method_4_code
def yX10_needs : MethodName := ⟨RX10, "needs", "()I"⟩
def dkwX10_needs_0 : List UInt8 := [42, 183, 0, 14, 4, 96, 172]
abbrev dktX10_needs_0 : List UInt8 := dkwX10_needs_0 ++ []
theorem dksX10_needs_0 : cX10_needs.data.toList.drop 0 = dktX10_needs_0 := by decide +kernel
theorem dX10_needs_0 : decode cX10_needs 0 = .ok (.aload_n 0, 1) := dk_42 (dk_at dksX10_needs_0 0 rfl rfl)
theorem dX10_needs_1 : decode cX10_needs 1 = .ok (.invokespecial 14, 3) := dk_183 0 14 (dk_at dksX10_needs_0 1 rfl rfl)
theorem dX10_needs_4 : decode cX10_needs 4 = .ok (.iconst 1, 1) := dk_4 (dk_at dksX10_needs_0 4 rfl rfl)
theorem dX10_needs_5 : decode cX10_needs 5 = .ok (.iadd, 1) := dk_96 (dk_at dksX10_needs_0 5 rfl rfl)
theorem dX10_needs_6 : decode cX10_needs 6 = .ok (.ireturn, 1) := dk_172 (dk_at dksX10_needs_0 6 rfl rfl)
theorem q96 : (Jvm.Cond.initialized "RumourBeds$Wells") ∈ lw_all := lw_g (lw_at lw_m1 14 rfl) rfl
theorem q346 : (Jvm.Cond.selects "RumourBeds$Wells" ({ cls := "RumourBeds$Rumour", name := "eats", desc := "()I" } : Jvm.MethodName) ({ cls := "RumourBeds$Wells", name := "eats", desc := "()I" } : Jvm.MethodName)) ∈ lw_all := lw_g (lw_at lw_m2 24 rfl) rfl
theorem q347 : (Jvm.Cond.instanceMethod ({ cls := "RumourBeds$Wells", name := "eats", desc := "()I" } : Jvm.MethodName)) ∈ lw_all := lw_g (lw_at lw_m2 25 rfl) rfl
theorem q348 : (Jvm.Cond.code ({ cls := "RumourBeds$Wells", name := "eats", desc := "()I" } : Jvm.MethodName) prog_15_method_3_code (1 : Nat) (Option.some Jvm.ClassFile.FieldType.int)) ∈ lw_all := lw_g (lw_at lw_m2 26 rfl) rfl
theorem q349 : (Jvm.Cond.methodLink "RumourBeds$Wells" (11 : Nat) ({ cls := "RumourBeds$Dull", name := "eats", desc := "()I" } : Jvm.MethodName)) ∈ lw_all := lw_g (lw_at lw_m2 27 rfl) rfl
theorem q350 : (Jvm.Cond.superclass "RumourBeds$Wells" "RumourBeds$Dull") ∈ lw_all := lw_g (lw_at lw_m2 28 rfl) rfl
theorem q418 : (Jvm.Cond.instantiable "RumourBeds$Wells" (1 : Nat)) ∈ lw_all := lw_g (lw_at lw_m2 96 rfl) rfl
theorem q420 : (Jvm.Cond.instanceMethod ({ cls := "RumourBeds$Wells", name := "<init>", desc := "()V" } : Jvm.MethodName)) ∈ lw_all := lw_g (lw_at lw_m2 98 rfl) rfl
theorem q421 : (Jvm.Cond.code ({ cls := "RumourBeds$Wells", name := "<init>", desc := "()V" } : Jvm.MethodName) prog_15_method_1_code (1 : Nat) (Option.none : Option Jvm.ClassFile.FieldType)) ∈ lw_all := lw_g (lw_at lw_m2 99 rfl) rfl
theorem q422 : (Jvm.Cond.methodLinkNest "RumourBeds$Wells" (1 : Nat) ({ cls := "RumourBeds$Dull", name := "<init>", desc := "()V" } : Jvm.MethodName) "RumourBeds") ∈ lw_tbl := lw_at lw_m2 100 rfl
theorem q423 : (Jvm.Cond.laysFinal "RumourBeds$Wells" "RumourBeds$Rumour" "part" "[I") ∈ lw_all := lw_g (lw_at lw_m2 101 rfl) rfl
theorem q452 : (Jvm.Cond.selects "RumourBeds$Wells" ({ cls := "RumourBeds$Rumour", name := "kind", desc := "()I" } : Jvm.MethodName) ({ cls := "RumourBeds$Wells", name := "kind", desc := "()I" } : Jvm.MethodName)) ∈ lw_all := lw_g (lw_at lw_m2 130 rfl) rfl
theorem q453 : (Jvm.Cond.instanceMethod ({ cls := "RumourBeds$Wells", name := "kind", desc := "()I" } : Jvm.MethodName)) ∈ lw_all := lw_g (lw_at lw_m2 131 rfl) rfl
theorem q454 : (Jvm.Cond.code ({ cls := "RumourBeds$Wells", name := "kind", desc := "()I" } : Jvm.MethodName) prog_15_method_2_code (1 : Nat) (Option.some Jvm.ClassFile.FieldType.int)) ∈ lw_all := lw_g (lw_at lw_m2 132 rfl) rfl
theorem q455 : (Jvm.Cond.methodLink "RumourBeds$Wells" (7 : Nat) ({ cls := "RumourBeds$Dull", name := "kind", desc := "()I" } : Jvm.MethodName)) ∈ lw_all := lw_g (lw_at lw_m2 133 rfl) rfl
theorem q475 : (Jvm.Cond.selects "RumourBeds$Wells" ({ cls := "RumourBeds$Needs", name := "needs", desc := "()I" } : Jvm.MethodName) ({ cls := "RumourBeds$Wells", name := "needs", desc := "()I" } : Jvm.MethodName)) ∈ lw_all := lw_g (lw_at lw_m2 153 rfl) rfl
theorem q476 : (Jvm.Cond.instanceMethod ({ cls := "RumourBeds$Wells", name := "needs", desc := "()I" } : Jvm.MethodName)) ∈ lw_all := lw_g (lw_at lw_m2 154 rfl) rfl
theorem q477 : (Jvm.Cond.code ({ cls := "RumourBeds$Wells", name := "needs", desc := "()I" } : Jvm.MethodName) prog_15_method_4_code (1 : Nat) (Option.some Jvm.ClassFile.FieldType.int)) ∈ lw_all := lw_g (lw_at lw_m2 155 rfl) rfl
theorem q478 : (Jvm.Cond.methodLink "RumourBeds$Wells" (14 : Nat) ({ cls := "RumourBeds$Dull", name := "needs", desc := "()I" } : Jvm.MethodName)) ∈ lw_all := lw_g (lw_at lw_m2 156 rfl) rfl
theorem q496 : (Jvm.Cond.selects "RumourBeds$Wells" ({ cls := "RumourBeds$Rumour", name := "grows", desc := "()I" } : Jvm.MethodName) ({ cls := "RumourBeds$Dull", name := "grows", desc := "()I" } : Jvm.MethodName)) ∈ lw_all := lw_g (lw_at lw_m2 174 rfl) rfl
theorem q519 : (Jvm.Cond.selects "RumourBeds$Wells" ({ cls := "RumourBeds$Rumour", name := "like", desc := "(LRumourBeds$Rumour;)V" } : Jvm.MethodName) ({ cls := "RumourBeds$Rumour", name := "like", desc := "(LRumourBeds$Rumour;)V" } : Jvm.MethodName)) ∈ lw_all := lw_g (lw_at lw_m2 197 rfl) rfl
theorem q542 : (Jvm.Cond.selects "RumourBeds$Wells" ({ cls := "RumourBeds$Rumour", name := "is", desc := "(I)Z" } : Jvm.MethodName) ({ cls := "RumourBeds$Dull", name := "is", desc := "(I)Z" } : Jvm.MethodName)) ∈ lw_all := lw_g (lw_at lw_m2 220 rfl) rfl
theorem q576 : (Jvm.Cond.selects "RumourBeds$Wells" ({ cls := "RumourBeds$Rumour", name := "isIn", desc := "()Z" } : Jvm.MethodName) ({ cls := "RumourBeds$Rumour", name := "isIn", desc := "()Z" } : Jvm.MethodName)) ∈ lw_all := lw_g (lw_at lw_m3 14 rfl) rfl
theorem q616 : (Jvm.Cond.selects "RumourBeds$Wells" ({ cls := "RumourBeds$Rumour", name := "swells", desc := "(I)V" } : Jvm.MethodName) ({ cls := "RumourBeds$Rumour", name := "swells", desc := "(I)V" } : Jvm.MethodName)) ∈ lw_all := lw_g (lw_at lw_m3 54 rfl) rfl
theorem q1555 : (Jvm.Cond.castable "RumourBeds$Wells" "RumourBeds$Rumour") ∈ lw_tbl := lw_at lw_m7 33 rfl
theorem in_X10 : ∀ w ∈ wsX100, w ∈ lw_all := lw_in wsX100 [423] (by decide +kernel) (by decide +kernel)

/-! RumourBeds$Reader -/
set_option maxRecDepth 100000
def RX11 : String := "RumourBeds$Reader"
def TX11 : u_T := fun k => match k with
  | 0 => ("RumourBeds$Reader", "tape", "[B", true)
  | 1 => ("RumourBeds$Reader", "size", "I", true)
  | 2 => ("RumourBeds$Reader", "town", "LRumourBeds$Town;", true)
  | 3 => ("RumourBeds$Reader", "sort", "I", false)
  | 4 => ("RumourBeds$Reader", "from", "I", false)
  | _ => ("RumourBeds$Reader", "to", "I", false)
def tyX11 : Nat → FieldType := fun k => match k with
  | 0 => .array .byte
  | 1 => .int
  | 2 => .object "RumourBeds$Town"
  | 3 => .int
  | 4 => .int
  | _ => .int
abbrev wsX110 : List Cond := u_ws RX11 TX11 6
theorem nmX11 : ∀ a, a < 6 → ∀ b, b < 6 → a ≠ b → (TX11 a).2.1 ≠ (TX11 b).2.1 := by decide +kernel
theorem tyX11_ok : ∀ k, k < 6 → parseFieldDescriptor (TX11 k).2.2.1 = some (tyX11 k) := by decide +kernel
abbrev cX11_init : ByteArray := prog_9_method_1_code
def yX11_init : MethodName := ⟨RX11, "<init>", "([BILRumourBeds$Town;)V"⟩
def dkwX11_init_0 : List UInt8 := [42, 183, 0, 3, 42, 43, 181, 0, 9, 42, 28, 181, 0, 15, 42, 45, 181, 0, 19, 177]
abbrev dktX11_init_0 : List UInt8 := dkwX11_init_0 ++ []
theorem dksX11_init_0 : cX11_init.data.toList.drop 0 = dktX11_init_0 := by decide +kernel
theorem dX11_init_0 : decode cX11_init 0 = .ok (.aload_n 0, 1) := dk_42 (dk_at dksX11_init_0 0 rfl rfl)
theorem dX11_init_1 : decode cX11_init 1 = .ok (.invokespecial 3, 3) := dk_183 0 3 (dk_at dksX11_init_0 1 rfl rfl)
theorem dX11_init_4 : decode cX11_init 4 = .ok (.aload_n 0, 1) := dk_42 (dk_at dksX11_init_0 4 rfl rfl)
theorem dX11_init_5 : decode cX11_init 5 = .ok (.aload_n 1, 1) := dk_43 (dk_at dksX11_init_0 5 rfl rfl)
theorem dX11_init_6 : decode cX11_init 6 = .ok (.putfield 9, 3) := dk_181 0 9 (dk_at dksX11_init_0 6 rfl rfl)
theorem dX11_init_9 : decode cX11_init 9 = .ok (.aload_n 0, 1) := dk_42 (dk_at dksX11_init_0 9 rfl rfl)
theorem dX11_init_10 : decode cX11_init 10 = .ok (.iload_n 2, 1) := dk_28 (dk_at dksX11_init_0 10 rfl rfl)
theorem dX11_init_11 : decode cX11_init 11 = .ok (.putfield 15, 3) := dk_181 0 15 (dk_at dksX11_init_0 11 rfl rfl)
theorem dX11_init_14 : decode cX11_init 14 = .ok (.aload_n 0, 1) := dk_42 (dk_at dksX11_init_0 14 rfl rfl)
theorem dX11_init_15 : decode cX11_init 15 = .ok (.aload_n 3, 1) := dk_45 (dk_at dksX11_init_0 15 rfl rfl)
theorem dX11_init_16 : decode cX11_init 16 = .ok (.putfield 19, 3) := dk_181 0 19 (dk_at dksX11_init_0 16 rfl rfl)
theorem dX11_init_19 : decode cX11_init 19 = .ok (.return_, 1) := dk_177 (dk_at dksX11_init_0 19 rfl rfl)
abbrev cX11_read : ByteArray := prog_9_method_16_code
def yX11_read : MethodName := ⟨RX11, "read", "()I"⟩
def dkwX11_read_2 : List UInt8 := [182, 0, 62, 27, 172]
abbrev dktX11_read_2 : List UInt8 := dkwX11_read_2 ++ []
def dkwX11_read_1 : List UInt8 := [182, 0, 152, 132, 1, 1, 167, 255, 237, 42, 42, 180, 0, 37, 154, 0, 7, 4, 167, 0, 4, 3]
abbrev dktX11_read_1 : List UInt8 := dkwX11_read_1 ++ dktX11_read_2
def dkwX11_read_0 : List UInt8 := [4, 60, 42, 182, 0, 59, 42, 182, 0, 152, 42, 180, 0, 37, 6, 160, 0, 17, 42, 182, 0, 59, 42]
abbrev dktX11_read_0 : List UInt8 := dkwX11_read_0 ++ dktX11_read_1
theorem dksX11_read_0 : cX11_read.data.toList.drop 0 = dktX11_read_0 := by decide +kernel
theorem dksX11_read_1 : cX11_read.data.toList.drop 23 = dktX11_read_1 := dk_seg dksX11_read_0 23 rfl rfl
theorem dksX11_read_2 : cX11_read.data.toList.drop 45 = dktX11_read_2 := dk_seg dksX11_read_1 22 rfl rfl
theorem dX11_read_0 : decode cX11_read 0 = .ok (.iconst 1, 1) := dk_4 (dk_at dksX11_read_0 0 rfl rfl)
theorem dX11_read_1 : decode cX11_read 1 = .ok (.istore_n 1, 1) := dk_60 (dk_at dksX11_read_0 1 rfl rfl)
theorem dX11_read_2 : decode cX11_read 2 = .ok (.aload_n 0, 1) := dk_42 (dk_at dksX11_read_0 2 rfl rfl)
theorem dX11_read_3 : decode cX11_read 3 = .ok (.invokevirtual 59, 3) := dk_182 0 59 (dk_at dksX11_read_0 3 rfl rfl)
theorem dX11_read_6 : decode cX11_read 6 = .ok (.aload_n 0, 1) := dk_42 (dk_at dksX11_read_0 6 rfl rfl)
theorem dX11_read_7 : decode cX11_read 7 = .ok (.invokevirtual 152, 3) := dk_182 0 152 (dk_at dksX11_read_0 7 rfl rfl)
theorem dX11_read_10 : decode cX11_read 10 = .ok (.aload_n 0, 1) := dk_42 (dk_at dksX11_read_0 10 rfl rfl)
theorem dX11_read_11 : decode cX11_read 11 = .ok (.getfield 37, 3) := dk_180 0 37 (dk_at dksX11_read_0 11 rfl rfl)
theorem dX11_read_14 : decode cX11_read 14 = .ok (.iconst 3, 1) := dk_6 (dk_at dksX11_read_0 14 rfl rfl)
theorem dX11_read_15 : decode cX11_read 15 = .ok (.if_icmp .ne 17, 3) := dk_160 0 17 (dk_at dksX11_read_0 15 rfl rfl)
theorem dX11_read_18 : decode cX11_read 18 = .ok (.aload_n 0, 1) := dk_42 (dk_at dksX11_read_0 18 rfl rfl)
theorem dX11_read_19 : decode cX11_read 19 = .ok (.invokevirtual 59, 3) := dk_182 0 59 (dk_at dksX11_read_0 19 rfl rfl)
theorem dX11_read_22 : decode cX11_read 22 = .ok (.aload_n 0, 1) := dk_42 (dk_at dksX11_read_0 22 rfl rfl)
theorem dX11_read_23 : decode cX11_read 23 = .ok (.invokevirtual 152, 3) := dk_182 0 152 (dk_at dksX11_read_1 0 rfl rfl)
theorem dX11_read_26 : decode cX11_read 26 = .ok (.iinc 1 1, 3) := dk_132 1 1 (dk_at dksX11_read_1 3 rfl rfl)
theorem dX11_read_29 : decode cX11_read 29 = .ok (.goto (-19), 3) := dk_167 255 237 (dk_at dksX11_read_1 6 rfl rfl)
theorem dX11_read_32 : decode cX11_read 32 = .ok (.aload_n 0, 1) := dk_42 (dk_at dksX11_read_1 9 rfl rfl)
theorem dX11_read_33 : decode cX11_read 33 = .ok (.aload_n 0, 1) := dk_42 (dk_at dksX11_read_1 10 rfl rfl)
theorem dX11_read_34 : decode cX11_read 34 = .ok (.getfield 37, 3) := dk_180 0 37 (dk_at dksX11_read_1 11 rfl rfl)
theorem dX11_read_37 : decode cX11_read 37 = .ok (.ifCond .ne 7, 3) := dk_154 0 7 (dk_at dksX11_read_1 14 rfl rfl)
theorem dX11_read_40 : decode cX11_read 40 = .ok (.iconst 1, 1) := dk_4 (dk_at dksX11_read_1 17 rfl rfl)
theorem dX11_read_41 : decode cX11_read 41 = .ok (.goto 4, 3) := dk_167 0 4 (dk_at dksX11_read_1 18 rfl rfl)
theorem dX11_read_44 : decode cX11_read 44 = .ok (.iconst 0, 1) := dk_3 (dk_at dksX11_read_1 21 rfl rfl)
theorem dX11_read_45 : decode cX11_read 45 = .ok (.invokevirtual 62, 3) := dk_182 0 62 (dk_at dksX11_read_2 0 rfl rfl)
theorem dX11_read_48 : decode cX11_read 48 = .ok (.iload_n 1, 1) := dk_27 (dk_at dksX11_read_2 3 rfl rfl)
theorem dX11_read_49 : decode cX11_read 49 = .ok (.ireturn, 1) := dk_172 (dk_at dksX11_read_2 4 rfl rfl)
abbrev cX11_next : ByteArray := prog_9_method_3_code
def yX11_next : MethodName := ⟨RX11, "next", "()V"⟩
def dkwX11_next_8 : List UInt8 := [182, 0, 33, 153, 0, 16, 42, 89, 180, 0, 27, 4, 96, 181, 0, 27, 167, 255, 227, 177]
abbrev dktX11_next_8 : List UInt8 := dkwX11_next_8 ++ []
def dkwX11_next_7 : List UInt8 := [180, 0, 27, 4, 96, 181, 0, 27, 167, 255, 227, 28, 153, 0, 31, 42, 42, 180, 0, 27, 16, 48, 16, 57]
abbrev dktX11_next_7 : List UInt8 := dkwX11_next_7 ++ dktX11_next_8
def dkwX11_next_6 : List UInt8 := [181, 0, 27, 27, 153, 0, 31, 42, 42, 180, 0, 27, 16, 97, 16, 122, 182, 0, 33, 153, 0, 16, 42, 89]
abbrev dktX11_next_6 : List UInt8 := dkwX11_next_6 ++ dktX11_next_7
def dkwX11_next_5 : List UInt8 := [167, 0, 4, 7, 181, 0, 37, 42, 180, 0, 37, 5, 164, 0, 13, 42, 89, 180, 0, 27, 4, 96]
abbrev dktX11_next_5 : List UInt8 := dkwX11_next_5 ++ dktX11_next_6
def dkwX11_next_4 : List UInt8 := [28, 153, 0, 7, 5, 167, 0, 22, 42, 180, 0, 9, 42, 180, 0, 30, 51, 16, 59, 160, 0, 7, 6]
abbrev dktX11_next_4 : List UInt8 := dkwX11_next_4 ++ dktX11_next_5
def dkwX11_next_3 : List UInt8 := [42, 42, 180, 0, 30, 42, 180, 0, 15, 160, 0, 7, 3, 167, 0, 38, 27, 153, 0, 7, 4, 167, 0, 30]
abbrev dktX11_next_3 : List UInt8 := dkwX11_next_3 ++ dktX11_next_4
def dkwX11_next_2 : List UInt8 := [180, 0, 30, 16, 97, 16, 122, 182, 0, 33, 60, 42, 42, 180, 0, 30, 16, 48, 16, 57, 182, 0, 33, 61]
abbrev dktX11_next_2 : List UInt8 := dkwX11_next_2 ++ dktX11_next_3
def dkwX11_next_1 : List UInt8 := [89, 180, 0, 30, 4, 96, 181, 0, 30, 167, 255, 231, 42, 42, 180, 0, 30, 181, 0, 27, 42, 42]
abbrev dktX11_next_1 : List UInt8 := dkwX11_next_1 ++ dktX11_next_2
def dkwX11_next_0 : List UInt8 := [42, 42, 180, 0, 27, 181, 0, 30, 42, 42, 180, 0, 30, 16, 32, 16, 32, 182, 0, 33, 153, 0, 16, 42]
abbrev dktX11_next_0 : List UInt8 := dkwX11_next_0 ++ dktX11_next_1
theorem dksX11_next_0 : cX11_next.data.toList.drop 0 = dktX11_next_0 := by decide +kernel
theorem dksX11_next_1 : cX11_next.data.toList.drop 24 = dktX11_next_1 := dk_seg dksX11_next_0 24 rfl rfl
theorem dksX11_next_2 : cX11_next.data.toList.drop 46 = dktX11_next_2 := dk_seg dksX11_next_1 22 rfl rfl
theorem dksX11_next_3 : cX11_next.data.toList.drop 70 = dktX11_next_3 := dk_seg dksX11_next_2 24 rfl rfl
theorem dksX11_next_4 : cX11_next.data.toList.drop 94 = dktX11_next_4 := dk_seg dksX11_next_3 24 rfl rfl
theorem dksX11_next_5 : cX11_next.data.toList.drop 117 = dktX11_next_5 := dk_seg dksX11_next_4 23 rfl rfl
theorem dksX11_next_6 : cX11_next.data.toList.drop 139 = dktX11_next_6 := dk_seg dksX11_next_5 22 rfl rfl
theorem dksX11_next_7 : cX11_next.data.toList.drop 163 = dktX11_next_7 := dk_seg dksX11_next_6 24 rfl rfl
theorem dksX11_next_8 : cX11_next.data.toList.drop 187 = dktX11_next_8 := dk_seg dksX11_next_7 24 rfl rfl
theorem dX11_next_0 : decode cX11_next 0 = .ok (.aload_n 0, 1) := dk_42 (dk_at dksX11_next_0 0 rfl rfl)
theorem dX11_next_1 : decode cX11_next 1 = .ok (.aload_n 0, 1) := dk_42 (dk_at dksX11_next_0 1 rfl rfl)
theorem dX11_next_2 : decode cX11_next 2 = .ok (.getfield 27, 3) := dk_180 0 27 (dk_at dksX11_next_0 2 rfl rfl)
theorem dX11_next_5 : decode cX11_next 5 = .ok (.putfield 30, 3) := dk_181 0 30 (dk_at dksX11_next_0 5 rfl rfl)
theorem dX11_next_8 : decode cX11_next 8 = .ok (.aload_n 0, 1) := dk_42 (dk_at dksX11_next_0 8 rfl rfl)
theorem dX11_next_9 : decode cX11_next 9 = .ok (.aload_n 0, 1) := dk_42 (dk_at dksX11_next_0 9 rfl rfl)
theorem dX11_next_10 : decode cX11_next 10 = .ok (.getfield 30, 3) := dk_180 0 30 (dk_at dksX11_next_0 10 rfl rfl)
theorem dX11_next_13 : decode cX11_next 13 = .ok (.bipush 32, 2) := dk_16 32 (dk_at dksX11_next_0 13 rfl rfl)
theorem dX11_next_15 : decode cX11_next 15 = .ok (.bipush 32, 2) := dk_16 32 (dk_at dksX11_next_0 15 rfl rfl)
theorem dX11_next_17 : decode cX11_next 17 = .ok (.invokevirtual 33, 3) := dk_182 0 33 (dk_at dksX11_next_0 17 rfl rfl)
theorem dX11_next_20 : decode cX11_next 20 = .ok (.ifCond .eq 16, 3) := dk_153 0 16 (dk_at dksX11_next_0 20 rfl rfl)
theorem dX11_next_23 : decode cX11_next 23 = .ok (.aload_n 0, 1) := dk_42 (dk_at dksX11_next_0 23 rfl rfl)
theorem dX11_next_24 : decode cX11_next 24 = .ok (.dup, 1) := dk_89 (dk_at dksX11_next_1 0 rfl rfl)
theorem dX11_next_25 : decode cX11_next 25 = .ok (.getfield 30, 3) := dk_180 0 30 (dk_at dksX11_next_1 1 rfl rfl)
theorem dX11_next_28 : decode cX11_next 28 = .ok (.iconst 1, 1) := dk_4 (dk_at dksX11_next_1 4 rfl rfl)
theorem dX11_next_29 : decode cX11_next 29 = .ok (.iadd, 1) := dk_96 (dk_at dksX11_next_1 5 rfl rfl)
theorem dX11_next_30 : decode cX11_next 30 = .ok (.putfield 30, 3) := dk_181 0 30 (dk_at dksX11_next_1 6 rfl rfl)
theorem dX11_next_33 : decode cX11_next 33 = .ok (.goto (-25), 3) := dk_167 255 231 (dk_at dksX11_next_1 9 rfl rfl)
theorem dX11_next_36 : decode cX11_next 36 = .ok (.aload_n 0, 1) := dk_42 (dk_at dksX11_next_1 12 rfl rfl)
theorem dX11_next_37 : decode cX11_next 37 = .ok (.aload_n 0, 1) := dk_42 (dk_at dksX11_next_1 13 rfl rfl)
theorem dX11_next_38 : decode cX11_next 38 = .ok (.getfield 30, 3) := dk_180 0 30 (dk_at dksX11_next_1 14 rfl rfl)
theorem dX11_next_41 : decode cX11_next 41 = .ok (.putfield 27, 3) := dk_181 0 27 (dk_at dksX11_next_1 17 rfl rfl)
theorem dX11_next_44 : decode cX11_next 44 = .ok (.aload_n 0, 1) := dk_42 (dk_at dksX11_next_1 20 rfl rfl)
theorem dX11_next_45 : decode cX11_next 45 = .ok (.aload_n 0, 1) := dk_42 (dk_at dksX11_next_1 21 rfl rfl)
theorem dX11_next_46 : decode cX11_next 46 = .ok (.getfield 30, 3) := dk_180 0 30 (dk_at dksX11_next_2 0 rfl rfl)
theorem dX11_next_49 : decode cX11_next 49 = .ok (.bipush 97, 2) := dk_16 97 (dk_at dksX11_next_2 3 rfl rfl)
theorem dX11_next_51 : decode cX11_next 51 = .ok (.bipush 122, 2) := dk_16 122 (dk_at dksX11_next_2 5 rfl rfl)
theorem dX11_next_53 : decode cX11_next 53 = .ok (.invokevirtual 33, 3) := dk_182 0 33 (dk_at dksX11_next_2 7 rfl rfl)
theorem dX11_next_56 : decode cX11_next 56 = .ok (.istore_n 1, 1) := dk_60 (dk_at dksX11_next_2 10 rfl rfl)
theorem dX11_next_57 : decode cX11_next 57 = .ok (.aload_n 0, 1) := dk_42 (dk_at dksX11_next_2 11 rfl rfl)
theorem dX11_next_58 : decode cX11_next 58 = .ok (.aload_n 0, 1) := dk_42 (dk_at dksX11_next_2 12 rfl rfl)
theorem dX11_next_59 : decode cX11_next 59 = .ok (.getfield 30, 3) := dk_180 0 30 (dk_at dksX11_next_2 13 rfl rfl)
theorem dX11_next_62 : decode cX11_next 62 = .ok (.bipush 48, 2) := dk_16 48 (dk_at dksX11_next_2 16 rfl rfl)
theorem dX11_next_64 : decode cX11_next 64 = .ok (.bipush 57, 2) := dk_16 57 (dk_at dksX11_next_2 18 rfl rfl)
theorem dX11_next_66 : decode cX11_next 66 = .ok (.invokevirtual 33, 3) := dk_182 0 33 (dk_at dksX11_next_2 20 rfl rfl)
theorem dX11_next_69 : decode cX11_next 69 = .ok (.istore_n 2, 1) := dk_61 (dk_at dksX11_next_2 23 rfl rfl)
theorem dX11_next_70 : decode cX11_next 70 = .ok (.aload_n 0, 1) := dk_42 (dk_at dksX11_next_3 0 rfl rfl)
theorem dX11_next_71 : decode cX11_next 71 = .ok (.aload_n 0, 1) := dk_42 (dk_at dksX11_next_3 1 rfl rfl)
theorem dX11_next_72 : decode cX11_next 72 = .ok (.getfield 30, 3) := dk_180 0 30 (dk_at dksX11_next_3 2 rfl rfl)
theorem dX11_next_75 : decode cX11_next 75 = .ok (.aload_n 0, 1) := dk_42 (dk_at dksX11_next_3 5 rfl rfl)
theorem dX11_next_76 : decode cX11_next 76 = .ok (.getfield 15, 3) := dk_180 0 15 (dk_at dksX11_next_3 6 rfl rfl)
theorem dX11_next_79 : decode cX11_next 79 = .ok (.if_icmp .ne 7, 3) := dk_160 0 7 (dk_at dksX11_next_3 9 rfl rfl)
theorem dX11_next_82 : decode cX11_next 82 = .ok (.iconst 0, 1) := dk_3 (dk_at dksX11_next_3 12 rfl rfl)
theorem dX11_next_83 : decode cX11_next 83 = .ok (.goto 38, 3) := dk_167 0 38 (dk_at dksX11_next_3 13 rfl rfl)
theorem dX11_next_86 : decode cX11_next 86 = .ok (.iload_n 1, 1) := dk_27 (dk_at dksX11_next_3 16 rfl rfl)
theorem dX11_next_87 : decode cX11_next 87 = .ok (.ifCond .eq 7, 3) := dk_153 0 7 (dk_at dksX11_next_3 17 rfl rfl)
theorem dX11_next_90 : decode cX11_next 90 = .ok (.iconst 1, 1) := dk_4 (dk_at dksX11_next_3 20 rfl rfl)
theorem dX11_next_91 : decode cX11_next 91 = .ok (.goto 30, 3) := dk_167 0 30 (dk_at dksX11_next_3 21 rfl rfl)
theorem dX11_next_94 : decode cX11_next 94 = .ok (.iload_n 2, 1) := dk_28 (dk_at dksX11_next_4 0 rfl rfl)
theorem dX11_next_95 : decode cX11_next 95 = .ok (.ifCond .eq 7, 3) := dk_153 0 7 (dk_at dksX11_next_4 1 rfl rfl)
theorem dX11_next_98 : decode cX11_next 98 = .ok (.iconst 2, 1) := dk_5 (dk_at dksX11_next_4 4 rfl rfl)
theorem dX11_next_99 : decode cX11_next 99 = .ok (.goto 22, 3) := dk_167 0 22 (dk_at dksX11_next_4 5 rfl rfl)
theorem dX11_next_102 : decode cX11_next 102 = .ok (.aload_n 0, 1) := dk_42 (dk_at dksX11_next_4 8 rfl rfl)
theorem dX11_next_103 : decode cX11_next 103 = .ok (.getfield 9, 3) := dk_180 0 9 (dk_at dksX11_next_4 9 rfl rfl)
theorem dX11_next_106 : decode cX11_next 106 = .ok (.aload_n 0, 1) := dk_42 (dk_at dksX11_next_4 12 rfl rfl)
theorem dX11_next_107 : decode cX11_next 107 = .ok (.getfield 30, 3) := dk_180 0 30 (dk_at dksX11_next_4 13 rfl rfl)
theorem dX11_next_110 : decode cX11_next 110 = .ok (.baload, 1) := dk_51 (dk_at dksX11_next_4 16 rfl rfl)
theorem dX11_next_111 : decode cX11_next 111 = .ok (.bipush 59, 2) := dk_16 59 (dk_at dksX11_next_4 17 rfl rfl)
theorem dX11_next_113 : decode cX11_next 113 = .ok (.if_icmp .ne 7, 3) := dk_160 0 7 (dk_at dksX11_next_4 19 rfl rfl)
theorem dX11_next_116 : decode cX11_next 116 = .ok (.iconst 3, 1) := dk_6 (dk_at dksX11_next_4 22 rfl rfl)
theorem dX11_next_117 : decode cX11_next 117 = .ok (.goto 4, 3) := dk_167 0 4 (dk_at dksX11_next_5 0 rfl rfl)
theorem dX11_next_120 : decode cX11_next 120 = .ok (.iconst 4, 1) := dk_7 (dk_at dksX11_next_5 3 rfl rfl)
theorem dX11_next_121 : decode cX11_next 121 = .ok (.putfield 37, 3) := dk_181 0 37 (dk_at dksX11_next_5 4 rfl rfl)
theorem dX11_next_124 : decode cX11_next 124 = .ok (.aload_n 0, 1) := dk_42 (dk_at dksX11_next_5 7 rfl rfl)
theorem dX11_next_125 : decode cX11_next 125 = .ok (.getfield 37, 3) := dk_180 0 37 (dk_at dksX11_next_5 8 rfl rfl)
theorem dX11_next_128 : decode cX11_next 128 = .ok (.iconst 2, 1) := dk_5 (dk_at dksX11_next_5 11 rfl rfl)
theorem dX11_next_129 : decode cX11_next 129 = .ok (.if_icmp .le 13, 3) := dk_164 0 13 (dk_at dksX11_next_5 12 rfl rfl)
theorem dX11_next_132 : decode cX11_next 132 = .ok (.aload_n 0, 1) := dk_42 (dk_at dksX11_next_5 15 rfl rfl)
theorem dX11_next_133 : decode cX11_next 133 = .ok (.dup, 1) := dk_89 (dk_at dksX11_next_5 16 rfl rfl)
theorem dX11_next_134 : decode cX11_next 134 = .ok (.getfield 27, 3) := dk_180 0 27 (dk_at dksX11_next_5 17 rfl rfl)
theorem dX11_next_137 : decode cX11_next 137 = .ok (.iconst 1, 1) := dk_4 (dk_at dksX11_next_5 20 rfl rfl)
theorem dX11_next_138 : decode cX11_next 138 = .ok (.iadd, 1) := dk_96 (dk_at dksX11_next_5 21 rfl rfl)
theorem dX11_next_139 : decode cX11_next 139 = .ok (.putfield 27, 3) := dk_181 0 27 (dk_at dksX11_next_6 0 rfl rfl)
theorem dX11_next_142 : decode cX11_next 142 = .ok (.iload_n 1, 1) := dk_27 (dk_at dksX11_next_6 3 rfl rfl)
theorem dX11_next_143 : decode cX11_next 143 = .ok (.ifCond .eq 31, 3) := dk_153 0 31 (dk_at dksX11_next_6 4 rfl rfl)
theorem dX11_next_146 : decode cX11_next 146 = .ok (.aload_n 0, 1) := dk_42 (dk_at dksX11_next_6 7 rfl rfl)
theorem dX11_next_147 : decode cX11_next 147 = .ok (.aload_n 0, 1) := dk_42 (dk_at dksX11_next_6 8 rfl rfl)
theorem dX11_next_148 : decode cX11_next 148 = .ok (.getfield 27, 3) := dk_180 0 27 (dk_at dksX11_next_6 9 rfl rfl)
theorem dX11_next_151 : decode cX11_next 151 = .ok (.bipush 97, 2) := dk_16 97 (dk_at dksX11_next_6 12 rfl rfl)
theorem dX11_next_153 : decode cX11_next 153 = .ok (.bipush 122, 2) := dk_16 122 (dk_at dksX11_next_6 14 rfl rfl)
theorem dX11_next_155 : decode cX11_next 155 = .ok (.invokevirtual 33, 3) := dk_182 0 33 (dk_at dksX11_next_6 16 rfl rfl)
theorem dX11_next_158 : decode cX11_next 158 = .ok (.ifCond .eq 16, 3) := dk_153 0 16 (dk_at dksX11_next_6 19 rfl rfl)
theorem dX11_next_161 : decode cX11_next 161 = .ok (.aload_n 0, 1) := dk_42 (dk_at dksX11_next_6 22 rfl rfl)
theorem dX11_next_162 : decode cX11_next 162 = .ok (.dup, 1) := dk_89 (dk_at dksX11_next_6 23 rfl rfl)
theorem dX11_next_163 : decode cX11_next 163 = .ok (.getfield 27, 3) := dk_180 0 27 (dk_at dksX11_next_7 0 rfl rfl)
theorem dX11_next_166 : decode cX11_next 166 = .ok (.iconst 1, 1) := dk_4 (dk_at dksX11_next_7 3 rfl rfl)
theorem dX11_next_167 : decode cX11_next 167 = .ok (.iadd, 1) := dk_96 (dk_at dksX11_next_7 4 rfl rfl)
theorem dX11_next_168 : decode cX11_next 168 = .ok (.putfield 27, 3) := dk_181 0 27 (dk_at dksX11_next_7 5 rfl rfl)
theorem dX11_next_171 : decode cX11_next 171 = .ok (.goto (-29), 3) := dk_167 255 227 (dk_at dksX11_next_7 8 rfl rfl)
theorem dX11_next_174 : decode cX11_next 174 = .ok (.iload_n 2, 1) := dk_28 (dk_at dksX11_next_7 11 rfl rfl)
theorem dX11_next_175 : decode cX11_next 175 = .ok (.ifCond .eq 31, 3) := dk_153 0 31 (dk_at dksX11_next_7 12 rfl rfl)
theorem dX11_next_178 : decode cX11_next 178 = .ok (.aload_n 0, 1) := dk_42 (dk_at dksX11_next_7 15 rfl rfl)
theorem dX11_next_179 : decode cX11_next 179 = .ok (.aload_n 0, 1) := dk_42 (dk_at dksX11_next_7 16 rfl rfl)
theorem dX11_next_180 : decode cX11_next 180 = .ok (.getfield 27, 3) := dk_180 0 27 (dk_at dksX11_next_7 17 rfl rfl)
theorem dX11_next_183 : decode cX11_next 183 = .ok (.bipush 48, 2) := dk_16 48 (dk_at dksX11_next_7 20 rfl rfl)
theorem dX11_next_185 : decode cX11_next 185 = .ok (.bipush 57, 2) := dk_16 57 (dk_at dksX11_next_7 22 rfl rfl)
theorem dX11_next_187 : decode cX11_next 187 = .ok (.invokevirtual 33, 3) := dk_182 0 33 (dk_at dksX11_next_8 0 rfl rfl)
theorem dX11_next_190 : decode cX11_next 190 = .ok (.ifCond .eq 16, 3) := dk_153 0 16 (dk_at dksX11_next_8 3 rfl rfl)
theorem dX11_next_193 : decode cX11_next 193 = .ok (.aload_n 0, 1) := dk_42 (dk_at dksX11_next_8 6 rfl rfl)
theorem dX11_next_194 : decode cX11_next 194 = .ok (.dup, 1) := dk_89 (dk_at dksX11_next_8 7 rfl rfl)
theorem dX11_next_195 : decode cX11_next 195 = .ok (.getfield 27, 3) := dk_180 0 27 (dk_at dksX11_next_8 8 rfl rfl)
theorem dX11_next_198 : decode cX11_next 198 = .ok (.iconst 1, 1) := dk_4 (dk_at dksX11_next_8 11 rfl rfl)
theorem dX11_next_199 : decode cX11_next 199 = .ok (.iadd, 1) := dk_96 (dk_at dksX11_next_8 12 rfl rfl)
theorem dX11_next_200 : decode cX11_next 200 = .ok (.putfield 27, 3) := dk_181 0 27 (dk_at dksX11_next_8 13 rfl rfl)
theorem dX11_next_203 : decode cX11_next 203 = .ok (.goto (-29), 3) := dk_167 255 227 (dk_at dksX11_next_8 16 rfl rfl)
theorem dX11_next_206 : decode cX11_next 206 = .ok (.return_, 1) := dk_177 (dk_at dksX11_next_8 19 rfl rfl)
abbrev cX11_isAt : ByteArray := prog_9_method_2_code
def yX11_isAt : MethodName := ⟨RX11, "isAt", "(III)Z"⟩
def dkwX11_isAt_1 : List UInt8 := [153, 0, 7, 4, 167, 0, 4, 3, 172]
abbrev dktX11_isAt_1 : List UInt8 := dkwX11_isAt_1 ++ []
def dkwX11_isAt_0 : List UInt8 := [27, 42, 180, 0, 15, 162, 0, 24, 42, 180, 0, 9, 27, 51, 133, 28, 133, 29, 133, 184, 0, 23]
abbrev dktX11_isAt_0 : List UInt8 := dkwX11_isAt_0 ++ dktX11_isAt_1
theorem dksX11_isAt_0 : cX11_isAt.data.toList.drop 0 = dktX11_isAt_0 := by decide +kernel
theorem dksX11_isAt_1 : cX11_isAt.data.toList.drop 22 = dktX11_isAt_1 := dk_seg dksX11_isAt_0 22 rfl rfl
theorem dX11_isAt_0 : decode cX11_isAt 0 = .ok (.iload_n 1, 1) := dk_27 (dk_at dksX11_isAt_0 0 rfl rfl)
theorem dX11_isAt_1 : decode cX11_isAt 1 = .ok (.aload_n 0, 1) := dk_42 (dk_at dksX11_isAt_0 1 rfl rfl)
theorem dX11_isAt_2 : decode cX11_isAt 2 = .ok (.getfield 15, 3) := dk_180 0 15 (dk_at dksX11_isAt_0 2 rfl rfl)
theorem dX11_isAt_5 : decode cX11_isAt 5 = .ok (.if_icmp .ge 24, 3) := dk_162 0 24 (dk_at dksX11_isAt_0 5 rfl rfl)
theorem dX11_isAt_8 : decode cX11_isAt 8 = .ok (.aload_n 0, 1) := dk_42 (dk_at dksX11_isAt_0 8 rfl rfl)
theorem dX11_isAt_9 : decode cX11_isAt 9 = .ok (.getfield 9, 3) := dk_180 0 9 (dk_at dksX11_isAt_0 9 rfl rfl)
theorem dX11_isAt_12 : decode cX11_isAt 12 = .ok (.iload_n 1, 1) := dk_27 (dk_at dksX11_isAt_0 12 rfl rfl)
theorem dX11_isAt_13 : decode cX11_isAt 13 = .ok (.baload, 1) := dk_51 (dk_at dksX11_isAt_0 13 rfl rfl)
theorem dX11_isAt_14 : decode cX11_isAt 14 = .ok (.i2l, 1) := dk_133 (dk_at dksX11_isAt_0 14 rfl rfl)
theorem dX11_isAt_15 : decode cX11_isAt 15 = .ok (.iload_n 2, 1) := dk_28 (dk_at dksX11_isAt_0 15 rfl rfl)
theorem dX11_isAt_16 : decode cX11_isAt 16 = .ok (.i2l, 1) := dk_133 (dk_at dksX11_isAt_0 16 rfl rfl)
theorem dX11_isAt_17 : decode cX11_isAt 17 = .ok (.iload_n 3, 1) := dk_29 (dk_at dksX11_isAt_0 17 rfl rfl)
theorem dX11_isAt_18 : decode cX11_isAt 18 = .ok (.i2l, 1) := dk_133 (dk_at dksX11_isAt_0 18 rfl rfl)
theorem dX11_isAt_19 : decode cX11_isAt 19 = .ok (.invokestatic 23, 3) := dk_184 0 23 (dk_at dksX11_isAt_0 19 rfl rfl)
theorem dX11_isAt_22 : decode cX11_isAt 22 = .ok (.ifCond .eq 7, 3) := dk_153 0 7 (dk_at dksX11_isAt_1 0 rfl rfl)
theorem dX11_isAt_25 : decode cX11_isAt 25 = .ok (.iconst 1, 1) := dk_4 (dk_at dksX11_isAt_1 3 rfl rfl)
theorem dX11_isAt_26 : decode cX11_isAt 26 = .ok (.goto 4, 3) := dk_167 0 4 (dk_at dksX11_isAt_1 4 rfl rfl)
theorem dX11_isAt_29 : decode cX11_isAt 29 = .ok (.iconst 0, 1) := dk_3 (dk_at dksX11_isAt_1 7 rfl rfl)
theorem dX11_isAt_30 : decode cX11_isAt 30 = .ok (.ireturn, 1) := dk_172 (dk_at dksX11_isAt_1 8 rfl rfl)
abbrev cX11_item : ByteArray := prog_9_method_15_code
def yX11_item : MethodName := ⟨RX11, "item", "()V"⟩
def dkwX11_item_2 : List UInt8 := [182, 0, 148, 87, 177]
abbrev dktX11_item_2 : List UInt8 := dkwX11_item_2 ++ []
def dkwX11_item_1 : List UInt8 := [153, 0, 10, 42, 182, 0, 144, 167, 0, 21, 42, 18, 146, 182, 0, 99, 42, 180, 0, 19, 42, 182, 0, 103]
abbrev dktX11_item_1 : List UInt8 := dkwX11_item_1 ++ dktX11_item_2
def dkwX11_item_0 : List UInt8 := [42, 182, 0, 137, 60, 27, 155, 0, 11, 42, 27, 182, 0, 140, 167, 0, 37, 42, 18, 142, 182, 0, 118]
abbrev dktX11_item_0 : List UInt8 := dkwX11_item_0 ++ dktX11_item_1
theorem dksX11_item_0 : cX11_item.data.toList.drop 0 = dktX11_item_0 := by decide +kernel
theorem dksX11_item_1 : cX11_item.data.toList.drop 23 = dktX11_item_1 := dk_seg dksX11_item_0 23 rfl rfl
theorem dksX11_item_2 : cX11_item.data.toList.drop 47 = dktX11_item_2 := dk_seg dksX11_item_1 24 rfl rfl
theorem dX11_item_0 : decode cX11_item 0 = .ok (.aload_n 0, 1) := dk_42 (dk_at dksX11_item_0 0 rfl rfl)
theorem dX11_item_1 : decode cX11_item 1 = .ok (.invokevirtual 137, 3) := dk_182 0 137 (dk_at dksX11_item_0 1 rfl rfl)
theorem dX11_item_4 : decode cX11_item 4 = .ok (.istore_n 1, 1) := dk_60 (dk_at dksX11_item_0 4 rfl rfl)
theorem dX11_item_5 : decode cX11_item 5 = .ok (.iload_n 1, 1) := dk_27 (dk_at dksX11_item_0 5 rfl rfl)
theorem dX11_item_6 : decode cX11_item 6 = .ok (.ifCond .lt 11, 3) := dk_155 0 11 (dk_at dksX11_item_0 6 rfl rfl)
theorem dX11_item_9 : decode cX11_item 9 = .ok (.aload_n 0, 1) := dk_42 (dk_at dksX11_item_0 9 rfl rfl)
theorem dX11_item_10 : decode cX11_item 10 = .ok (.iload_n 1, 1) := dk_27 (dk_at dksX11_item_0 10 rfl rfl)
theorem dX11_item_11 : decode cX11_item 11 = .ok (.invokevirtual 140, 3) := dk_182 0 140 (dk_at dksX11_item_0 11 rfl rfl)
theorem dX11_item_14 : decode cX11_item 14 = .ok (.goto 37, 3) := dk_167 0 37 (dk_at dksX11_item_0 14 rfl rfl)
theorem dX11_item_17 : decode cX11_item 17 = .ok (.aload_n 0, 1) := dk_42 (dk_at dksX11_item_0 17 rfl rfl)
theorem dX11_item_18 : decode cX11_item 18 = .ok (.ldc 142, 2) := dk_18 142 (dk_at dksX11_item_0 18 rfl rfl)
theorem dX11_item_20 : decode cX11_item 20 = .ok (.invokevirtual 118, 3) := dk_182 0 118 (dk_at dksX11_item_0 20 rfl rfl)
theorem dX11_item_23 : decode cX11_item 23 = .ok (.ifCond .eq 10, 3) := dk_153 0 10 (dk_at dksX11_item_1 0 rfl rfl)
theorem dX11_item_26 : decode cX11_item 26 = .ok (.aload_n 0, 1) := dk_42 (dk_at dksX11_item_1 3 rfl rfl)
theorem dX11_item_27 : decode cX11_item 27 = .ok (.invokevirtual 144, 3) := dk_182 0 144 (dk_at dksX11_item_1 4 rfl rfl)
theorem dX11_item_30 : decode cX11_item 30 = .ok (.goto 21, 3) := dk_167 0 21 (dk_at dksX11_item_1 7 rfl rfl)
theorem dX11_item_33 : decode cX11_item 33 = .ok (.aload_n 0, 1) := dk_42 (dk_at dksX11_item_1 10 rfl rfl)
theorem dX11_item_34 : decode cX11_item 34 = .ok (.ldc 146, 2) := dk_18 146 (dk_at dksX11_item_1 11 rfl rfl)
theorem dX11_item_36 : decode cX11_item 36 = .ok (.invokevirtual 99, 3) := dk_182 0 99 (dk_at dksX11_item_1 13 rfl rfl)
theorem dX11_item_39 : decode cX11_item 39 = .ok (.aload_n 0, 1) := dk_42 (dk_at dksX11_item_1 16 rfl rfl)
theorem dX11_item_40 : decode cX11_item 40 = .ok (.getfield 19, 3) := dk_180 0 19 (dk_at dksX11_item_1 17 rfl rfl)
theorem dX11_item_43 : decode cX11_item 43 = .ok (.aload_n 0, 1) := dk_42 (dk_at dksX11_item_1 20 rfl rfl)
theorem dX11_item_44 : decode cX11_item 44 = .ok (.invokevirtual 103, 3) := dk_182 0 103 (dk_at dksX11_item_1 21 rfl rfl)
theorem dX11_item_47 : decode cX11_item 47 = .ok (.invokevirtual 148, 3) := dk_182 0 148 (dk_at dksX11_item_2 0 rfl rfl)
theorem dX11_item_50 : decode cX11_item 50 = .ok (.pop, 1) := dk_87 (dk_at dksX11_item_2 3 rfl rfl)
theorem dX11_item_51 : decode cX11_item 51 = .ok (.return_, 1) := dk_177 (dk_at dksX11_item_2 4 rfl rfl)
abbrev cX11_kindHere : ByteArray := prog_9_method_11_code
def yX11_kindHere : MethodName := ⟨RX11, "kindHere", "()I"⟩
def dkwX11_kindHere_3 : List UInt8 := [153, 0, 7, 7, 167, 0, 17, 42, 18, 83, 182, 0, 55, 153, 0, 7, 8, 167, 0, 4, 2, 172]
abbrev dktX11_kindHere_3 : List UInt8 := dkwX11_kindHere_3 ++ []
def dkwX11_kindHere_2 : List UInt8 := [167, 0, 43, 42, 18, 79, 182, 0, 55, 153, 0, 7, 6, 167, 0, 30, 42, 18, 81, 182, 0, 55]
abbrev dktX11_kindHere_2 : List UInt8 := dkwX11_kindHere_2 ++ dktX11_kindHere_3
def dkwX11_kindHere_1 : List UInt8 := [167, 0, 17, 42, 18, 77, 182, 0, 55, 153, 0, 7, 5, 167, 0, 4, 2, 60, 27, 155, 0, 7, 27]
abbrev dktX11_kindHere_1 : List UInt8 := dkwX11_kindHere_1 ++ dktX11_kindHere_2
def dkwX11_kindHere_0 : List UInt8 := [42, 18, 73, 182, 0, 55, 153, 0, 7, 3, 167, 0, 30, 42, 18, 75, 182, 0, 55, 153, 0, 7, 4]
abbrev dktX11_kindHere_0 : List UInt8 := dkwX11_kindHere_0 ++ dktX11_kindHere_1
theorem dksX11_kindHere_0 : cX11_kindHere.data.toList.drop 0 = dktX11_kindHere_0 := by decide +kernel
theorem dksX11_kindHere_1 : cX11_kindHere.data.toList.drop 23 = dktX11_kindHere_1 := dk_seg dksX11_kindHere_0 23 rfl rfl
theorem dksX11_kindHere_2 : cX11_kindHere.data.toList.drop 46 = dktX11_kindHere_2 := dk_seg dksX11_kindHere_1 23 rfl rfl
theorem dksX11_kindHere_3 : cX11_kindHere.data.toList.drop 68 = dktX11_kindHere_3 := dk_seg dksX11_kindHere_2 22 rfl rfl
theorem dX11_kindHere_0 : decode cX11_kindHere 0 = .ok (.aload_n 0, 1) := dk_42 (dk_at dksX11_kindHere_0 0 rfl rfl)
theorem dX11_kindHere_1 : decode cX11_kindHere 1 = .ok (.ldc 73, 2) := dk_18 73 (dk_at dksX11_kindHere_0 1 rfl rfl)
theorem dX11_kindHere_3 : decode cX11_kindHere 3 = .ok (.invokevirtual 55, 3) := dk_182 0 55 (dk_at dksX11_kindHere_0 3 rfl rfl)
theorem dX11_kindHere_6 : decode cX11_kindHere 6 = .ok (.ifCond .eq 7, 3) := dk_153 0 7 (dk_at dksX11_kindHere_0 6 rfl rfl)
theorem dX11_kindHere_9 : decode cX11_kindHere 9 = .ok (.iconst 0, 1) := dk_3 (dk_at dksX11_kindHere_0 9 rfl rfl)
theorem dX11_kindHere_10 : decode cX11_kindHere 10 = .ok (.goto 30, 3) := dk_167 0 30 (dk_at dksX11_kindHere_0 10 rfl rfl)
theorem dX11_kindHere_13 : decode cX11_kindHere 13 = .ok (.aload_n 0, 1) := dk_42 (dk_at dksX11_kindHere_0 13 rfl rfl)
theorem dX11_kindHere_14 : decode cX11_kindHere 14 = .ok (.ldc 75, 2) := dk_18 75 (dk_at dksX11_kindHere_0 14 rfl rfl)
theorem dX11_kindHere_16 : decode cX11_kindHere 16 = .ok (.invokevirtual 55, 3) := dk_182 0 55 (dk_at dksX11_kindHere_0 16 rfl rfl)
theorem dX11_kindHere_19 : decode cX11_kindHere 19 = .ok (.ifCond .eq 7, 3) := dk_153 0 7 (dk_at dksX11_kindHere_0 19 rfl rfl)
theorem dX11_kindHere_22 : decode cX11_kindHere 22 = .ok (.iconst 1, 1) := dk_4 (dk_at dksX11_kindHere_0 22 rfl rfl)
theorem dX11_kindHere_23 : decode cX11_kindHere 23 = .ok (.goto 17, 3) := dk_167 0 17 (dk_at dksX11_kindHere_1 0 rfl rfl)
theorem dX11_kindHere_26 : decode cX11_kindHere 26 = .ok (.aload_n 0, 1) := dk_42 (dk_at dksX11_kindHere_1 3 rfl rfl)
theorem dX11_kindHere_27 : decode cX11_kindHere 27 = .ok (.ldc 77, 2) := dk_18 77 (dk_at dksX11_kindHere_1 4 rfl rfl)
theorem dX11_kindHere_29 : decode cX11_kindHere 29 = .ok (.invokevirtual 55, 3) := dk_182 0 55 (dk_at dksX11_kindHere_1 6 rfl rfl)
theorem dX11_kindHere_32 : decode cX11_kindHere 32 = .ok (.ifCond .eq 7, 3) := dk_153 0 7 (dk_at dksX11_kindHere_1 9 rfl rfl)
theorem dX11_kindHere_35 : decode cX11_kindHere 35 = .ok (.iconst 2, 1) := dk_5 (dk_at dksX11_kindHere_1 12 rfl rfl)
theorem dX11_kindHere_36 : decode cX11_kindHere 36 = .ok (.goto 4, 3) := dk_167 0 4 (dk_at dksX11_kindHere_1 13 rfl rfl)
theorem dX11_kindHere_39 : decode cX11_kindHere 39 = .ok (.iconst (-1), 1) := dk_2 (dk_at dksX11_kindHere_1 16 rfl rfl)
theorem dX11_kindHere_40 : decode cX11_kindHere 40 = .ok (.istore_n 1, 1) := dk_60 (dk_at dksX11_kindHere_1 17 rfl rfl)
theorem dX11_kindHere_41 : decode cX11_kindHere 41 = .ok (.iload_n 1, 1) := dk_27 (dk_at dksX11_kindHere_1 18 rfl rfl)
theorem dX11_kindHere_42 : decode cX11_kindHere 42 = .ok (.ifCond .lt 7, 3) := dk_155 0 7 (dk_at dksX11_kindHere_1 19 rfl rfl)
theorem dX11_kindHere_45 : decode cX11_kindHere 45 = .ok (.iload_n 1, 1) := dk_27 (dk_at dksX11_kindHere_1 22 rfl rfl)
theorem dX11_kindHere_46 : decode cX11_kindHere 46 = .ok (.goto 43, 3) := dk_167 0 43 (dk_at dksX11_kindHere_2 0 rfl rfl)
theorem dX11_kindHere_49 : decode cX11_kindHere 49 = .ok (.aload_n 0, 1) := dk_42 (dk_at dksX11_kindHere_2 3 rfl rfl)
theorem dX11_kindHere_50 : decode cX11_kindHere 50 = .ok (.ldc 79, 2) := dk_18 79 (dk_at dksX11_kindHere_2 4 rfl rfl)
theorem dX11_kindHere_52 : decode cX11_kindHere 52 = .ok (.invokevirtual 55, 3) := dk_182 0 55 (dk_at dksX11_kindHere_2 6 rfl rfl)
theorem dX11_kindHere_55 : decode cX11_kindHere 55 = .ok (.ifCond .eq 7, 3) := dk_153 0 7 (dk_at dksX11_kindHere_2 9 rfl rfl)
theorem dX11_kindHere_58 : decode cX11_kindHere 58 = .ok (.iconst 3, 1) := dk_6 (dk_at dksX11_kindHere_2 12 rfl rfl)
theorem dX11_kindHere_59 : decode cX11_kindHere 59 = .ok (.goto 30, 3) := dk_167 0 30 (dk_at dksX11_kindHere_2 13 rfl rfl)
theorem dX11_kindHere_62 : decode cX11_kindHere 62 = .ok (.aload_n 0, 1) := dk_42 (dk_at dksX11_kindHere_2 16 rfl rfl)
theorem dX11_kindHere_63 : decode cX11_kindHere 63 = .ok (.ldc 81, 2) := dk_18 81 (dk_at dksX11_kindHere_2 17 rfl rfl)
theorem dX11_kindHere_65 : decode cX11_kindHere 65 = .ok (.invokevirtual 55, 3) := dk_182 0 55 (dk_at dksX11_kindHere_2 19 rfl rfl)
theorem dX11_kindHere_68 : decode cX11_kindHere 68 = .ok (.ifCond .eq 7, 3) := dk_153 0 7 (dk_at dksX11_kindHere_3 0 rfl rfl)
theorem dX11_kindHere_71 : decode cX11_kindHere 71 = .ok (.iconst 4, 1) := dk_7 (dk_at dksX11_kindHere_3 3 rfl rfl)
theorem dX11_kindHere_72 : decode cX11_kindHere 72 = .ok (.goto 17, 3) := dk_167 0 17 (dk_at dksX11_kindHere_3 4 rfl rfl)
theorem dX11_kindHere_75 : decode cX11_kindHere 75 = .ok (.aload_n 0, 1) := dk_42 (dk_at dksX11_kindHere_3 7 rfl rfl)
theorem dX11_kindHere_76 : decode cX11_kindHere 76 = .ok (.ldc 83, 2) := dk_18 83 (dk_at dksX11_kindHere_3 8 rfl rfl)
theorem dX11_kindHere_78 : decode cX11_kindHere 78 = .ok (.invokevirtual 55, 3) := dk_182 0 55 (dk_at dksX11_kindHere_3 10 rfl rfl)
theorem dX11_kindHere_81 : decode cX11_kindHere 81 = .ok (.ifCond .eq 7, 3) := dk_153 0 7 (dk_at dksX11_kindHere_3 13 rfl rfl)
theorem dX11_kindHere_84 : decode cX11_kindHere 84 = .ok (.iconst 5, 1) := dk_8 (dk_at dksX11_kindHere_3 16 rfl rfl)
theorem dX11_kindHere_85 : decode cX11_kindHere 85 = .ok (.goto 4, 3) := dk_167 0 4 (dk_at dksX11_kindHere_3 17 rfl rfl)
theorem dX11_kindHere_88 : decode cX11_kindHere 88 = .ok (.iconst (-1), 1) := dk_2 (dk_at dksX11_kindHere_3 20 rfl rfl)
theorem dX11_kindHere_89 : decode cX11_kindHere 89 = .ok (.ireturn, 1) := dk_172 (dk_at dksX11_kindHere_3 21 rfl rfl)
abbrev cX11_isWord : ByteArray := prog_9_method_5_code
def yX11_isWord : MethodName := ⟨RX11, "isWord", "(Ljava/lang/String;)Z"⟩
def dkwX11_isWord_3 : List UInt8 := [167, 255, 216, 28, 172]
abbrev dktX11_isWord_3 : List UInt8 := dkwX11_isWord_3 ++ []
def dkwX11_isWord_2 : List UInt8 := [42, 180, 0, 30, 29, 96, 51, 43, 29, 182, 0, 51, 160, 0, 7, 4, 167, 0, 4, 3, 61, 132, 3, 1]
abbrev dktX11_isWord_2 : List UInt8 := dkwX11_isWord_2 ++ dktX11_isWord_3
def dkwX11_isWord_1 : List UInt8 := [4, 167, 0, 4, 3, 61, 3, 62, 29, 43, 182, 0, 45, 162, 0, 38, 28, 153, 0, 34, 42, 180, 0, 9]
abbrev dktX11_isWord_1 : List UInt8 := dkwX11_isWord_1 ++ dktX11_isWord_2
def dkwX11_isWord_0 : List UInt8 := [42, 180, 0, 37, 4, 160, 0, 23, 42, 180, 0, 27, 42, 180, 0, 30, 100, 43, 182, 0, 45, 160, 0, 7]
abbrev dktX11_isWord_0 : List UInt8 := dkwX11_isWord_0 ++ dktX11_isWord_1
theorem dksX11_isWord_0 : cX11_isWord.data.toList.drop 0 = dktX11_isWord_0 := by decide +kernel
theorem dksX11_isWord_1 : cX11_isWord.data.toList.drop 24 = dktX11_isWord_1 := dk_seg dksX11_isWord_0 24 rfl rfl
theorem dksX11_isWord_2 : cX11_isWord.data.toList.drop 48 = dktX11_isWord_2 := dk_seg dksX11_isWord_1 24 rfl rfl
theorem dksX11_isWord_3 : cX11_isWord.data.toList.drop 72 = dktX11_isWord_3 := dk_seg dksX11_isWord_2 24 rfl rfl
theorem dX11_isWord_0 : decode cX11_isWord 0 = .ok (.aload_n 0, 1) := dk_42 (dk_at dksX11_isWord_0 0 rfl rfl)
theorem dX11_isWord_1 : decode cX11_isWord 1 = .ok (.getfield 37, 3) := dk_180 0 37 (dk_at dksX11_isWord_0 1 rfl rfl)
theorem dX11_isWord_4 : decode cX11_isWord 4 = .ok (.iconst 1, 1) := dk_4 (dk_at dksX11_isWord_0 4 rfl rfl)
theorem dX11_isWord_5 : decode cX11_isWord 5 = .ok (.if_icmp .ne 23, 3) := dk_160 0 23 (dk_at dksX11_isWord_0 5 rfl rfl)
theorem dX11_isWord_8 : decode cX11_isWord 8 = .ok (.aload_n 0, 1) := dk_42 (dk_at dksX11_isWord_0 8 rfl rfl)
theorem dX11_isWord_9 : decode cX11_isWord 9 = .ok (.getfield 27, 3) := dk_180 0 27 (dk_at dksX11_isWord_0 9 rfl rfl)
theorem dX11_isWord_12 : decode cX11_isWord 12 = .ok (.aload_n 0, 1) := dk_42 (dk_at dksX11_isWord_0 12 rfl rfl)
theorem dX11_isWord_13 : decode cX11_isWord 13 = .ok (.getfield 30, 3) := dk_180 0 30 (dk_at dksX11_isWord_0 13 rfl rfl)
theorem dX11_isWord_16 : decode cX11_isWord 16 = .ok (.isub, 1) := dk_100 (dk_at dksX11_isWord_0 16 rfl rfl)
theorem dX11_isWord_17 : decode cX11_isWord 17 = .ok (.aload_n 1, 1) := dk_43 (dk_at dksX11_isWord_0 17 rfl rfl)
theorem dX11_isWord_18 : decode cX11_isWord 18 = .ok (.invokevirtual 45, 3) := dk_182 0 45 (dk_at dksX11_isWord_0 18 rfl rfl)
theorem dX11_isWord_21 : decode cX11_isWord 21 = .ok (.if_icmp .ne 7, 3) := dk_160 0 7 (dk_at dksX11_isWord_0 21 rfl rfl)
theorem dX11_isWord_24 : decode cX11_isWord 24 = .ok (.iconst 1, 1) := dk_4 (dk_at dksX11_isWord_1 0 rfl rfl)
theorem dX11_isWord_25 : decode cX11_isWord 25 = .ok (.goto 4, 3) := dk_167 0 4 (dk_at dksX11_isWord_1 1 rfl rfl)
theorem dX11_isWord_28 : decode cX11_isWord 28 = .ok (.iconst 0, 1) := dk_3 (dk_at dksX11_isWord_1 4 rfl rfl)
theorem dX11_isWord_29 : decode cX11_isWord 29 = .ok (.istore_n 2, 1) := dk_61 (dk_at dksX11_isWord_1 5 rfl rfl)
theorem dX11_isWord_30 : decode cX11_isWord 30 = .ok (.iconst 0, 1) := dk_3 (dk_at dksX11_isWord_1 6 rfl rfl)
theorem dX11_isWord_31 : decode cX11_isWord 31 = .ok (.istore_n 3, 1) := dk_62 (dk_at dksX11_isWord_1 7 rfl rfl)
theorem dX11_isWord_32 : decode cX11_isWord 32 = .ok (.iload_n 3, 1) := dk_29 (dk_at dksX11_isWord_1 8 rfl rfl)
theorem dX11_isWord_33 : decode cX11_isWord 33 = .ok (.aload_n 1, 1) := dk_43 (dk_at dksX11_isWord_1 9 rfl rfl)
theorem dX11_isWord_34 : decode cX11_isWord 34 = .ok (.invokevirtual 45, 3) := dk_182 0 45 (dk_at dksX11_isWord_1 10 rfl rfl)
theorem dX11_isWord_37 : decode cX11_isWord 37 = .ok (.if_icmp .ge 38, 3) := dk_162 0 38 (dk_at dksX11_isWord_1 13 rfl rfl)
theorem dX11_isWord_40 : decode cX11_isWord 40 = .ok (.iload_n 2, 1) := dk_28 (dk_at dksX11_isWord_1 16 rfl rfl)
theorem dX11_isWord_41 : decode cX11_isWord 41 = .ok (.ifCond .eq 34, 3) := dk_153 0 34 (dk_at dksX11_isWord_1 17 rfl rfl)
theorem dX11_isWord_44 : decode cX11_isWord 44 = .ok (.aload_n 0, 1) := dk_42 (dk_at dksX11_isWord_1 20 rfl rfl)
theorem dX11_isWord_45 : decode cX11_isWord 45 = .ok (.getfield 9, 3) := dk_180 0 9 (dk_at dksX11_isWord_1 21 rfl rfl)
theorem dX11_isWord_48 : decode cX11_isWord 48 = .ok (.aload_n 0, 1) := dk_42 (dk_at dksX11_isWord_2 0 rfl rfl)
theorem dX11_isWord_49 : decode cX11_isWord 49 = .ok (.getfield 30, 3) := dk_180 0 30 (dk_at dksX11_isWord_2 1 rfl rfl)
theorem dX11_isWord_52 : decode cX11_isWord 52 = .ok (.iload_n 3, 1) := dk_29 (dk_at dksX11_isWord_2 4 rfl rfl)
theorem dX11_isWord_53 : decode cX11_isWord 53 = .ok (.iadd, 1) := dk_96 (dk_at dksX11_isWord_2 5 rfl rfl)
theorem dX11_isWord_54 : decode cX11_isWord 54 = .ok (.baload, 1) := dk_51 (dk_at dksX11_isWord_2 6 rfl rfl)
theorem dX11_isWord_55 : decode cX11_isWord 55 = .ok (.aload_n 1, 1) := dk_43 (dk_at dksX11_isWord_2 7 rfl rfl)
theorem dX11_isWord_56 : decode cX11_isWord 56 = .ok (.iload_n 3, 1) := dk_29 (dk_at dksX11_isWord_2 8 rfl rfl)
theorem dX11_isWord_57 : decode cX11_isWord 57 = .ok (.invokevirtual 51, 3) := dk_182 0 51 (dk_at dksX11_isWord_2 9 rfl rfl)
theorem dX11_isWord_60 : decode cX11_isWord 60 = .ok (.if_icmp .ne 7, 3) := dk_160 0 7 (dk_at dksX11_isWord_2 12 rfl rfl)
theorem dX11_isWord_63 : decode cX11_isWord 63 = .ok (.iconst 1, 1) := dk_4 (dk_at dksX11_isWord_2 15 rfl rfl)
theorem dX11_isWord_64 : decode cX11_isWord 64 = .ok (.goto 4, 3) := dk_167 0 4 (dk_at dksX11_isWord_2 16 rfl rfl)
theorem dX11_isWord_67 : decode cX11_isWord 67 = .ok (.iconst 0, 1) := dk_3 (dk_at dksX11_isWord_2 19 rfl rfl)
theorem dX11_isWord_68 : decode cX11_isWord 68 = .ok (.istore_n 2, 1) := dk_61 (dk_at dksX11_isWord_2 20 rfl rfl)
theorem dX11_isWord_69 : decode cX11_isWord 69 = .ok (.iinc 3 1, 3) := dk_132 3 1 (dk_at dksX11_isWord_2 21 rfl rfl)
theorem dX11_isWord_72 : decode cX11_isWord 72 = .ok (.goto (-40), 3) := dk_167 255 216 (dk_at dksX11_isWord_3 0 rfl rfl)
theorem dX11_isWord_75 : decode cX11_isWord 75 = .ok (.iload_n 2, 1) := dk_28 (dk_at dksX11_isWord_3 3 rfl rfl)
theorem dX11_isWord_76 : decode cX11_isWord 76 = .ok (.ireturn, 1) := dk_172 (dk_at dksX11_isWord_3 4 rfl rfl)
abbrev cX11_rumour : ByteArray := prog_9_method_13_code
def yX11_rumour : MethodName := ⟨RX11, "rumour", "(I)V"⟩
def dkwX11_rumour_3 : List UInt8 := [18, 121, 182, 0, 118, 153, 0, 10, 44, 6, 42, 182, 0, 122, 79, 177]
abbrev dktX11_rumour_3 : List UInt8 := dkwX11_rumour_3 ++ []
def dkwX11_rumour_2 : List UInt8 := [180, 0, 110, 77, 42, 18, 116, 182, 0, 118, 153, 0, 13, 44, 4, 42, 3, 16, 99, 182, 0, 69, 79, 42]
abbrev dktX11_rumour_2 : List UInt8 := dkwX11_rumour_2 ++ dktX11_rumour_3
def dkwX11_rumour_1 : List UInt8 := [182, 0, 59, 42, 18, 97, 182, 0, 99, 42, 180, 0, 19, 27, 42, 182, 0, 103, 16, 10, 182, 0, 106]
abbrev dktX11_rumour_1 : List UInt8 := dkwX11_rumour_1 ++ dktX11_rumour_2
def dkwX11_rumour_0 : List UInt8 := [42, 42, 180, 0, 19, 180, 0, 94, 16, 10, 162, 0, 7, 4, 167, 0, 4, 3, 182, 0, 62, 42]
abbrev dktX11_rumour_0 : List UInt8 := dkwX11_rumour_0 ++ dktX11_rumour_1
theorem dksX11_rumour_0 : cX11_rumour.data.toList.drop 0 = dktX11_rumour_0 := by decide +kernel
theorem dksX11_rumour_1 : cX11_rumour.data.toList.drop 22 = dktX11_rumour_1 := dk_seg dksX11_rumour_0 22 rfl rfl
theorem dksX11_rumour_2 : cX11_rumour.data.toList.drop 45 = dktX11_rumour_2 := dk_seg dksX11_rumour_1 23 rfl rfl
theorem dksX11_rumour_3 : cX11_rumour.data.toList.drop 69 = dktX11_rumour_3 := dk_seg dksX11_rumour_2 24 rfl rfl
theorem dX11_rumour_0 : decode cX11_rumour 0 = .ok (.aload_n 0, 1) := dk_42 (dk_at dksX11_rumour_0 0 rfl rfl)
theorem dX11_rumour_1 : decode cX11_rumour 1 = .ok (.aload_n 0, 1) := dk_42 (dk_at dksX11_rumour_0 1 rfl rfl)
theorem dX11_rumour_2 : decode cX11_rumour 2 = .ok (.getfield 19, 3) := dk_180 0 19 (dk_at dksX11_rumour_0 2 rfl rfl)
theorem dX11_rumour_5 : decode cX11_rumour 5 = .ok (.getfield 94, 3) := dk_180 0 94 (dk_at dksX11_rumour_0 5 rfl rfl)
theorem dX11_rumour_8 : decode cX11_rumour 8 = .ok (.bipush 10, 2) := dk_16 10 (dk_at dksX11_rumour_0 8 rfl rfl)
theorem dX11_rumour_10 : decode cX11_rumour 10 = .ok (.if_icmp .ge 7, 3) := dk_162 0 7 (dk_at dksX11_rumour_0 10 rfl rfl)
theorem dX11_rumour_13 : decode cX11_rumour 13 = .ok (.iconst 1, 1) := dk_4 (dk_at dksX11_rumour_0 13 rfl rfl)
theorem dX11_rumour_14 : decode cX11_rumour 14 = .ok (.goto 4, 3) := dk_167 0 4 (dk_at dksX11_rumour_0 14 rfl rfl)
theorem dX11_rumour_17 : decode cX11_rumour 17 = .ok (.iconst 0, 1) := dk_3 (dk_at dksX11_rumour_0 17 rfl rfl)
theorem dX11_rumour_18 : decode cX11_rumour 18 = .ok (.invokevirtual 62, 3) := dk_182 0 62 (dk_at dksX11_rumour_0 18 rfl rfl)
theorem dX11_rumour_21 : decode cX11_rumour 21 = .ok (.aload_n 0, 1) := dk_42 (dk_at dksX11_rumour_0 21 rfl rfl)
theorem dX11_rumour_22 : decode cX11_rumour 22 = .ok (.invokevirtual 59, 3) := dk_182 0 59 (dk_at dksX11_rumour_1 0 rfl rfl)
theorem dX11_rumour_25 : decode cX11_rumour 25 = .ok (.aload_n 0, 1) := dk_42 (dk_at dksX11_rumour_1 3 rfl rfl)
theorem dX11_rumour_26 : decode cX11_rumour 26 = .ok (.ldc 97, 2) := dk_18 97 (dk_at dksX11_rumour_1 4 rfl rfl)
theorem dX11_rumour_28 : decode cX11_rumour 28 = .ok (.invokevirtual 99, 3) := dk_182 0 99 (dk_at dksX11_rumour_1 6 rfl rfl)
theorem dX11_rumour_31 : decode cX11_rumour 31 = .ok (.aload_n 0, 1) := dk_42 (dk_at dksX11_rumour_1 9 rfl rfl)
theorem dX11_rumour_32 : decode cX11_rumour 32 = .ok (.getfield 19, 3) := dk_180 0 19 (dk_at dksX11_rumour_1 10 rfl rfl)
theorem dX11_rumour_35 : decode cX11_rumour 35 = .ok (.iload_n 1, 1) := dk_27 (dk_at dksX11_rumour_1 13 rfl rfl)
theorem dX11_rumour_36 : decode cX11_rumour 36 = .ok (.aload_n 0, 1) := dk_42 (dk_at dksX11_rumour_1 14 rfl rfl)
theorem dX11_rumour_37 : decode cX11_rumour 37 = .ok (.invokevirtual 103, 3) := dk_182 0 103 (dk_at dksX11_rumour_1 15 rfl rfl)
theorem dX11_rumour_40 : decode cX11_rumour 40 = .ok (.bipush 10, 2) := dk_16 10 (dk_at dksX11_rumour_1 18 rfl rfl)
theorem dX11_rumour_42 : decode cX11_rumour 42 = .ok (.invokevirtual 106, 3) := dk_182 0 106 (dk_at dksX11_rumour_1 20 rfl rfl)
theorem dX11_rumour_45 : decode cX11_rumour 45 = .ok (.getfield 110, 3) := dk_180 0 110 (dk_at dksX11_rumour_2 0 rfl rfl)
theorem dX11_rumour_48 : decode cX11_rumour 48 = .ok (.astore_n 2, 1) := dk_77 (dk_at dksX11_rumour_2 3 rfl rfl)
theorem dX11_rumour_49 : decode cX11_rumour 49 = .ok (.aload_n 0, 1) := dk_42 (dk_at dksX11_rumour_2 4 rfl rfl)
theorem dX11_rumour_50 : decode cX11_rumour 50 = .ok (.ldc 116, 2) := dk_18 116 (dk_at dksX11_rumour_2 5 rfl rfl)
theorem dX11_rumour_52 : decode cX11_rumour 52 = .ok (.invokevirtual 118, 3) := dk_182 0 118 (dk_at dksX11_rumour_2 7 rfl rfl)
theorem dX11_rumour_55 : decode cX11_rumour 55 = .ok (.ifCond .eq 13, 3) := dk_153 0 13 (dk_at dksX11_rumour_2 10 rfl rfl)
theorem dX11_rumour_58 : decode cX11_rumour 58 = .ok (.aload_n 2, 1) := dk_44 (dk_at dksX11_rumour_2 13 rfl rfl)
theorem dX11_rumour_59 : decode cX11_rumour 59 = .ok (.iconst 1, 1) := dk_4 (dk_at dksX11_rumour_2 14 rfl rfl)
theorem dX11_rumour_60 : decode cX11_rumour 60 = .ok (.aload_n 0, 1) := dk_42 (dk_at dksX11_rumour_2 15 rfl rfl)
theorem dX11_rumour_61 : decode cX11_rumour 61 = .ok (.iconst 0, 1) := dk_3 (dk_at dksX11_rumour_2 16 rfl rfl)
theorem dX11_rumour_62 : decode cX11_rumour 62 = .ok (.bipush 99, 2) := dk_16 99 (dk_at dksX11_rumour_2 17 rfl rfl)
theorem dX11_rumour_64 : decode cX11_rumour 64 = .ok (.invokevirtual 69, 3) := dk_182 0 69 (dk_at dksX11_rumour_2 19 rfl rfl)
theorem dX11_rumour_67 : decode cX11_rumour 67 = .ok (.iastore, 1) := dk_79 (dk_at dksX11_rumour_2 22 rfl rfl)
theorem dX11_rumour_68 : decode cX11_rumour 68 = .ok (.aload_n 0, 1) := dk_42 (dk_at dksX11_rumour_2 23 rfl rfl)
theorem dX11_rumour_69 : decode cX11_rumour 69 = .ok (.ldc 121, 2) := dk_18 121 (dk_at dksX11_rumour_3 0 rfl rfl)
theorem dX11_rumour_71 : decode cX11_rumour 71 = .ok (.invokevirtual 118, 3) := dk_182 0 118 (dk_at dksX11_rumour_3 2 rfl rfl)
theorem dX11_rumour_74 : decode cX11_rumour 74 = .ok (.ifCond .eq 10, 3) := dk_153 0 10 (dk_at dksX11_rumour_3 5 rfl rfl)
theorem dX11_rumour_77 : decode cX11_rumour 77 = .ok (.aload_n 2, 1) := dk_44 (dk_at dksX11_rumour_3 8 rfl rfl)
theorem dX11_rumour_78 : decode cX11_rumour 78 = .ok (.iconst 3, 1) := dk_6 (dk_at dksX11_rumour_3 9 rfl rfl)
theorem dX11_rumour_79 : decode cX11_rumour 79 = .ok (.aload_n 0, 1) := dk_42 (dk_at dksX11_rumour_3 10 rfl rfl)
theorem dX11_rumour_80 : decode cX11_rumour 80 = .ok (.invokevirtual 122, 3) := dk_182 0 122 (dk_at dksX11_rumour_3 11 rfl rfl)
theorem dX11_rumour_83 : decode cX11_rumour 83 = .ok (.iastore, 1) := dk_79 (dk_at dksX11_rumour_3 14 rfl rfl)
theorem dX11_rumour_84 : decode cX11_rumour 84 = .ok (.return_, 1) := dk_177 (dk_at dksX11_rumour_3 15 rfl rfl)
abbrev cX11_must : ByteArray := prog_9_method_4_code
def yX11_must : MethodName := ⟨RX11, "must", "(Z)V"⟩
def dkwX11_must_0 : List UInt8 := [27, 154, 0, 15, 187, 0, 40, 89, 42, 180, 0, 30, 183, 0, 42, 191, 177]
abbrev dktX11_must_0 : List UInt8 := dkwX11_must_0 ++ []
theorem dksX11_must_0 : cX11_must.data.toList.drop 0 = dktX11_must_0 := by decide +kernel
theorem dX11_must_0 : decode cX11_must 0 = .ok (.iload_n 1, 1) := dk_27 (dk_at dksX11_must_0 0 rfl rfl)
theorem dX11_must_1 : decode cX11_must 1 = .ok (.ifCond .ne 15, 3) := dk_154 0 15 (dk_at dksX11_must_0 1 rfl rfl)
theorem dX11_must_4 : decode cX11_must 4 = .ok (.new 40, 3) := dk_187 0 40 (dk_at dksX11_must_0 4 rfl rfl)
theorem dX11_must_7 : decode cX11_must 7 = .ok (.dup, 1) := dk_89 (dk_at dksX11_must_0 7 rfl rfl)
theorem dX11_must_8 : decode cX11_must 8 = .ok (.aload_n 0, 1) := dk_42 (dk_at dksX11_must_0 8 rfl rfl)
theorem dX11_must_9 : decode cX11_must 9 = .ok (.getfield 30, 3) := dk_180 0 30 (dk_at dksX11_must_0 9 rfl rfl)
theorem dX11_must_12 : decode cX11_must 12 = .ok (.invokespecial 42, 3) := dk_183 0 42 (dk_at dksX11_must_0 12 rfl rfl)
theorem dX11_must_15 : decode cX11_must 15 = .ok (.athrow, 1) := dk_191 (dk_at dksX11_must_0 15 rfl rfl)
theorem dX11_must_16 : decode cX11_must 16 = .ok (.return_, 1) := dk_177 (dk_at dksX11_must_0 16 rfl rfl)
abbrev cX11_wants : ByteArray := prog_9_method_7_code
def yX11_wants : MethodName := ⟨RX11, "wants", "(Ljava/lang/String;)V"⟩
def dkwX11_wants_0 : List UInt8 := [42, 42, 43, 182, 0, 55, 182, 0, 62, 42, 182, 0, 59, 177]
abbrev dktX11_wants_0 : List UInt8 := dkwX11_wants_0 ++ []
theorem dksX11_wants_0 : cX11_wants.data.toList.drop 0 = dktX11_wants_0 := by decide +kernel
theorem dX11_wants_0 : decode cX11_wants 0 = .ok (.aload_n 0, 1) := dk_42 (dk_at dksX11_wants_0 0 rfl rfl)
theorem dX11_wants_1 : decode cX11_wants 1 = .ok (.aload_n 0, 1) := dk_42 (dk_at dksX11_wants_0 1 rfl rfl)
theorem dX11_wants_2 : decode cX11_wants 2 = .ok (.aload_n 1, 1) := dk_43 (dk_at dksX11_wants_0 2 rfl rfl)
theorem dX11_wants_3 : decode cX11_wants 3 = .ok (.invokevirtual 55, 3) := dk_182 0 55 (dk_at dksX11_wants_0 3 rfl rfl)
theorem dX11_wants_6 : decode cX11_wants 6 = .ok (.invokevirtual 62, 3) := dk_182 0 62 (dk_at dksX11_wants_0 6 rfl rfl)
theorem dX11_wants_9 : decode cX11_wants 9 = .ok (.aload_n 0, 1) := dk_42 (dk_at dksX11_wants_0 9 rfl rfl)
theorem dX11_wants_10 : decode cX11_wants 10 = .ok (.invokevirtual 59, 3) := dk_182 0 59 (dk_at dksX11_wants_0 10 rfl rfl)
theorem dX11_wants_13 : decode cX11_wants 13 = .ok (.return_, 1) := dk_177 (dk_at dksX11_wants_0 13 rfl rfl)
abbrev cX11_event : ByteArray := prog_9_method_10_code
def yX11_event : MethodName := ⟨RX11, "event", "()I"⟩
def dkwX11_event_0 : List UInt8 := [42, 3, 16, 15, 182, 0, 69, 172]
abbrev dktX11_event_0 : List UInt8 := dkwX11_event_0 ++ []
theorem dksX11_event_0 : cX11_event.data.toList.drop 0 = dktX11_event_0 := by decide +kernel
theorem dX11_event_0 : decode cX11_event 0 = .ok (.aload_n 0, 1) := dk_42 (dk_at dksX11_event_0 0 rfl rfl)
theorem dX11_event_1 : decode cX11_event 1 = .ok (.iconst 0, 1) := dk_3 (dk_at dksX11_event_0 1 rfl rfl)
theorem dX11_event_2 : decode cX11_event 2 = .ok (.bipush 15, 2) := dk_16 15 (dk_at dksX11_event_0 2 rfl rfl)
theorem dX11_event_4 : decode cX11_event 4 = .ok (.invokevirtual 69, 3) := dk_182 0 69 (dk_at dksX11_event_0 4 rfl rfl)
theorem dX11_event_7 : decode cX11_event 7 = .ok (.ireturn, 1) := dk_172 (dk_at dksX11_event_0 7 rfl rfl)
abbrev cX11_number : ByteArray := prog_9_method_9_code
def yX11_number : MethodName := ⟨RX11, "number", "(II)I"⟩
def dkwX11_number_1 : List UInt8 := [153, 0, 7, 4, 167, 0, 4, 3, 182, 0, 62, 42, 182, 0, 59, 29, 172]
abbrev dktX11_number_1 : List UInt8 := dkwX11_number_1 ++ []
def dkwX11_number_0 : List UInt8 := [42, 182, 0, 66, 62, 42, 42, 180, 0, 37, 5, 160, 0, 19, 29, 133, 27, 133, 28, 133, 184, 0, 23]
abbrev dktX11_number_0 : List UInt8 := dkwX11_number_0 ++ dktX11_number_1
theorem dksX11_number_0 : cX11_number.data.toList.drop 0 = dktX11_number_0 := by decide +kernel
theorem dksX11_number_1 : cX11_number.data.toList.drop 23 = dktX11_number_1 := dk_seg dksX11_number_0 23 rfl rfl
theorem dX11_number_0 : decode cX11_number 0 = .ok (.aload_n 0, 1) := dk_42 (dk_at dksX11_number_0 0 rfl rfl)
theorem dX11_number_1 : decode cX11_number 1 = .ok (.invokevirtual 66, 3) := dk_182 0 66 (dk_at dksX11_number_0 1 rfl rfl)
theorem dX11_number_4 : decode cX11_number 4 = .ok (.istore_n 3, 1) := dk_62 (dk_at dksX11_number_0 4 rfl rfl)
theorem dX11_number_5 : decode cX11_number 5 = .ok (.aload_n 0, 1) := dk_42 (dk_at dksX11_number_0 5 rfl rfl)
theorem dX11_number_6 : decode cX11_number 6 = .ok (.aload_n 0, 1) := dk_42 (dk_at dksX11_number_0 6 rfl rfl)
theorem dX11_number_7 : decode cX11_number 7 = .ok (.getfield 37, 3) := dk_180 0 37 (dk_at dksX11_number_0 7 rfl rfl)
theorem dX11_number_10 : decode cX11_number 10 = .ok (.iconst 2, 1) := dk_5 (dk_at dksX11_number_0 10 rfl rfl)
theorem dX11_number_11 : decode cX11_number 11 = .ok (.if_icmp .ne 19, 3) := dk_160 0 19 (dk_at dksX11_number_0 11 rfl rfl)
theorem dX11_number_14 : decode cX11_number 14 = .ok (.iload_n 3, 1) := dk_29 (dk_at dksX11_number_0 14 rfl rfl)
theorem dX11_number_15 : decode cX11_number 15 = .ok (.i2l, 1) := dk_133 (dk_at dksX11_number_0 15 rfl rfl)
theorem dX11_number_16 : decode cX11_number 16 = .ok (.iload_n 1, 1) := dk_27 (dk_at dksX11_number_0 16 rfl rfl)
theorem dX11_number_17 : decode cX11_number 17 = .ok (.i2l, 1) := dk_133 (dk_at dksX11_number_0 17 rfl rfl)
theorem dX11_number_18 : decode cX11_number 18 = .ok (.iload_n 2, 1) := dk_28 (dk_at dksX11_number_0 18 rfl rfl)
theorem dX11_number_19 : decode cX11_number 19 = .ok (.i2l, 1) := dk_133 (dk_at dksX11_number_0 19 rfl rfl)
theorem dX11_number_20 : decode cX11_number 20 = .ok (.invokestatic 23, 3) := dk_184 0 23 (dk_at dksX11_number_0 20 rfl rfl)
theorem dX11_number_23 : decode cX11_number 23 = .ok (.ifCond .eq 7, 3) := dk_153 0 7 (dk_at dksX11_number_1 0 rfl rfl)
theorem dX11_number_26 : decode cX11_number 26 = .ok (.iconst 1, 1) := dk_4 (dk_at dksX11_number_1 3 rfl rfl)
theorem dX11_number_27 : decode cX11_number 27 = .ok (.goto 4, 3) := dk_167 0 4 (dk_at dksX11_number_1 4 rfl rfl)
theorem dX11_number_30 : decode cX11_number 30 = .ok (.iconst 0, 1) := dk_3 (dk_at dksX11_number_1 7 rfl rfl)
theorem dX11_number_31 : decode cX11_number 31 = .ok (.invokevirtual 62, 3) := dk_182 0 62 (dk_at dksX11_number_1 8 rfl rfl)
theorem dX11_number_34 : decode cX11_number 34 = .ok (.aload_n 0, 1) := dk_42 (dk_at dksX11_number_1 11 rfl rfl)
theorem dX11_number_35 : decode cX11_number 35 = .ok (.invokevirtual 59, 3) := dk_182 0 59 (dk_at dksX11_number_1 12 rfl rfl)
theorem dX11_number_38 : decode cX11_number 38 = .ok (.iload_n 3, 1) := dk_29 (dk_at dksX11_number_1 15 rfl rfl)
theorem dX11_number_39 : decode cX11_number 39 = .ok (.ireturn, 1) := dk_172 (dk_at dksX11_number_1 16 rfl rfl)
abbrev cX11_numberHere : ByteArray := prog_9_method_8_code
def yX11_numberHere : MethodName := ⟨RX11, "numberHere", "()I"⟩
def dkwX11_numberHere_2 : List UInt8 := [60, 132, 2, 1, 167, 255, 211, 27, 172]
abbrev dktX11_numberHere_2 : List UInt8 := dkwX11_numberHere_2 ++ []
def dkwX11_numberHere_1 : List UInt8 := [17, 3, 231, 164, 0, 7, 27, 167, 0, 17, 16, 10, 27, 104, 42, 180, 0, 9, 28, 51, 96, 16, 48, 100]
abbrev dktX11_numberHere_1 : List UInt8 := dkwX11_numberHere_1 ++ dktX11_numberHere_2
def dkwX11_numberHere_0 : List UInt8 := [3, 60, 42, 180, 0, 30, 61, 28, 42, 180, 0, 27, 162, 0, 43, 42, 180, 0, 37, 5, 160, 0, 35, 27]
abbrev dktX11_numberHere_0 : List UInt8 := dkwX11_numberHere_0 ++ dktX11_numberHere_1
theorem dksX11_numberHere_0 : cX11_numberHere.data.toList.drop 0 = dktX11_numberHere_0 := by decide +kernel
theorem dksX11_numberHere_1 : cX11_numberHere.data.toList.drop 24 = dktX11_numberHere_1 := dk_seg dksX11_numberHere_0 24 rfl rfl
theorem dksX11_numberHere_2 : cX11_numberHere.data.toList.drop 48 = dktX11_numberHere_2 := dk_seg dksX11_numberHere_1 24 rfl rfl
theorem dX11_numberHere_0 : decode cX11_numberHere 0 = .ok (.iconst 0, 1) := dk_3 (dk_at dksX11_numberHere_0 0 rfl rfl)
theorem dX11_numberHere_1 : decode cX11_numberHere 1 = .ok (.istore_n 1, 1) := dk_60 (dk_at dksX11_numberHere_0 1 rfl rfl)
theorem dX11_numberHere_2 : decode cX11_numberHere 2 = .ok (.aload_n 0, 1) := dk_42 (dk_at dksX11_numberHere_0 2 rfl rfl)
theorem dX11_numberHere_3 : decode cX11_numberHere 3 = .ok (.getfield 30, 3) := dk_180 0 30 (dk_at dksX11_numberHere_0 3 rfl rfl)
theorem dX11_numberHere_6 : decode cX11_numberHere 6 = .ok (.istore_n 2, 1) := dk_61 (dk_at dksX11_numberHere_0 6 rfl rfl)
theorem dX11_numberHere_7 : decode cX11_numberHere 7 = .ok (.iload_n 2, 1) := dk_28 (dk_at dksX11_numberHere_0 7 rfl rfl)
theorem dX11_numberHere_8 : decode cX11_numberHere 8 = .ok (.aload_n 0, 1) := dk_42 (dk_at dksX11_numberHere_0 8 rfl rfl)
theorem dX11_numberHere_9 : decode cX11_numberHere 9 = .ok (.getfield 27, 3) := dk_180 0 27 (dk_at dksX11_numberHere_0 9 rfl rfl)
theorem dX11_numberHere_12 : decode cX11_numberHere 12 = .ok (.if_icmp .ge 43, 3) := dk_162 0 43 (dk_at dksX11_numberHere_0 12 rfl rfl)
theorem dX11_numberHere_15 : decode cX11_numberHere 15 = .ok (.aload_n 0, 1) := dk_42 (dk_at dksX11_numberHere_0 15 rfl rfl)
theorem dX11_numberHere_16 : decode cX11_numberHere 16 = .ok (.getfield 37, 3) := dk_180 0 37 (dk_at dksX11_numberHere_0 16 rfl rfl)
theorem dX11_numberHere_19 : decode cX11_numberHere 19 = .ok (.iconst 2, 1) := dk_5 (dk_at dksX11_numberHere_0 19 rfl rfl)
theorem dX11_numberHere_20 : decode cX11_numberHere 20 = .ok (.if_icmp .ne 35, 3) := dk_160 0 35 (dk_at dksX11_numberHere_0 20 rfl rfl)
theorem dX11_numberHere_23 : decode cX11_numberHere 23 = .ok (.iload_n 1, 1) := dk_27 (dk_at dksX11_numberHere_0 23 rfl rfl)
theorem dX11_numberHere_24 : decode cX11_numberHere 24 = .ok (.sipush 999, 3) := dk_17 3 231 (dk_at dksX11_numberHere_1 0 rfl rfl)
theorem dX11_numberHere_27 : decode cX11_numberHere 27 = .ok (.if_icmp .le 7, 3) := dk_164 0 7 (dk_at dksX11_numberHere_1 3 rfl rfl)
theorem dX11_numberHere_30 : decode cX11_numberHere 30 = .ok (.iload_n 1, 1) := dk_27 (dk_at dksX11_numberHere_1 6 rfl rfl)
theorem dX11_numberHere_31 : decode cX11_numberHere 31 = .ok (.goto 17, 3) := dk_167 0 17 (dk_at dksX11_numberHere_1 7 rfl rfl)
theorem dX11_numberHere_34 : decode cX11_numberHere 34 = .ok (.bipush 10, 2) := dk_16 10 (dk_at dksX11_numberHere_1 10 rfl rfl)
theorem dX11_numberHere_36 : decode cX11_numberHere 36 = .ok (.iload_n 1, 1) := dk_27 (dk_at dksX11_numberHere_1 12 rfl rfl)
theorem dX11_numberHere_37 : decode cX11_numberHere 37 = .ok (.imul, 1) := dk_104 (dk_at dksX11_numberHere_1 13 rfl rfl)
theorem dX11_numberHere_38 : decode cX11_numberHere 38 = .ok (.aload_n 0, 1) := dk_42 (dk_at dksX11_numberHere_1 14 rfl rfl)
theorem dX11_numberHere_39 : decode cX11_numberHere 39 = .ok (.getfield 9, 3) := dk_180 0 9 (dk_at dksX11_numberHere_1 15 rfl rfl)
theorem dX11_numberHere_42 : decode cX11_numberHere 42 = .ok (.iload_n 2, 1) := dk_28 (dk_at dksX11_numberHere_1 18 rfl rfl)
theorem dX11_numberHere_43 : decode cX11_numberHere 43 = .ok (.baload, 1) := dk_51 (dk_at dksX11_numberHere_1 19 rfl rfl)
theorem dX11_numberHere_44 : decode cX11_numberHere 44 = .ok (.iadd, 1) := dk_96 (dk_at dksX11_numberHere_1 20 rfl rfl)
theorem dX11_numberHere_45 : decode cX11_numberHere 45 = .ok (.bipush 48, 2) := dk_16 48 (dk_at dksX11_numberHere_1 21 rfl rfl)
theorem dX11_numberHere_47 : decode cX11_numberHere 47 = .ok (.isub, 1) := dk_100 (dk_at dksX11_numberHere_1 23 rfl rfl)
theorem dX11_numberHere_48 : decode cX11_numberHere 48 = .ok (.istore_n 1, 1) := dk_60 (dk_at dksX11_numberHere_2 0 rfl rfl)
theorem dX11_numberHere_49 : decode cX11_numberHere 49 = .ok (.iinc 2 1, 3) := dk_132 2 1 (dk_at dksX11_numberHere_2 1 rfl rfl)
theorem dX11_numberHere_52 : decode cX11_numberHere 52 = .ok (.goto (-45), 3) := dk_167 255 211 (dk_at dksX11_numberHere_2 4 rfl rfl)
theorem dX11_numberHere_55 : decode cX11_numberHere 55 = .ok (.iload_n 1, 1) := dk_27 (dk_at dksX11_numberHere_2 7 rfl rfl)
theorem dX11_numberHere_56 : decode cX11_numberHere 56 = .ok (.ireturn, 1) := dk_172 (dk_at dksX11_numberHere_2 8 rfl rfl)
abbrev cX11_takes : ByteArray := prog_9_method_6_code
def yX11_takes : MethodName := ⟨RX11, "takes", "(Ljava/lang/String;)Z"⟩
def dkwX11_takes_0 : List UInt8 := [42, 43, 182, 0, 55, 61, 28, 153, 0, 7, 42, 182, 0, 59, 28, 172]
abbrev dktX11_takes_0 : List UInt8 := dkwX11_takes_0 ++ []
theorem dksX11_takes_0 : cX11_takes.data.toList.drop 0 = dktX11_takes_0 := by decide +kernel
theorem dX11_takes_0 : decode cX11_takes 0 = .ok (.aload_n 0, 1) := dk_42 (dk_at dksX11_takes_0 0 rfl rfl)
theorem dX11_takes_1 : decode cX11_takes 1 = .ok (.aload_n 1, 1) := dk_43 (dk_at dksX11_takes_0 1 rfl rfl)
theorem dX11_takes_2 : decode cX11_takes 2 = .ok (.invokevirtual 55, 3) := dk_182 0 55 (dk_at dksX11_takes_0 2 rfl rfl)
theorem dX11_takes_5 : decode cX11_takes 5 = .ok (.istore_n 2, 1) := dk_61 (dk_at dksX11_takes_0 5 rfl rfl)
theorem dX11_takes_6 : decode cX11_takes 6 = .ok (.iload_n 2, 1) := dk_28 (dk_at dksX11_takes_0 6 rfl rfl)
theorem dX11_takes_7 : decode cX11_takes 7 = .ok (.ifCond .eq 7, 3) := dk_153 0 7 (dk_at dksX11_takes_0 7 rfl rfl)
theorem dX11_takes_10 : decode cX11_takes 10 = .ok (.aload_n 0, 1) := dk_42 (dk_at dksX11_takes_0 10 rfl rfl)
theorem dX11_takes_11 : decode cX11_takes 11 = .ok (.invokevirtual 59, 3) := dk_182 0 59 (dk_at dksX11_takes_0 11 rfl rfl)
theorem dX11_takes_14 : decode cX11_takes 14 = .ok (.iload_n 2, 1) := dk_28 (dk_at dksX11_takes_0 14 rfl rfl)
theorem dX11_takes_15 : decode cX11_takes 15 = .ok (.ireturn, 1) := dk_172 (dk_at dksX11_takes_0 15 rfl rfl)
abbrev cX11_bed : ByteArray := prog_9_method_12_code
def yX11_bed : MethodName := ⟨RX11, "bed", "()I"⟩
def dkwX11_bed_1 : List UInt8 := [4, 167, 0, 4, 3, 182, 0, 62, 42, 3, 16, 7, 182, 0, 69, 172]
abbrev dktX11_bed_1 : List UInt8 := dkwX11_bed_1 ++ []
def dkwX11_bed_0 : List UInt8 := [42, 182, 0, 66, 60, 42, 27, 184, 0, 85, 153, 0, 18, 42, 180, 0, 19, 27, 182, 0, 89, 153, 0, 7]
abbrev dktX11_bed_0 : List UInt8 := dkwX11_bed_0 ++ dktX11_bed_1
theorem dksX11_bed_0 : cX11_bed.data.toList.drop 0 = dktX11_bed_0 := by decide +kernel
theorem dksX11_bed_1 : cX11_bed.data.toList.drop 24 = dktX11_bed_1 := dk_seg dksX11_bed_0 24 rfl rfl
theorem dX11_bed_0 : decode cX11_bed 0 = .ok (.aload_n 0, 1) := dk_42 (dk_at dksX11_bed_0 0 rfl rfl)
theorem dX11_bed_1 : decode cX11_bed 1 = .ok (.invokevirtual 66, 3) := dk_182 0 66 (dk_at dksX11_bed_0 1 rfl rfl)
theorem dX11_bed_4 : decode cX11_bed 4 = .ok (.istore_n 1, 1) := dk_60 (dk_at dksX11_bed_0 4 rfl rfl)
theorem dX11_bed_5 : decode cX11_bed 5 = .ok (.aload_n 0, 1) := dk_42 (dk_at dksX11_bed_0 5 rfl rfl)
theorem dX11_bed_6 : decode cX11_bed 6 = .ok (.iload_n 1, 1) := dk_27 (dk_at dksX11_bed_0 6 rfl rfl)
theorem dX11_bed_7 : decode cX11_bed 7 = .ok (.invokestatic 85, 3) := dk_184 0 85 (dk_at dksX11_bed_0 7 rfl rfl)
theorem dX11_bed_10 : decode cX11_bed 10 = .ok (.ifCond .eq 18, 3) := dk_153 0 18 (dk_at dksX11_bed_0 10 rfl rfl)
theorem dX11_bed_13 : decode cX11_bed 13 = .ok (.aload_n 0, 1) := dk_42 (dk_at dksX11_bed_0 13 rfl rfl)
theorem dX11_bed_14 : decode cX11_bed 14 = .ok (.getfield 19, 3) := dk_180 0 19 (dk_at dksX11_bed_0 14 rfl rfl)
theorem dX11_bed_17 : decode cX11_bed 17 = .ok (.iload_n 1, 1) := dk_27 (dk_at dksX11_bed_0 17 rfl rfl)
theorem dX11_bed_18 : decode cX11_bed 18 = .ok (.invokevirtual 89, 3) := dk_182 0 89 (dk_at dksX11_bed_0 18 rfl rfl)
theorem dX11_bed_21 : decode cX11_bed 21 = .ok (.ifCond .eq 7, 3) := dk_153 0 7 (dk_at dksX11_bed_0 21 rfl rfl)
theorem dX11_bed_24 : decode cX11_bed 24 = .ok (.iconst 1, 1) := dk_4 (dk_at dksX11_bed_1 0 rfl rfl)
theorem dX11_bed_25 : decode cX11_bed 25 = .ok (.goto 4, 3) := dk_167 0 4 (dk_at dksX11_bed_1 1 rfl rfl)
theorem dX11_bed_28 : decode cX11_bed 28 = .ok (.iconst 0, 1) := dk_3 (dk_at dksX11_bed_1 4 rfl rfl)
theorem dX11_bed_29 : decode cX11_bed 29 = .ok (.invokevirtual 62, 3) := dk_182 0 62 (dk_at dksX11_bed_1 5 rfl rfl)
theorem dX11_bed_32 : decode cX11_bed 32 = .ok (.aload_n 0, 1) := dk_42 (dk_at dksX11_bed_1 8 rfl rfl)
theorem dX11_bed_33 : decode cX11_bed 33 = .ok (.iconst 0, 1) := dk_3 (dk_at dksX11_bed_1 9 rfl rfl)
theorem dX11_bed_34 : decode cX11_bed 34 = .ok (.bipush 7, 2) := dk_16 7 (dk_at dksX11_bed_1 10 rfl rfl)
theorem dX11_bed_36 : decode cX11_bed 36 = .ok (.invokevirtual 69, 3) := dk_182 0 69 (dk_at dksX11_bed_1 12 rfl rfl)
theorem dX11_bed_39 : decode cX11_bed 39 = .ok (.ireturn, 1) := dk_172 (dk_at dksX11_bed_1 15 rfl rfl)
abbrev cX11_house : ByteArray := prog_9_method_14_code
def yX11_house : MethodName := ⟨RX11, "house", "()V"⟩
def dkwX11_house_3 : List UInt8 := [180, 0, 135, 27, 42, 3, 16, 9, 182, 0, 69, 79, 177]
abbrev dktX11_house_3 : List UInt8 := dkwX11_house_3 ++ []
def dkwX11_house_2 : List UInt8 := [27, 42, 3, 17, 3, 231, 182, 0, 69, 79, 42, 18, 133, 182, 0, 118, 153, 0, 19, 42, 180, 0, 19]
abbrev dktX11_house_2 : List UInt8 := dkwX11_house_2 ++ dktX11_house_3
def dkwX11_house_1 : List UInt8 := [27, 42, 3, 6, 182, 0, 69, 79, 42, 18, 129, 182, 0, 118, 153, 0, 20, 42, 180, 0, 19, 180, 0, 131]
abbrev dktX11_house_1 : List UInt8 := dkwX11_house_1 ++ dktX11_house_2
def dkwX11_house_0 : List UInt8 := [42, 3, 16, 7, 182, 0, 69, 60, 42, 18, 125, 182, 0, 118, 153, 0, 18, 42, 180, 0, 19, 180, 0, 127]
abbrev dktX11_house_0 : List UInt8 := dkwX11_house_0 ++ dktX11_house_1
theorem dksX11_house_0 : cX11_house.data.toList.drop 0 = dktX11_house_0 := by decide +kernel
theorem dksX11_house_1 : cX11_house.data.toList.drop 24 = dktX11_house_1 := dk_seg dksX11_house_0 24 rfl rfl
theorem dksX11_house_2 : cX11_house.data.toList.drop 48 = dktX11_house_2 := dk_seg dksX11_house_1 24 rfl rfl
theorem dksX11_house_3 : cX11_house.data.toList.drop 71 = dktX11_house_3 := dk_seg dksX11_house_2 23 rfl rfl
theorem dX11_house_0 : decode cX11_house 0 = .ok (.aload_n 0, 1) := dk_42 (dk_at dksX11_house_0 0 rfl rfl)
theorem dX11_house_1 : decode cX11_house 1 = .ok (.iconst 0, 1) := dk_3 (dk_at dksX11_house_0 1 rfl rfl)
theorem dX11_house_2 : decode cX11_house 2 = .ok (.bipush 7, 2) := dk_16 7 (dk_at dksX11_house_0 2 rfl rfl)
theorem dX11_house_4 : decode cX11_house 4 = .ok (.invokevirtual 69, 3) := dk_182 0 69 (dk_at dksX11_house_0 4 rfl rfl)
theorem dX11_house_7 : decode cX11_house 7 = .ok (.istore_n 1, 1) := dk_60 (dk_at dksX11_house_0 7 rfl rfl)
theorem dX11_house_8 : decode cX11_house 8 = .ok (.aload_n 0, 1) := dk_42 (dk_at dksX11_house_0 8 rfl rfl)
theorem dX11_house_9 : decode cX11_house 9 = .ok (.ldc 125, 2) := dk_18 125 (dk_at dksX11_house_0 9 rfl rfl)
theorem dX11_house_11 : decode cX11_house 11 = .ok (.invokevirtual 118, 3) := dk_182 0 118 (dk_at dksX11_house_0 11 rfl rfl)
theorem dX11_house_14 : decode cX11_house 14 = .ok (.ifCond .eq 18, 3) := dk_153 0 18 (dk_at dksX11_house_0 14 rfl rfl)
theorem dX11_house_17 : decode cX11_house 17 = .ok (.aload_n 0, 1) := dk_42 (dk_at dksX11_house_0 17 rfl rfl)
theorem dX11_house_18 : decode cX11_house 18 = .ok (.getfield 19, 3) := dk_180 0 19 (dk_at dksX11_house_0 18 rfl rfl)
theorem dX11_house_21 : decode cX11_house 21 = .ok (.getfield 127, 3) := dk_180 0 127 (dk_at dksX11_house_0 21 rfl rfl)
theorem dX11_house_24 : decode cX11_house 24 = .ok (.iload_n 1, 1) := dk_27 (dk_at dksX11_house_1 0 rfl rfl)
theorem dX11_house_25 : decode cX11_house 25 = .ok (.aload_n 0, 1) := dk_42 (dk_at dksX11_house_1 1 rfl rfl)
theorem dX11_house_26 : decode cX11_house 26 = .ok (.iconst 0, 1) := dk_3 (dk_at dksX11_house_1 2 rfl rfl)
theorem dX11_house_27 : decode cX11_house 27 = .ok (.iconst 3, 1) := dk_6 (dk_at dksX11_house_1 3 rfl rfl)
theorem dX11_house_28 : decode cX11_house 28 = .ok (.invokevirtual 69, 3) := dk_182 0 69 (dk_at dksX11_house_1 4 rfl rfl)
theorem dX11_house_31 : decode cX11_house 31 = .ok (.iastore, 1) := dk_79 (dk_at dksX11_house_1 7 rfl rfl)
theorem dX11_house_32 : decode cX11_house 32 = .ok (.aload_n 0, 1) := dk_42 (dk_at dksX11_house_1 8 rfl rfl)
theorem dX11_house_33 : decode cX11_house 33 = .ok (.ldc 129, 2) := dk_18 129 (dk_at dksX11_house_1 9 rfl rfl)
theorem dX11_house_35 : decode cX11_house 35 = .ok (.invokevirtual 118, 3) := dk_182 0 118 (dk_at dksX11_house_1 11 rfl rfl)
theorem dX11_house_38 : decode cX11_house 38 = .ok (.ifCond .eq 20, 3) := dk_153 0 20 (dk_at dksX11_house_1 14 rfl rfl)
theorem dX11_house_41 : decode cX11_house 41 = .ok (.aload_n 0, 1) := dk_42 (dk_at dksX11_house_1 17 rfl rfl)
theorem dX11_house_42 : decode cX11_house 42 = .ok (.getfield 19, 3) := dk_180 0 19 (dk_at dksX11_house_1 18 rfl rfl)
theorem dX11_house_45 : decode cX11_house 45 = .ok (.getfield 131, 3) := dk_180 0 131 (dk_at dksX11_house_1 21 rfl rfl)
theorem dX11_house_48 : decode cX11_house 48 = .ok (.iload_n 1, 1) := dk_27 (dk_at dksX11_house_2 0 rfl rfl)
theorem dX11_house_49 : decode cX11_house 49 = .ok (.aload_n 0, 1) := dk_42 (dk_at dksX11_house_2 1 rfl rfl)
theorem dX11_house_50 : decode cX11_house 50 = .ok (.iconst 0, 1) := dk_3 (dk_at dksX11_house_2 2 rfl rfl)
theorem dX11_house_51 : decode cX11_house 51 = .ok (.sipush 999, 3) := dk_17 3 231 (dk_at dksX11_house_2 3 rfl rfl)
theorem dX11_house_54 : decode cX11_house 54 = .ok (.invokevirtual 69, 3) := dk_182 0 69 (dk_at dksX11_house_2 6 rfl rfl)
theorem dX11_house_57 : decode cX11_house 57 = .ok (.iastore, 1) := dk_79 (dk_at dksX11_house_2 9 rfl rfl)
theorem dX11_house_58 : decode cX11_house 58 = .ok (.aload_n 0, 1) := dk_42 (dk_at dksX11_house_2 10 rfl rfl)
theorem dX11_house_59 : decode cX11_house 59 = .ok (.ldc 133, 2) := dk_18 133 (dk_at dksX11_house_2 11 rfl rfl)
theorem dX11_house_61 : decode cX11_house 61 = .ok (.invokevirtual 118, 3) := dk_182 0 118 (dk_at dksX11_house_2 13 rfl rfl)
theorem dX11_house_64 : decode cX11_house 64 = .ok (.ifCond .eq 19, 3) := dk_153 0 19 (dk_at dksX11_house_2 16 rfl rfl)
theorem dX11_house_67 : decode cX11_house 67 = .ok (.aload_n 0, 1) := dk_42 (dk_at dksX11_house_2 19 rfl rfl)
theorem dX11_house_68 : decode cX11_house 68 = .ok (.getfield 19, 3) := dk_180 0 19 (dk_at dksX11_house_2 20 rfl rfl)
theorem dX11_house_71 : decode cX11_house 71 = .ok (.getfield 135, 3) := dk_180 0 135 (dk_at dksX11_house_3 0 rfl rfl)
theorem dX11_house_74 : decode cX11_house 74 = .ok (.iload_n 1, 1) := dk_27 (dk_at dksX11_house_3 3 rfl rfl)
theorem dX11_house_75 : decode cX11_house 75 = .ok (.aload_n 0, 1) := dk_42 (dk_at dksX11_house_3 4 rfl rfl)
theorem dX11_house_76 : decode cX11_house 76 = .ok (.iconst 0, 1) := dk_3 (dk_at dksX11_house_3 5 rfl rfl)
theorem dX11_house_77 : decode cX11_house 77 = .ok (.bipush 9, 2) := dk_16 9 (dk_at dksX11_house_3 6 rfl rfl)
theorem dX11_house_79 : decode cX11_house 79 = .ok (.invokevirtual 69, 3) := dk_182 0 69 (dk_at dksX11_house_3 8 rfl rfl)
theorem dX11_house_82 : decode cX11_house 82 = .ok (.iastore, 1) := dk_79 (dk_at dksX11_house_3 11 rfl rfl)
theorem dX11_house_83 : decode cX11_house 83 = .ok (.return_, 1) := dk_177 (dk_at dksX11_house_3 12 rfl rfl)
theorem q99 : (Jvm.Cond.initialized "RumourBeds$Reader") ∈ lw_all := lw_g (lw_at lw_m1 17 rfl) rfl
theorem q140 : (Jvm.Cond.fieldLink "RumourBeds$Reader" (94 : Nat) "RumourBeds$Town" "rumours" "I") ∈ lw_all := lw_g (lw_at lw_m1 58 rfl) rfl
theorem q143 : (Jvm.Cond.fieldLink "RumourBeds$Reader" (127 : Nat) "RumourBeds$Town" "beds" "[I") ∈ lw_all := lw_g (lw_at lw_m1 61 rfl) rfl
theorem q146 : (Jvm.Cond.fieldLink "RumourBeds$Reader" (131 : Nat) "RumourBeds$Town" "larder" "[I") ∈ lw_all := lw_g (lw_at lw_m1 64 rfl) rfl
theorem q149 : (Jvm.Cond.fieldLink "RumourBeds$Reader" (135 : Nat) "RumourBeds$Town" "leans" "[I") ∈ lw_all := lw_g (lw_at lw_m1 67 rfl) rfl
theorem q383 : (Jvm.Cond.fieldLink "RumourBeds$Reader" (110 : Nat) "RumourBeds$Rumour" "part" "[I") ∈ lw_all := lw_g (lw_at lw_m2 61 rfl) rfl
theorem q784 : (Jvm.Cond.instantiable "RumourBeds$Reader" (6 : Nat)) ∈ lw_all := lw_g (lw_at lw_m3 222 rfl) rfl
theorem q786 : (Jvm.Cond.instanceMethod ({ cls := "RumourBeds$Reader", name := "<init>", desc := "([BILRumourBeds$Town;)V" } : Jvm.MethodName)) ∈ lw_all := lw_g (lw_at lw_m3 224 rfl) rfl
theorem q787 : (Jvm.Cond.code ({ cls := "RumourBeds$Reader", name := "<init>", desc := "([BILRumourBeds$Town;)V" } : Jvm.MethodName) prog_9_method_1_code (4 : Nat) (Option.none : Option Jvm.ClassFile.FieldType)) ∈ lw_all := lw_g (lw_at lw_m3 225 rfl) rfl
theorem q788 : (Jvm.Cond.methodLink "RumourBeds$Reader" (3 : Nat) ({ cls := "java/lang/Object", name := "<init>", desc := "()V" } : Jvm.MethodName)) ∈ lw_all := lw_g (lw_at lw_m3 226 rfl) rfl
theorem q789 : (Jvm.Cond.fieldLink "RumourBeds$Reader" (9 : Nat) "RumourBeds$Reader" "tape" "[B") ∈ lw_all := lw_g (lw_at lw_m3 227 rfl) rfl
theorem q790 : (Jvm.Cond.fieldLink "RumourBeds$Reader" (15 : Nat) "RumourBeds$Reader" "size" "I") ∈ lw_all := lw_g (lw_at lw_m3 228 rfl) rfl
theorem q791 : (Jvm.Cond.fieldLink "RumourBeds$Reader" (19 : Nat) "RumourBeds$Reader" "town" "LRumourBeds$Town;") ∈ lw_all := lw_g (lw_at lw_m3 229 rfl) rfl
theorem q792 : (Jvm.Cond.fieldLink "RumourBeds$Reader" (37 : Nat) "RumourBeds$Reader" "sort" "I") ∈ lw_all := lw_g (lw_at lw_m3 230 rfl) rfl
theorem q793 : (Jvm.Cond.fieldLink "RumourBeds$Reader" (30 : Nat) "RumourBeds$Reader" "from" "I") ∈ lw_all := lw_g (lw_at lw_m3 231 rfl) rfl
theorem q794 : (Jvm.Cond.fieldLink "RumourBeds$Reader" (27 : Nat) "RumourBeds$Reader" "to" "I") ∈ lw_all := lw_g (lw_at lw_m3 232 rfl) rfl
theorem q795 : (Jvm.Cond.laysFinal "RumourBeds$Reader" "RumourBeds$Reader" "tape" "[B") ∈ lw_all := lw_g (lw_at lw_m3 233 rfl) rfl
theorem q796 : (Jvm.Cond.soleField "RumourBeds$Reader" "tape") ∈ lw_all := lw_g (lw_at lw_m3 234 rfl) rfl
theorem q797 : (Jvm.Cond.laysFinal "RumourBeds$Reader" "RumourBeds$Reader" "size" "I") ∈ lw_all := lw_g (lw_at lw_m3 235 rfl) rfl
theorem q798 : (Jvm.Cond.soleField "RumourBeds$Reader" "size") ∈ lw_all := lw_g (lw_at lw_m3 236 rfl) rfl
theorem q799 : (Jvm.Cond.laysFinal "RumourBeds$Reader" "RumourBeds$Reader" "town" "LRumourBeds$Town;") ∈ lw_all := lw_g (lw_at lw_m3 237 rfl) rfl
theorem q800 : (Jvm.Cond.soleField "RumourBeds$Reader" "town") ∈ lw_all := lw_g (lw_at lw_m3 238 rfl) rfl
theorem q801 : (Jvm.Cond.lays "RumourBeds$Reader" "RumourBeds$Reader" "sort" "I") ∈ lw_all := lw_g (lw_at lw_m3 239 rfl) rfl
theorem q802 : (Jvm.Cond.soleField "RumourBeds$Reader" "sort") ∈ lw_all := lw_g (lw_at lw_m4 0 rfl) rfl
theorem q803 : (Jvm.Cond.lays "RumourBeds$Reader" "RumourBeds$Reader" "from" "I") ∈ lw_all := lw_g (lw_at lw_m4 1 rfl) rfl
theorem q804 : (Jvm.Cond.soleField "RumourBeds$Reader" "from") ∈ lw_all := lw_g (lw_at lw_m4 2 rfl) rfl
theorem q805 : (Jvm.Cond.lays "RumourBeds$Reader" "RumourBeds$Reader" "to" "I") ∈ lw_all := lw_g (lw_at lw_m4 3 rfl) rfl
theorem q806 : (Jvm.Cond.soleField "RumourBeds$Reader" "to") ∈ lw_all := lw_g (lw_at lw_m4 4 rfl) rfl
theorem q807 : (Jvm.Cond.superclass "RumourBeds$Reader" "java/lang/Object") ∈ lw_all := lw_g (lw_at lw_m4 5 rfl) rfl
theorem q809 : (Jvm.Cond.instanceMethod ({ cls := "RumourBeds$Reader", name := "read", desc := "()I" } : Jvm.MethodName)) ∈ lw_all := lw_g (lw_at lw_m4 7 rfl) rfl
theorem q810 : (Jvm.Cond.selects "RumourBeds$Reader" ({ cls := "RumourBeds$Reader", name := "read", desc := "()I" } : Jvm.MethodName) ({ cls := "RumourBeds$Reader", name := "read", desc := "()I" } : Jvm.MethodName)) ∈ lw_all := lw_g (lw_at lw_m4 8 rfl) rfl
theorem q811 : (Jvm.Cond.code ({ cls := "RumourBeds$Reader", name := "read", desc := "()I" } : Jvm.MethodName) prog_9_method_16_code (2 : Nat) (Option.some Jvm.ClassFile.FieldType.int)) ∈ lw_all := lw_g (lw_at lw_m4 9 rfl) rfl
theorem q812 : (Jvm.Cond.methodLink "RumourBeds$Reader" (59 : Nat) ({ cls := "RumourBeds$Reader", name := "next", desc := "()V" } : Jvm.MethodName)) ∈ lw_all := lw_g (lw_at lw_m4 10 rfl) rfl
theorem q813 : (Jvm.Cond.privateMethod ({ cls := "RumourBeds$Reader", name := "next", desc := "()V" } : Jvm.MethodName)) ∈ lw_tbl := lw_at lw_m4 11 rfl
theorem q814 : (Jvm.Cond.instanceMethod ({ cls := "RumourBeds$Reader", name := "next", desc := "()V" } : Jvm.MethodName)) ∈ lw_all := lw_g (lw_at lw_m4 12 rfl) rfl
theorem q815 : (Jvm.Cond.code ({ cls := "RumourBeds$Reader", name := "next", desc := "()V" } : Jvm.MethodName) prog_9_method_3_code (3 : Nat) (Option.none : Option Jvm.ClassFile.FieldType)) ∈ lw_all := lw_g (lw_at lw_m4 13 rfl) rfl
theorem q816 : (Jvm.Cond.methodLink "RumourBeds$Reader" (33 : Nat) ({ cls := "RumourBeds$Reader", name := "isAt", desc := "(III)Z" } : Jvm.MethodName)) ∈ lw_all := lw_g (lw_at lw_m4 14 rfl) rfl
theorem q817 : (Jvm.Cond.privateMethod ({ cls := "RumourBeds$Reader", name := "isAt", desc := "(III)Z" } : Jvm.MethodName)) ∈ lw_tbl := lw_at lw_m4 15 rfl
theorem q818 : (Jvm.Cond.instanceMethod ({ cls := "RumourBeds$Reader", name := "isAt", desc := "(III)Z" } : Jvm.MethodName)) ∈ lw_all := lw_g (lw_at lw_m4 16 rfl) rfl
theorem q819 : (Jvm.Cond.code ({ cls := "RumourBeds$Reader", name := "isAt", desc := "(III)Z" } : Jvm.MethodName) prog_9_method_2_code (4 : Nat) (Option.some Jvm.ClassFile.FieldType.boolean)) ∈ lw_all := lw_g (lw_at lw_m4 17 rfl) rfl
theorem q820 : (Jvm.Cond.methodLinkNest "RumourBeds$Reader" (23 : Nat) ({ cls := "RumourBeds", name := "in", desc := "(JJJ)Z" } : Jvm.MethodName) "RumourBeds") ∈ lw_tbl := lw_at lw_m4 18 rfl
theorem q821 : (Jvm.Cond.methodLink "RumourBeds$Reader" (152 : Nat) ({ cls := "RumourBeds$Reader", name := "item", desc := "()V" } : Jvm.MethodName)) ∈ lw_all := lw_g (lw_at lw_m4 19 rfl) rfl
theorem q822 : (Jvm.Cond.privateMethod ({ cls := "RumourBeds$Reader", name := "item", desc := "()V" } : Jvm.MethodName)) ∈ lw_tbl := lw_at lw_m4 20 rfl
theorem q823 : (Jvm.Cond.instanceMethod ({ cls := "RumourBeds$Reader", name := "item", desc := "()V" } : Jvm.MethodName)) ∈ lw_all := lw_g (lw_at lw_m4 21 rfl) rfl
theorem q824 : (Jvm.Cond.code ({ cls := "RumourBeds$Reader", name := "item", desc := "()V" } : Jvm.MethodName) prog_9_method_15_code (2 : Nat) (Option.none : Option Jvm.ClassFile.FieldType)) ∈ lw_all := lw_g (lw_at lw_m4 22 rfl) rfl
theorem q825 : (Jvm.Cond.methodLink "RumourBeds$Reader" (137 : Nat) ({ cls := "RumourBeds$Reader", name := "kindHere", desc := "()I" } : Jvm.MethodName)) ∈ lw_all := lw_g (lw_at lw_m4 23 rfl) rfl
theorem q826 : (Jvm.Cond.privateMethod ({ cls := "RumourBeds$Reader", name := "kindHere", desc := "()I" } : Jvm.MethodName)) ∈ lw_tbl := lw_at lw_m4 24 rfl
theorem q827 : (Jvm.Cond.instanceMethod ({ cls := "RumourBeds$Reader", name := "kindHere", desc := "()I" } : Jvm.MethodName)) ∈ lw_all := lw_g (lw_at lw_m4 25 rfl) rfl
theorem q828 : (Jvm.Cond.code ({ cls := "RumourBeds$Reader", name := "kindHere", desc := "()I" } : Jvm.MethodName) prog_9_method_11_code (2 : Nat) (Option.some Jvm.ClassFile.FieldType.int)) ∈ lw_all := lw_g (lw_at lw_m4 26 rfl) rfl
theorem q829 : (Jvm.Cond.stringRef "RumourBeds$Reader" (73 : Nat) "rumour") ∈ lw_tbl := lw_at lw_m4 27 rfl
theorem q830 : (Jvm.Cond.methodLink "RumourBeds$Reader" (55 : Nat) ({ cls := "RumourBeds$Reader", name := "isWord", desc := "(Ljava/lang/String;)Z" } : Jvm.MethodName)) ∈ lw_all := lw_g (lw_at lw_m4 28 rfl) rfl
theorem q831 : (Jvm.Cond.privateMethod ({ cls := "RumourBeds$Reader", name := "isWord", desc := "(Ljava/lang/String;)Z" } : Jvm.MethodName)) ∈ lw_tbl := lw_at lw_m4 29 rfl
theorem q832 : (Jvm.Cond.instanceMethod ({ cls := "RumourBeds$Reader", name := "isWord", desc := "(Ljava/lang/String;)Z" } : Jvm.MethodName)) ∈ lw_all := lw_g (lw_at lw_m4 30 rfl) rfl
theorem q833 : (Jvm.Cond.code ({ cls := "RumourBeds$Reader", name := "isWord", desc := "(Ljava/lang/String;)Z" } : Jvm.MethodName) prog_9_method_5_code (4 : Nat) (Option.some Jvm.ClassFile.FieldType.boolean)) ∈ lw_all := lw_g (lw_at lw_m4 31 rfl) rfl
theorem q834 : (Jvm.Cond.methodLink "RumourBeds$Reader" (45 : Nat) ({ cls := "java/lang/String", name := "length", desc := "()I" } : Jvm.MethodName)) ∈ lw_all := lw_g (lw_at lw_m4 32 rfl) rfl
theorem q844 : (Jvm.Cond.methodLink "RumourBeds$Reader" (51 : Nat) ({ cls := "java/lang/String", name := "charAt", desc := "(I)C" } : Jvm.MethodName)) ∈ lw_all := lw_g (lw_at lw_m4 42 rfl) rfl
theorem q882 : (Jvm.Cond.stringRef "RumourBeds$Reader" (75 : Nat) "big") ∈ lw_tbl := lw_at lw_m4 80 rfl
theorem q883 : (Jvm.Cond.stringRef "RumourBeds$Reader" (77 : Nat) "dull") ∈ lw_tbl := lw_at lw_m4 81 rfl
theorem q884 : (Jvm.Cond.stringRef "RumourBeds$Reader" (79 : Nat) "shy") ∈ lw_tbl := lw_at lw_m4 82 rfl
theorem q885 : (Jvm.Cond.stringRef "RumourBeds$Reader" (81 : Nat) "royal") ∈ lw_tbl := lw_at lw_m4 83 rfl
theorem q886 : (Jvm.Cond.stringRef "RumourBeds$Reader" (83 : Nat) "wells") ∈ lw_tbl := lw_at lw_m4 84 rfl
theorem q887 : (Jvm.Cond.methodLink "RumourBeds$Reader" (140 : Nat) ({ cls := "RumourBeds$Reader", name := "rumour", desc := "(I)V" } : Jvm.MethodName)) ∈ lw_all := lw_g (lw_at lw_m4 85 rfl) rfl
theorem q888 : (Jvm.Cond.privateMethod ({ cls := "RumourBeds$Reader", name := "rumour", desc := "(I)V" } : Jvm.MethodName)) ∈ lw_tbl := lw_at lw_m4 86 rfl
theorem q889 : (Jvm.Cond.instanceMethod ({ cls := "RumourBeds$Reader", name := "rumour", desc := "(I)V" } : Jvm.MethodName)) ∈ lw_all := lw_g (lw_at lw_m4 87 rfl) rfl
theorem q890 : (Jvm.Cond.code ({ cls := "RumourBeds$Reader", name := "rumour", desc := "(I)V" } : Jvm.MethodName) prog_9_method_13_code (3 : Nat) (Option.none : Option Jvm.ClassFile.FieldType)) ∈ lw_all := lw_g (lw_at lw_m4 88 rfl) rfl
theorem q891 : (Jvm.Cond.methodLink "RumourBeds$Reader" (62 : Nat) ({ cls := "RumourBeds$Reader", name := "must", desc := "(Z)V" } : Jvm.MethodName)) ∈ lw_all := lw_g (lw_at lw_m4 89 rfl) rfl
theorem q892 : (Jvm.Cond.privateMethod ({ cls := "RumourBeds$Reader", name := "must", desc := "(Z)V" } : Jvm.MethodName)) ∈ lw_tbl := lw_at lw_m4 90 rfl
theorem q893 : (Jvm.Cond.instanceMethod ({ cls := "RumourBeds$Reader", name := "must", desc := "(Z)V" } : Jvm.MethodName)) ∈ lw_all := lw_g (lw_at lw_m4 91 rfl) rfl
theorem q894 : (Jvm.Cond.code ({ cls := "RumourBeds$Reader", name := "must", desc := "(Z)V" } : Jvm.MethodName) prog_9_method_4_code (2 : Nat) (Option.none : Option Jvm.ClassFile.FieldType)) ∈ lw_all := lw_g (lw_at lw_m4 92 rfl) rfl
theorem q895 : (Jvm.Cond.classLink "RumourBeds$Reader" (40 : Nat) "RumourBeds$Fault") ∈ lw_all := lw_g (lw_at lw_m4 93 rfl) rfl
theorem q904 : (Jvm.Cond.methodLink "RumourBeds$Reader" (42 : Nat) ({ cls := "RumourBeds$Fault", name := "<init>", desc := "(I)V" } : Jvm.MethodName)) ∈ lw_all := lw_g (lw_at lw_m4 102 rfl) rfl
theorem q914 : (Jvm.Cond.stringRef "RumourBeds$Reader" (97 : Nat) "of") ∈ lw_tbl := lw_at lw_m4 112 rfl
theorem q915 : (Jvm.Cond.methodLink "RumourBeds$Reader" (99 : Nat) ({ cls := "RumourBeds$Reader", name := "wants", desc := "(Ljava/lang/String;)V" } : Jvm.MethodName)) ∈ lw_all := lw_g (lw_at lw_m4 113 rfl) rfl
theorem q916 : (Jvm.Cond.privateMethod ({ cls := "RumourBeds$Reader", name := "wants", desc := "(Ljava/lang/String;)V" } : Jvm.MethodName)) ∈ lw_tbl := lw_at lw_m4 114 rfl
theorem q917 : (Jvm.Cond.instanceMethod ({ cls := "RumourBeds$Reader", name := "wants", desc := "(Ljava/lang/String;)V" } : Jvm.MethodName)) ∈ lw_all := lw_g (lw_at lw_m4 115 rfl) rfl
theorem q918 : (Jvm.Cond.code ({ cls := "RumourBeds$Reader", name := "wants", desc := "(Ljava/lang/String;)V" } : Jvm.MethodName) prog_9_method_7_code (2 : Nat) (Option.none : Option Jvm.ClassFile.FieldType)) ∈ lw_all := lw_g (lw_at lw_m4 116 rfl) rfl
theorem q919 : (Jvm.Cond.methodLink "RumourBeds$Reader" (103 : Nat) ({ cls := "RumourBeds$Reader", name := "event", desc := "()I" } : Jvm.MethodName)) ∈ lw_all := lw_g (lw_at lw_m4 117 rfl) rfl
theorem q920 : (Jvm.Cond.privateMethod ({ cls := "RumourBeds$Reader", name := "event", desc := "()I" } : Jvm.MethodName)) ∈ lw_tbl := lw_at lw_m4 118 rfl
theorem q921 : (Jvm.Cond.instanceMethod ({ cls := "RumourBeds$Reader", name := "event", desc := "()I" } : Jvm.MethodName)) ∈ lw_all := lw_g (lw_at lw_m4 119 rfl) rfl
theorem q922 : (Jvm.Cond.code ({ cls := "RumourBeds$Reader", name := "event", desc := "()I" } : Jvm.MethodName) prog_9_method_10_code (1 : Nat) (Option.some Jvm.ClassFile.FieldType.int)) ∈ lw_all := lw_g (lw_at lw_m4 120 rfl) rfl
theorem q923 : (Jvm.Cond.methodLink "RumourBeds$Reader" (69 : Nat) ({ cls := "RumourBeds$Reader", name := "number", desc := "(II)I" } : Jvm.MethodName)) ∈ lw_all := lw_g (lw_at lw_m4 121 rfl) rfl
theorem q924 : (Jvm.Cond.privateMethod ({ cls := "RumourBeds$Reader", name := "number", desc := "(II)I" } : Jvm.MethodName)) ∈ lw_tbl := lw_at lw_m4 122 rfl
theorem q925 : (Jvm.Cond.instanceMethod ({ cls := "RumourBeds$Reader", name := "number", desc := "(II)I" } : Jvm.MethodName)) ∈ lw_all := lw_g (lw_at lw_m4 123 rfl) rfl
theorem q926 : (Jvm.Cond.code ({ cls := "RumourBeds$Reader", name := "number", desc := "(II)I" } : Jvm.MethodName) prog_9_method_9_code (4 : Nat) (Option.some Jvm.ClassFile.FieldType.int)) ∈ lw_all := lw_g (lw_at lw_m4 124 rfl) rfl
theorem q927 : (Jvm.Cond.methodLink "RumourBeds$Reader" (66 : Nat) ({ cls := "RumourBeds$Reader", name := "numberHere", desc := "()I" } : Jvm.MethodName)) ∈ lw_all := lw_g (lw_at lw_m4 125 rfl) rfl
theorem q928 : (Jvm.Cond.privateMethod ({ cls := "RumourBeds$Reader", name := "numberHere", desc := "()I" } : Jvm.MethodName)) ∈ lw_tbl := lw_at lw_m4 126 rfl
theorem q929 : (Jvm.Cond.instanceMethod ({ cls := "RumourBeds$Reader", name := "numberHere", desc := "()I" } : Jvm.MethodName)) ∈ lw_all := lw_g (lw_at lw_m4 127 rfl) rfl
theorem q930 : (Jvm.Cond.code ({ cls := "RumourBeds$Reader", name := "numberHere", desc := "()I" } : Jvm.MethodName) prog_9_method_8_code (3 : Nat) (Option.some Jvm.ClassFile.FieldType.int)) ∈ lw_all := lw_g (lw_at lw_m4 128 rfl) rfl
theorem q931 : (Jvm.Cond.methodLink "RumourBeds$Reader" (106 : Nat) ({ cls := "RumourBeds$Town", name := "comes", desc := "(III)LRumourBeds$Rumour;" } : Jvm.MethodName)) ∈ lw_all := lw_g (lw_at lw_m4 129 rfl) rfl
theorem q932 : (Jvm.Cond.stringRef "RumourBeds$Reader" (116 : Nat) "bulk") ∈ lw_tbl := lw_at lw_m4 130 rfl
theorem q933 : (Jvm.Cond.methodLink "RumourBeds$Reader" (118 : Nat) ({ cls := "RumourBeds$Reader", name := "takes", desc := "(Ljava/lang/String;)Z" } : Jvm.MethodName)) ∈ lw_all := lw_g (lw_at lw_m4 131 rfl) rfl
theorem q934 : (Jvm.Cond.privateMethod ({ cls := "RumourBeds$Reader", name := "takes", desc := "(Ljava/lang/String;)Z" } : Jvm.MethodName)) ∈ lw_tbl := lw_at lw_m4 132 rfl
theorem q935 : (Jvm.Cond.instanceMethod ({ cls := "RumourBeds$Reader", name := "takes", desc := "(Ljava/lang/String;)Z" } : Jvm.MethodName)) ∈ lw_all := lw_g (lw_at lw_m4 133 rfl) rfl
theorem q936 : (Jvm.Cond.code ({ cls := "RumourBeds$Reader", name := "takes", desc := "(Ljava/lang/String;)Z" } : Jvm.MethodName) prog_9_method_6_code (3 : Nat) (Option.some Jvm.ClassFile.FieldType.boolean)) ∈ lw_all := lw_g (lw_at lw_m4 134 rfl) rfl
theorem q937 : (Jvm.Cond.stringRef "RumourBeds$Reader" (121 : Nat) "in") ∈ lw_tbl := lw_at lw_m4 135 rfl
theorem q938 : (Jvm.Cond.methodLink "RumourBeds$Reader" (122 : Nat) ({ cls := "RumourBeds$Reader", name := "bed", desc := "()I" } : Jvm.MethodName)) ∈ lw_all := lw_g (lw_at lw_m4 136 rfl) rfl
theorem q939 : (Jvm.Cond.privateMethod ({ cls := "RumourBeds$Reader", name := "bed", desc := "()I" } : Jvm.MethodName)) ∈ lw_tbl := lw_at lw_m4 137 rfl
theorem q940 : (Jvm.Cond.instanceMethod ({ cls := "RumourBeds$Reader", name := "bed", desc := "()I" } : Jvm.MethodName)) ∈ lw_all := lw_g (lw_at lw_m4 138 rfl) rfl
theorem q941 : (Jvm.Cond.code ({ cls := "RumourBeds$Reader", name := "bed", desc := "()I" } : Jvm.MethodName) prog_9_method_12_code (2 : Nat) (Option.some Jvm.ClassFile.FieldType.int)) ∈ lw_all := lw_g (lw_at lw_m4 139 rfl) rfl
theorem q942 : (Jvm.Cond.methodLinkNest "RumourBeds$Reader" (85 : Nat) ({ cls := "RumourBeds", name := "isHouse", desc := "(I)Z" } : Jvm.MethodName) "RumourBeds") ∈ lw_tbl := lw_at lw_m4 140 rfl
theorem q943 : (Jvm.Cond.methodLink "RumourBeds$Reader" (89 : Nat) ({ cls := "RumourBeds$Town", name := "hasBed", desc := "(I)Z" } : Jvm.MethodName)) ∈ lw_all := lw_g (lw_at lw_m4 141 rfl) rfl
theorem q944 : (Jvm.Cond.stringRef "RumourBeds$Reader" (142 : Nat) "house") ∈ lw_tbl := lw_at lw_m4 142 rfl
theorem q945 : (Jvm.Cond.methodLink "RumourBeds$Reader" (144 : Nat) ({ cls := "RumourBeds$Reader", name := "house", desc := "()V" } : Jvm.MethodName)) ∈ lw_all := lw_g (lw_at lw_m4 143 rfl) rfl
theorem q946 : (Jvm.Cond.privateMethod ({ cls := "RumourBeds$Reader", name := "house", desc := "()V" } : Jvm.MethodName)) ∈ lw_tbl := lw_at lw_m4 144 rfl
theorem q947 : (Jvm.Cond.instanceMethod ({ cls := "RumourBeds$Reader", name := "house", desc := "()V" } : Jvm.MethodName)) ∈ lw_all := lw_g (lw_at lw_m4 145 rfl) rfl
theorem q948 : (Jvm.Cond.code ({ cls := "RumourBeds$Reader", name := "house", desc := "()V" } : Jvm.MethodName) prog_9_method_14_code (2 : Nat) (Option.none : Option Jvm.ClassFile.FieldType)) ∈ lw_all := lw_g (lw_at lw_m4 146 rfl) rfl
theorem q949 : (Jvm.Cond.stringRef "RumourBeds$Reader" (125 : Nat) "beds") ∈ lw_tbl := lw_at lw_m4 147 rfl
theorem q950 : (Jvm.Cond.stringRef "RumourBeds$Reader" (129 : Nat) "larder") ∈ lw_tbl := lw_at lw_m4 148 rfl
theorem q951 : (Jvm.Cond.stringRef "RumourBeds$Reader" (133 : Nat) "leans") ∈ lw_tbl := lw_at lw_m4 149 rfl
theorem q952 : (Jvm.Cond.stringRef "RumourBeds$Reader" (146 : Nat) "true") ∈ lw_tbl := lw_at lw_m4 150 rfl
theorem q953 : (Jvm.Cond.methodLink "RumourBeds$Reader" (148 : Nat) ({ cls := "RumourBeds$Town", name := "comesTrue", desc := "(I)I" } : Jvm.MethodName)) ∈ lw_all := lw_g (lw_at lw_m4 151 rfl) rfl
theorem in_X11 : ∀ w ∈ wsX110, w ∈ lw_all := lw_in wsX110 [795, 797, 799, 801, 803, 805] (by decide +kernel) (by decide +kernel)

/-! RumourBeds$Fault -/
set_option maxRecDepth 100000
def RX12 : String := "RumourBeds$Fault"
def TX12 : u_T := fun k => match k with
  | 0 => ("java/lang/Throwable", "cause", "Ljava/lang/Throwable;", false)
  | 1 => ("java/lang/Throwable", "stackTrace", "[Ljava/lang/StackTraceElement;", false)
  | 2 => ("java/lang/Throwable", "suppressedExceptions", "Ljava/util/List;", false)
  | 3 => ("java/lang/Throwable", "detailMessage", "Ljava/lang/String;", false)
  | 4 => ("java/lang/Throwable", "backtrace", "Ljava/lang/Object;", false)
  | 5 => ("java/lang/Throwable", "depth", "I", false)
  | _ => ("RumourBeds$Fault", "place", "I", true)
def tyX12 : Nat → FieldType := fun k => match k with
  | 0 => .object "java/lang/Throwable"
  | 1 => .array (.object "java/lang/StackTraceElement")
  | 2 => .object "java/util/List"
  | 3 => .object "java/lang/String"
  | 4 => .object "java/lang/Object"
  | 5 => .int
  | _ => .int
abbrev wsX120 : List Cond := u_ws RX12 TX12 7
theorem nmX12 : ∀ a, a < 7 → ∀ b, b < 7 → a ≠ b → (TX12 a).2.1 ≠ (TX12 b).2.1 := by decide +kernel
theorem tyX12_ok : ∀ k, k < 7 → parseFieldDescriptor (TX12 k).2.2.1 = some (tyX12 k) := by decide +kernel
abbrev cX12_init : ByteArray := prog_5_method_1_code
def yX12_init : MethodName := ⟨RX12, "<init>", "(I)V"⟩
def dkwX12_init_0 : List UInt8 := [42, 1, 1, 3, 3, 183, 0, 1, 42, 27, 181, 0, 7, 177]
abbrev dktX12_init_0 : List UInt8 := dkwX12_init_0 ++ []
theorem dksX12_init_0 : cX12_init.data.toList.drop 0 = dktX12_init_0 := by decide +kernel
theorem dX12_init_0 : decode cX12_init 0 = .ok (.aload_n 0, 1) := dk_42 (dk_at dksX12_init_0 0 rfl rfl)
theorem dX12_init_1 : decode cX12_init 1 = .ok (.aconst_null, 1) := dk_1 (dk_at dksX12_init_0 1 rfl rfl)
theorem dX12_init_2 : decode cX12_init 2 = .ok (.aconst_null, 1) := dk_1 (dk_at dksX12_init_0 2 rfl rfl)
theorem dX12_init_3 : decode cX12_init 3 = .ok (.iconst 0, 1) := dk_3 (dk_at dksX12_init_0 3 rfl rfl)
theorem dX12_init_4 : decode cX12_init 4 = .ok (.iconst 0, 1) := dk_3 (dk_at dksX12_init_0 4 rfl rfl)
theorem dX12_init_5 : decode cX12_init 5 = .ok (.invokespecial 1, 3) := dk_183 0 1 (dk_at dksX12_init_0 5 rfl rfl)
theorem dX12_init_8 : decode cX12_init 8 = .ok (.aload_n 0, 1) := dk_42 (dk_at dksX12_init_0 8 rfl rfl)
theorem dX12_init_9 : decode cX12_init 9 = .ok (.iload_n 1, 1) := dk_27 (dk_at dksX12_init_0 9 rfl rfl)
theorem dX12_init_10 : decode cX12_init 10 = .ok (.putfield 7, 3) := dk_181 0 7 (dk_at dksX12_init_0 10 rfl rfl)
theorem dX12_init_13 : decode cX12_init 13 = .ok (.return_, 1) := dk_177 (dk_at dksX12_init_0 13 rfl rfl)
theorem q104 : (Jvm.Cond.initialized "RumourBeds$Fault") ∈ lw_all := lw_g (lw_at lw_m1 22 rfl) rfl
theorem q252 : (Jvm.Cond.selects "RumourBeds$Fault" ({ cls := "java/lang/Throwable", name := "fillInStackTrace", desc := "()Ljava/lang/Throwable;" } : Jvm.MethodName) ({ cls := "java/lang/Throwable", name := "fillInStackTrace", desc := "()Ljava/lang/Throwable;" } : Jvm.MethodName)) ∈ lw_all := lw_g (lw_at lw_m1 170 rfl) rfl
theorem q896 : (Jvm.Cond.instantiable "RumourBeds$Fault" (7 : Nat)) ∈ lw_all := lw_g (lw_at lw_m4 94 rfl) rfl
theorem q897 : (Jvm.Cond.castable "RumourBeds$Fault" "RumourBeds$Fault") ∈ lw_tbl := lw_at lw_m4 95 rfl
theorem q898 : (Jvm.Cond.selects "RumourBeds$Fault" ({ cls := "java/lang/Throwable", name := "fillInStackTrace", desc := "(I)Ljava/lang/Throwable;" } : Jvm.MethodName) ({ cls := "java/lang/Throwable", name := "fillInStackTrace", desc := "(I)Ljava/lang/Throwable;" } : Jvm.MethodName)) ∈ lw_all := lw_g (lw_at lw_m4 96 rfl) rfl
theorem q899 : (Jvm.Cond.lays "RumourBeds$Fault" "java/lang/Throwable" "cause" "Ljava/lang/Throwable;") ∈ lw_all := lw_g (lw_at lw_m4 97 rfl) rfl
theorem q900 : (Jvm.Cond.lays "RumourBeds$Fault" "java/lang/Throwable" "stackTrace" "[Ljava/lang/StackTraceElement;") ∈ lw_all := lw_g (lw_at lw_m4 98 rfl) rfl
theorem q901 : (Jvm.Cond.lays "RumourBeds$Fault" "java/lang/Throwable" "suppressedExceptions" "Ljava/util/List;") ∈ lw_all := lw_g (lw_at lw_m4 99 rfl) rfl
theorem q902 : (Jvm.Cond.lays "RumourBeds$Fault" "java/lang/Throwable" "detailMessage" "Ljava/lang/String;") ∈ lw_all := lw_g (lw_at lw_m4 100 rfl) rfl
theorem q903 : (Jvm.Cond.lays "RumourBeds$Fault" "java/lang/Throwable" "backtrace" "Ljava/lang/Object;") ∈ lw_all := lw_g (lw_at lw_m4 101 rfl) rfl
theorem q905 : (Jvm.Cond.instanceMethod ({ cls := "RumourBeds$Fault", name := "<init>", desc := "(I)V" } : Jvm.MethodName)) ∈ lw_all := lw_g (lw_at lw_m4 103 rfl) rfl
theorem q906 : (Jvm.Cond.code ({ cls := "RumourBeds$Fault", name := "<init>", desc := "(I)V" } : Jvm.MethodName) prog_5_method_1_code (2 : Nat) (Option.none : Option Jvm.ClassFile.FieldType)) ∈ lw_all := lw_g (lw_at lw_m4 104 rfl) rfl
theorem q907 : (Jvm.Cond.methodLink "RumourBeds$Fault" (1 : Nat) ({ cls := "java/lang/Exception", name := "<init>", desc := "(Ljava/lang/String;Ljava/lang/Throwable;ZZ)V" } : Jvm.MethodName)) ∈ lw_all := lw_g (lw_at lw_m4 105 rfl) rfl
theorem q908 : (Jvm.Cond.fieldLink "RumourBeds$Fault" (7 : Nat) "RumourBeds$Fault" "place" "I") ∈ lw_all := lw_g (lw_at lw_m4 106 rfl) rfl
theorem q910 : (Jvm.Cond.laysFinal "RumourBeds$Fault" "RumourBeds$Fault" "place" "I") ∈ lw_all := lw_g (lw_at lw_m4 108 rfl) rfl
theorem q911 : (Jvm.Cond.soleField "RumourBeds$Fault" "place") ∈ lw_all := lw_g (lw_at lw_m4 109 rfl) rfl
theorem q912 : (Jvm.Cond.lays "RumourBeds$Fault" "java/lang/Throwable" "depth" "I") ∈ lw_all := lw_g (lw_at lw_m4 110 rfl) rfl
theorem q913 : (Jvm.Cond.superclass "RumourBeds$Fault" "java/lang/Exception") ∈ lw_all := lw_g (lw_at lw_m4 111 rfl) rfl
theorem in_X12 : ∀ w ∈ wsX120, w ∈ lw_all := lw_in wsX120 [899, 900, 901, 902, 903, 912, 910] (by decide +kernel) (by decide +kernel)

/-! RumourBeds$Needs -/
set_option maxRecDepth 100000
def RX13 : String := "RumourBeds$Needs"
abbrev cX13_needs : ByteArray := prog_8_method_1_code
def yX13_needs : MethodName := ⟨RX13, "needs", "()I"⟩
theorem dX13_needs_0 : decode cX13_needs 0 = .ok (.iconst 3, 1) := by decide +kernel
theorem dX13_needs_1 : decode cX13_needs 1 = .ok (.ireturn, 1) := by decide +kernel
theorem q458 : (Jvm.Cond.declares ({ cls := "RumourBeds$Needs", name := "needs", desc := "()I" } : Jvm.MethodName)) ∈ lw_tbl := lw_at lw_m2 136 rfl
theorem q462 : (Jvm.Cond.instanceMethod ({ cls := "RumourBeds$Needs", name := "needs", desc := "()I" } : Jvm.MethodName)) ∈ lw_all := lw_g (lw_at lw_m2 140 rfl) rfl
theorem q463 : (Jvm.Cond.code ({ cls := "RumourBeds$Needs", name := "needs", desc := "()I" } : Jvm.MethodName) prog_8_method_1_code (1 : Nat) (Option.some Jvm.ClassFile.FieldType.int)) ∈ lw_all := lw_g (lw_at lw_m2 141 rfl) rfl
theorem q479 : (Jvm.Cond.publicMethod ({ cls := "RumourBeds$Needs", name := "needs", desc := "()I" } : Jvm.MethodName)) ∈ lw_tbl := lw_at lw_m2 157 rfl
