/-! RumourBeds -/
set_option maxRecDepth 100000
def RX0 : String := "RumourBeds"
def TX0 : u_T := fun k => match k with
  | 0 => ("RumourBeds", "town", "LRumourBeds$Town;", true)
  | 1 => ("RumourBeds", "kept", "LRumourBeds$Town;", true)
  | 2 => ("RumourBeds", "draft", "LRumourBeds$Town;", true)
  | 3 => ("RumourBeds", "trial", "LRumourBeds$Town;", true)
  | 4 => ("RumourBeds", "isKept", "Z", false)
  | 5 => ("RumourBeds", "tape", "[B", true)
  | 6 => ("RumourBeds", "taped", "I", false)
  | 7 => ("RumourBeds", "sheets", "[LRumourBeds$Slot;", true)
  | _ => ("RumourBeds", "found", "[I", true)
def tyX0 : Nat → FieldType := fun k => match k with
  | 0 => .object "RumourBeds$Town"
  | 1 => .object "RumourBeds$Town"
  | 2 => .object "RumourBeds$Town"
  | 3 => .object "RumourBeds$Town"
  | 4 => .boolean
  | 5 => .array .byte
  | 6 => .int
  | 7 => .array (.object "RumourBeds$Slot")
  | _ => .array .int
abbrev wsX00 : List Cond := u_ws RX0 TX0 9
theorem nmX0 : ∀ a, a < 9 → ∀ b, b < 9 → a ≠ b → (TX0 a).2.1 ≠ (TX0 b).2.1 := by decide +kernel
theorem tyX0_ok : ∀ k, k < 9 → parseFieldDescriptor (TX0 k).2.2.1 = some (tyX0 k) := by decide +kernel
abbrev cX0_init : ByteArray := prog_1_method_10_code
def yX0_init : MethodName := ⟨RX0, "<init>", "()V"⟩
def dkwX0_init_3 : List UInt8 := [181, 0, 75, 177]
abbrev dktX0_init_3 : List UInt8 := dkwX0_init_3 ++ []
def dkwX0_init_2 : List UInt8 := [181, 0, 60, 42, 16, 120, 188, 8, 181, 0, 63, 42, 7, 184, 0, 67, 181, 0, 71, 42, 16, 7, 188, 10]
abbrev dktX0_init_2 : List UInt8 := dkwX0_init_2 ++ dktX0_init_3
def dkwX0_init_1 : List UInt8 := [181, 0, 54, 42, 187, 0, 47, 89, 183, 0, 49, 181, 0, 57, 42, 187, 0, 47, 89, 183, 0, 49]
abbrev dktX0_init_1 : List UInt8 := dkwX0_init_1 ++ dktX0_init_2
def dkwX0_init_0 : List UInt8 := [42, 183, 0, 44, 42, 187, 0, 47, 89, 183, 0, 49, 181, 0, 50, 42, 187, 0, 47, 89, 183, 0, 49]
abbrev dktX0_init_0 : List UInt8 := dkwX0_init_0 ++ dktX0_init_1
theorem dksX0_init_0 : cX0_init.data.toList.drop 0 = dktX0_init_0 := by decide +kernel
theorem dksX0_init_1 : cX0_init.data.toList.drop 23 = dktX0_init_1 := dk_seg dksX0_init_0 23 rfl rfl
theorem dksX0_init_2 : cX0_init.data.toList.drop 45 = dktX0_init_2 := dk_seg dksX0_init_1 22 rfl rfl
theorem dksX0_init_3 : cX0_init.data.toList.drop 69 = dktX0_init_3 := dk_seg dksX0_init_2 24 rfl rfl
theorem dX0_init_0 : decode cX0_init 0 = .ok (.aload_n 0, 1) := dk_42 (dk_at dksX0_init_0 0 rfl rfl)
theorem dX0_init_1 : decode cX0_init 1 = .ok (.invokespecial 44, 3) := dk_183 0 44 (dk_at dksX0_init_0 1 rfl rfl)
theorem dX0_init_4 : decode cX0_init 4 = .ok (.aload_n 0, 1) := dk_42 (dk_at dksX0_init_0 4 rfl rfl)
theorem dX0_init_5 : decode cX0_init 5 = .ok (.new 47, 3) := dk_187 0 47 (dk_at dksX0_init_0 5 rfl rfl)
theorem dX0_init_8 : decode cX0_init 8 = .ok (.dup, 1) := dk_89 (dk_at dksX0_init_0 8 rfl rfl)
theorem dX0_init_9 : decode cX0_init 9 = .ok (.invokespecial 49, 3) := dk_183 0 49 (dk_at dksX0_init_0 9 rfl rfl)
theorem dX0_init_12 : decode cX0_init 12 = .ok (.putfield 50, 3) := dk_181 0 50 (dk_at dksX0_init_0 12 rfl rfl)
theorem dX0_init_15 : decode cX0_init 15 = .ok (.aload_n 0, 1) := dk_42 (dk_at dksX0_init_0 15 rfl rfl)
theorem dX0_init_16 : decode cX0_init 16 = .ok (.new 47, 3) := dk_187 0 47 (dk_at dksX0_init_0 16 rfl rfl)
theorem dX0_init_19 : decode cX0_init 19 = .ok (.dup, 1) := dk_89 (dk_at dksX0_init_0 19 rfl rfl)
theorem dX0_init_20 : decode cX0_init 20 = .ok (.invokespecial 49, 3) := dk_183 0 49 (dk_at dksX0_init_0 20 rfl rfl)
theorem dX0_init_23 : decode cX0_init 23 = .ok (.putfield 54, 3) := dk_181 0 54 (dk_at dksX0_init_1 0 rfl rfl)
theorem dX0_init_26 : decode cX0_init 26 = .ok (.aload_n 0, 1) := dk_42 (dk_at dksX0_init_1 3 rfl rfl)
theorem dX0_init_27 : decode cX0_init 27 = .ok (.new 47, 3) := dk_187 0 47 (dk_at dksX0_init_1 4 rfl rfl)
theorem dX0_init_30 : decode cX0_init 30 = .ok (.dup, 1) := dk_89 (dk_at dksX0_init_1 7 rfl rfl)
theorem dX0_init_31 : decode cX0_init 31 = .ok (.invokespecial 49, 3) := dk_183 0 49 (dk_at dksX0_init_1 8 rfl rfl)
theorem dX0_init_34 : decode cX0_init 34 = .ok (.putfield 57, 3) := dk_181 0 57 (dk_at dksX0_init_1 11 rfl rfl)
theorem dX0_init_37 : decode cX0_init 37 = .ok (.aload_n 0, 1) := dk_42 (dk_at dksX0_init_1 14 rfl rfl)
theorem dX0_init_38 : decode cX0_init 38 = .ok (.new 47, 3) := dk_187 0 47 (dk_at dksX0_init_1 15 rfl rfl)
theorem dX0_init_41 : decode cX0_init 41 = .ok (.dup, 1) := dk_89 (dk_at dksX0_init_1 18 rfl rfl)
theorem dX0_init_42 : decode cX0_init 42 = .ok (.invokespecial 49, 3) := dk_183 0 49 (dk_at dksX0_init_1 19 rfl rfl)
theorem dX0_init_45 : decode cX0_init 45 = .ok (.putfield 60, 3) := dk_181 0 60 (dk_at dksX0_init_2 0 rfl rfl)
theorem dX0_init_48 : decode cX0_init 48 = .ok (.aload_n 0, 1) := dk_42 (dk_at dksX0_init_2 3 rfl rfl)
theorem dX0_init_49 : decode cX0_init 49 = .ok (.bipush 120, 2) := dk_16 120 (dk_at dksX0_init_2 4 rfl rfl)
theorem dX0_init_51 : decode cX0_init 51 = .ok (.newarray .byte, 2) := dk_188_8 (dk_at dksX0_init_2 6 rfl rfl)
theorem dX0_init_53 : decode cX0_init 53 = .ok (.putfield 63, 3) := dk_181 0 63 (dk_at dksX0_init_2 8 rfl rfl)
theorem dX0_init_56 : decode cX0_init 56 = .ok (.aload_n 0, 1) := dk_42 (dk_at dksX0_init_2 11 rfl rfl)
theorem dX0_init_57 : decode cX0_init 57 = .ok (.iconst 4, 1) := dk_7 (dk_at dksX0_init_2 12 rfl rfl)
theorem dX0_init_58 : decode cX0_init 58 = .ok (.invokestatic 67, 3) := dk_184 0 67 (dk_at dksX0_init_2 13 rfl rfl)
theorem dX0_init_61 : decode cX0_init 61 = .ok (.putfield 71, 3) := dk_181 0 71 (dk_at dksX0_init_2 16 rfl rfl)
theorem dX0_init_64 : decode cX0_init 64 = .ok (.aload_n 0, 1) := dk_42 (dk_at dksX0_init_2 19 rfl rfl)
theorem dX0_init_65 : decode cX0_init 65 = .ok (.bipush 7, 2) := dk_16 7 (dk_at dksX0_init_2 20 rfl rfl)
theorem dX0_init_67 : decode cX0_init 67 = .ok (.newarray .int, 2) := dk_188_10 (dk_at dksX0_init_2 22 rfl rfl)
theorem dX0_init_69 : decode cX0_init 69 = .ok (.putfield 75, 3) := dk_181 0 75 (dk_at dksX0_init_3 0 rfl rfl)
theorem dX0_init_72 : decode cX0_init 72 = .ok (.return_, 1) := dk_177 (dk_at dksX0_init_3 3 rfl rfl)
abbrev cX0_slots : ByteArray := prog_1_method_4_code
def yX0_slots : MethodName := ⟨RX0, "slots", "(I)[LRumourBeds$Slot;"⟩
def dkwX0_slots_1 : List UInt8 := [132, 2, 1, 167, 255, 238, 43, 176]
abbrev dktX0_slots_1 : List UInt8 := dkwX0_slots_1 ++ []
def dkwX0_slots_0 : List UInt8 := [26, 189, 0, 7, 76, 3, 61, 28, 26, 162, 0, 19, 43, 28, 187, 0, 7, 89, 183, 0, 9, 83]
abbrev dktX0_slots_0 : List UInt8 := dkwX0_slots_0 ++ dktX0_slots_1
theorem dksX0_slots_0 : cX0_slots.data.toList.drop 0 = dktX0_slots_0 := by decide +kernel
theorem dksX0_slots_1 : cX0_slots.data.toList.drop 22 = dktX0_slots_1 := dk_seg dksX0_slots_0 22 rfl rfl
theorem dX0_slots_0 : decode cX0_slots 0 = .ok (.iload_n 0, 1) := dk_26 (dk_at dksX0_slots_0 0 rfl rfl)
theorem dX0_slots_1 : decode cX0_slots 1 = .ok (.anewarray 7, 3) := dk_189 0 7 (dk_at dksX0_slots_0 1 rfl rfl)
theorem dX0_slots_4 : decode cX0_slots 4 = .ok (.astore_n 1, 1) := dk_76 (dk_at dksX0_slots_0 4 rfl rfl)
theorem dX0_slots_5 : decode cX0_slots 5 = .ok (.iconst 0, 1) := dk_3 (dk_at dksX0_slots_0 5 rfl rfl)
theorem dX0_slots_6 : decode cX0_slots 6 = .ok (.istore_n 2, 1) := dk_61 (dk_at dksX0_slots_0 6 rfl rfl)
theorem dX0_slots_7 : decode cX0_slots 7 = .ok (.iload_n 2, 1) := dk_28 (dk_at dksX0_slots_0 7 rfl rfl)
theorem dX0_slots_8 : decode cX0_slots 8 = .ok (.iload_n 0, 1) := dk_26 (dk_at dksX0_slots_0 8 rfl rfl)
theorem dX0_slots_9 : decode cX0_slots 9 = .ok (.if_icmp .ge 19, 3) := dk_162 0 19 (dk_at dksX0_slots_0 9 rfl rfl)
theorem dX0_slots_12 : decode cX0_slots 12 = .ok (.aload_n 1, 1) := dk_43 (dk_at dksX0_slots_0 12 rfl rfl)
theorem dX0_slots_13 : decode cX0_slots 13 = .ok (.iload_n 2, 1) := dk_28 (dk_at dksX0_slots_0 13 rfl rfl)
theorem dX0_slots_14 : decode cX0_slots 14 = .ok (.new 7, 3) := dk_187 0 7 (dk_at dksX0_slots_0 14 rfl rfl)
theorem dX0_slots_17 : decode cX0_slots 17 = .ok (.dup, 1) := dk_89 (dk_at dksX0_slots_0 17 rfl rfl)
theorem dX0_slots_18 : decode cX0_slots 18 = .ok (.invokespecial 9, 3) := dk_183 0 9 (dk_at dksX0_slots_0 18 rfl rfl)
theorem dX0_slots_21 : decode cX0_slots 21 = .ok (.aastore, 1) := dk_83 (dk_at dksX0_slots_0 21 rfl rfl)
theorem dX0_slots_22 : decode cX0_slots 22 = .ok (.iinc 2 1, 3) := dk_132 2 1 (dk_at dksX0_slots_1 0 rfl rfl)
theorem dX0_slots_25 : decode cX0_slots 25 = .ok (.goto (-18), 3) := dk_167 255 238 (dk_at dksX0_slots_1 3 rfl rfl)
theorem dX0_slots_28 : decode cX0_slots 28 = .ok (.aload_n 1, 1) := dk_43 (dk_at dksX0_slots_1 6 rfl rfl)
theorem dX0_slots_29 : decode cX0_slots 29 = .ok (.areturn, 1) := dk_176 (dk_at dksX0_slots_1 7 rfl rfl)
abbrev cX0_house : ByteArray := prog_1_method_16_code
def yX0_house : MethodName := ⟨RX0, "house", "(III)I"⟩
def dkwX0_house_4 : List UInt8 := [172]
abbrev dktX0_house_4 : List UInt8 := dkwX0_house_4 ++ []
def dkwX0_house_3 : List UInt8 := [54, 4, 42, 180, 0, 50, 28, 182, 0, 118, 27, 29, 79, 21, 4, 172, 58, 4, 42, 25, 4, 182, 0, 122]
abbrev dktX0_house_3 : List UInt8 := dkwX0_house_3 ++ dktX0_house_4
def dkwX0_house_2 : List UInt8 := [184, 0, 16, 153, 0, 7, 4, 167, 0, 4, 3, 184, 0, 114, 42, 180, 0, 50, 28, 182, 0, 118, 27, 46]
abbrev dktX0_house_2 : List UInt8 := dkwX0_house_2 ++ dktX0_house_3
def dkwX0_house_1 : List UInt8 := [154, 0, 9, 20, 0, 108, 167, 0, 17, 28, 4, 160, 0, 9, 20, 0, 110, 167, 0, 6, 20, 0, 112]
abbrev dktX0_house_1 : List UInt8 := dkwX0_house_1 ++ dktX0_house_2
def dkwX0_house_0 : List UInt8 := [27, 184, 0, 102, 153, 0, 52, 28, 133, 9, 20, 0, 106, 184, 0, 16, 153, 0, 40, 29, 133, 9, 28]
abbrev dktX0_house_0 : List UInt8 := dkwX0_house_0 ++ dktX0_house_1
theorem dksX0_house_0 : cX0_house.data.toList.drop 0 = dktX0_house_0 := by decide +kernel
theorem dksX0_house_1 : cX0_house.data.toList.drop 23 = dktX0_house_1 := dk_seg dksX0_house_0 23 rfl rfl
theorem dksX0_house_2 : cX0_house.data.toList.drop 46 = dktX0_house_2 := dk_seg dksX0_house_1 23 rfl rfl
theorem dksX0_house_3 : cX0_house.data.toList.drop 70 = dktX0_house_3 := dk_seg dksX0_house_2 24 rfl rfl
theorem dksX0_house_4 : cX0_house.data.toList.drop 94 = dktX0_house_4 := dk_seg dksX0_house_3 24 rfl rfl
theorem dX0_house_0 : decode cX0_house 0 = .ok (.iload_n 1, 1) := dk_27 (dk_at dksX0_house_0 0 rfl rfl)
theorem dX0_house_1 : decode cX0_house 1 = .ok (.invokestatic 102, 3) := dk_184 0 102 (dk_at dksX0_house_0 1 rfl rfl)
theorem dX0_house_4 : decode cX0_house 4 = .ok (.ifCond .eq 52, 3) := dk_153 0 52 (dk_at dksX0_house_0 4 rfl rfl)
theorem dX0_house_7 : decode cX0_house 7 = .ok (.iload_n 2, 1) := dk_28 (dk_at dksX0_house_0 7 rfl rfl)
theorem dX0_house_8 : decode cX0_house 8 = .ok (.i2l, 1) := dk_133 (dk_at dksX0_house_0 8 rfl rfl)
theorem dX0_house_9 : decode cX0_house 9 = .ok (.lconst 0, 1) := dk_9 (dk_at dksX0_house_0 9 rfl rfl)
theorem dX0_house_10 : decode cX0_house 10 = .ok (.ldc2_w 106, 3) := dk_20 0 106 (dk_at dksX0_house_0 10 rfl rfl)
theorem dX0_house_13 : decode cX0_house 13 = .ok (.invokestatic 16, 3) := dk_184 0 16 (dk_at dksX0_house_0 13 rfl rfl)
theorem dX0_house_16 : decode cX0_house 16 = .ok (.ifCond .eq 40, 3) := dk_153 0 40 (dk_at dksX0_house_0 16 rfl rfl)
theorem dX0_house_19 : decode cX0_house 19 = .ok (.iload_n 3, 1) := dk_29 (dk_at dksX0_house_0 19 rfl rfl)
theorem dX0_house_20 : decode cX0_house 20 = .ok (.i2l, 1) := dk_133 (dk_at dksX0_house_0 20 rfl rfl)
theorem dX0_house_21 : decode cX0_house 21 = .ok (.lconst 0, 1) := dk_9 (dk_at dksX0_house_0 21 rfl rfl)
theorem dX0_house_22 : decode cX0_house 22 = .ok (.iload_n 2, 1) := dk_28 (dk_at dksX0_house_0 22 rfl rfl)
theorem dX0_house_23 : decode cX0_house 23 = .ok (.ifCond .ne 9, 3) := dk_154 0 9 (dk_at dksX0_house_1 0 rfl rfl)
theorem dX0_house_26 : decode cX0_house 26 = .ok (.ldc2_w 108, 3) := dk_20 0 108 (dk_at dksX0_house_1 3 rfl rfl)
theorem dX0_house_29 : decode cX0_house 29 = .ok (.goto 17, 3) := dk_167 0 17 (dk_at dksX0_house_1 6 rfl rfl)
theorem dX0_house_32 : decode cX0_house 32 = .ok (.iload_n 2, 1) := dk_28 (dk_at dksX0_house_1 9 rfl rfl)
theorem dX0_house_33 : decode cX0_house 33 = .ok (.iconst 1, 1) := dk_4 (dk_at dksX0_house_1 10 rfl rfl)
theorem dX0_house_34 : decode cX0_house 34 = .ok (.if_icmp .ne 9, 3) := dk_160 0 9 (dk_at dksX0_house_1 11 rfl rfl)
theorem dX0_house_37 : decode cX0_house 37 = .ok (.ldc2_w 110, 3) := dk_20 0 110 (dk_at dksX0_house_1 14 rfl rfl)
theorem dX0_house_40 : decode cX0_house 40 = .ok (.goto 6, 3) := dk_167 0 6 (dk_at dksX0_house_1 17 rfl rfl)
theorem dX0_house_43 : decode cX0_house 43 = .ok (.ldc2_w 112, 3) := dk_20 0 112 (dk_at dksX0_house_1 20 rfl rfl)
theorem dX0_house_46 : decode cX0_house 46 = .ok (.invokestatic 16, 3) := dk_184 0 16 (dk_at dksX0_house_2 0 rfl rfl)
theorem dX0_house_49 : decode cX0_house 49 = .ok (.ifCond .eq 7, 3) := dk_153 0 7 (dk_at dksX0_house_2 3 rfl rfl)
theorem dX0_house_52 : decode cX0_house 52 = .ok (.iconst 1, 1) := dk_4 (dk_at dksX0_house_2 6 rfl rfl)
theorem dX0_house_53 : decode cX0_house 53 = .ok (.goto 4, 3) := dk_167 0 4 (dk_at dksX0_house_2 7 rfl rfl)
theorem dX0_house_56 : decode cX0_house 56 = .ok (.iconst 0, 1) := dk_3 (dk_at dksX0_house_2 10 rfl rfl)
theorem dX0_house_57 : decode cX0_house 57 = .ok (.invokestatic 114, 3) := dk_184 0 114 (dk_at dksX0_house_2 11 rfl rfl)
theorem dX0_house_60 : decode cX0_house 60 = .ok (.aload_n 0, 1) := dk_42 (dk_at dksX0_house_2 14 rfl rfl)
theorem dX0_house_61 : decode cX0_house 61 = .ok (.getfield 50, 3) := dk_180 0 50 (dk_at dksX0_house_2 15 rfl rfl)
theorem dX0_house_64 : decode cX0_house 64 = .ok (.iload_n 2, 1) := dk_28 (dk_at dksX0_house_2 18 rfl rfl)
theorem dX0_house_65 : decode cX0_house 65 = .ok (.invokevirtual 118, 3) := dk_182 0 118 (dk_at dksX0_house_2 19 rfl rfl)
theorem dX0_house_68 : decode cX0_house 68 = .ok (.iload_n 1, 1) := dk_27 (dk_at dksX0_house_2 22 rfl rfl)
theorem dX0_house_69 : decode cX0_house 69 = .ok (.iaload, 1) := dk_46 (dk_at dksX0_house_2 23 rfl rfl)
theorem dX0_house_70 : decode cX0_house 70 = .ok (.istore 4, 2) := dk_54 4 (dk_at dksX0_house_3 0 rfl rfl)
theorem dX0_house_72 : decode cX0_house 72 = .ok (.aload_n 0, 1) := dk_42 (dk_at dksX0_house_3 2 rfl rfl)
theorem dX0_house_73 : decode cX0_house 73 = .ok (.getfield 50, 3) := dk_180 0 50 (dk_at dksX0_house_3 3 rfl rfl)
theorem dX0_house_76 : decode cX0_house 76 = .ok (.iload_n 2, 1) := dk_28 (dk_at dksX0_house_3 6 rfl rfl)
theorem dX0_house_77 : decode cX0_house 77 = .ok (.invokevirtual 118, 3) := dk_182 0 118 (dk_at dksX0_house_3 7 rfl rfl)
theorem dX0_house_80 : decode cX0_house 80 = .ok (.iload_n 1, 1) := dk_27 (dk_at dksX0_house_3 10 rfl rfl)
theorem dX0_house_81 : decode cX0_house 81 = .ok (.iload_n 3, 1) := dk_29 (dk_at dksX0_house_3 11 rfl rfl)
theorem dX0_house_82 : decode cX0_house 82 = .ok (.iastore, 1) := dk_79 (dk_at dksX0_house_3 12 rfl rfl)
theorem dX0_house_83 : decode cX0_house 83 = .ok (.iload 4, 2) := dk_21 4 (dk_at dksX0_house_3 13 rfl rfl)
theorem dX0_house_85 : decode cX0_house 85 = .ok (.ireturn, 1) := dk_172 (dk_at dksX0_house_3 15 rfl rfl)
theorem dX0_house_86 : decode cX0_house 86 = .ok (.astore 4, 2) := dk_58 4 (dk_at dksX0_house_3 16 rfl rfl)
theorem dX0_house_88 : decode cX0_house 88 = .ok (.aload_n 0, 1) := dk_42 (dk_at dksX0_house_3 18 rfl rfl)
theorem dX0_house_89 : decode cX0_house 89 = .ok (.aload 4, 2) := dk_25 4 (dk_at dksX0_house_3 19 rfl rfl)
theorem dX0_house_91 : decode cX0_house 91 = .ok (.invokevirtual 122, 3) := dk_182 0 122 (dk_at dksX0_house_3 21 rfl rfl)
theorem dX0_house_94 : decode cX0_house 94 = .ok (.ireturn, 1) := dk_172 (dk_at dksX0_house_4 0 rfl rfl)
abbrev cX0_isHouse : ByteArray := prog_1_method_5_code
def yX0_isHouse : MethodName := ⟨RX0, "isHouse", "(I)Z"⟩
def dkwX0_isHouse_0 : List UInt8 := [26, 133, 9, 20, 0, 14, 184, 0, 16, 172]
abbrev dktX0_isHouse_0 : List UInt8 := dkwX0_isHouse_0 ++ []
theorem dksX0_isHouse_0 : cX0_isHouse.data.toList.drop 0 = dktX0_isHouse_0 := by decide +kernel
theorem dX0_isHouse_0 : decode cX0_isHouse 0 = .ok (.iload_n 0, 1) := dk_26 (dk_at dksX0_isHouse_0 0 rfl rfl)
theorem dX0_isHouse_1 : decode cX0_isHouse 1 = .ok (.i2l, 1) := dk_133 (dk_at dksX0_isHouse_0 1 rfl rfl)
theorem dX0_isHouse_2 : decode cX0_isHouse 2 = .ok (.lconst 0, 1) := dk_9 (dk_at dksX0_isHouse_0 2 rfl rfl)
theorem dX0_isHouse_3 : decode cX0_isHouse 3 = .ok (.ldc2_w 14, 3) := dk_20 0 14 (dk_at dksX0_isHouse_0 3 rfl rfl)
theorem dX0_isHouse_6 : decode cX0_isHouse 6 = .ok (.invokestatic 16, 3) := dk_184 0 16 (dk_at dksX0_isHouse_0 6 rfl rfl)
theorem dX0_isHouse_9 : decode cX0_isHouse 9 = .ok (.ireturn, 1) := dk_172 (dk_at dksX0_isHouse_0 9 rfl rfl)
abbrev cX0_in : ByteArray := prog_1_method_2_code
def yX0_in : MethodName := ⟨RX0, "in", "(JJJ)Z"⟩
def dkwX0_in_0 : List UInt8 := [30, 32, 148, 155, 0, 14, 30, 22, 4, 148, 157, 0, 7, 4, 167, 0, 4, 3, 172]
abbrev dktX0_in_0 : List UInt8 := dkwX0_in_0 ++ []
theorem dksX0_in_0 : cX0_in.data.toList.drop 0 = dktX0_in_0 := by decide +kernel
theorem dX0_in_0 : decode cX0_in 0 = .ok (.lload_n 0, 1) := dk_30 (dk_at dksX0_in_0 0 rfl rfl)
theorem dX0_in_1 : decode cX0_in 1 = .ok (.lload_n 2, 1) := dk_32 (dk_at dksX0_in_0 1 rfl rfl)
theorem dX0_in_2 : decode cX0_in 2 = .ok (.lcmp, 1) := dk_148 (dk_at dksX0_in_0 2 rfl rfl)
theorem dX0_in_3 : decode cX0_in 3 = .ok (.ifCond .lt 14, 3) := dk_155 0 14 (dk_at dksX0_in_0 3 rfl rfl)
theorem dX0_in_6 : decode cX0_in 6 = .ok (.lload_n 0, 1) := dk_30 (dk_at dksX0_in_0 6 rfl rfl)
theorem dX0_in_7 : decode cX0_in 7 = .ok (.lload 4, 2) := dk_22 4 (dk_at dksX0_in_0 7 rfl rfl)
theorem dX0_in_9 : decode cX0_in 9 = .ok (.lcmp, 1) := dk_148 (dk_at dksX0_in_0 9 rfl rfl)
theorem dX0_in_10 : decode cX0_in 10 = .ok (.ifCond .gt 7, 3) := dk_157 0 7 (dk_at dksX0_in_0 10 rfl rfl)
theorem dX0_in_13 : decode cX0_in 13 = .ok (.iconst 1, 1) := dk_4 (dk_at dksX0_in_0 13 rfl rfl)
theorem dX0_in_14 : decode cX0_in 14 = .ok (.goto 4, 3) := dk_167 0 4 (dk_at dksX0_in_0 14 rfl rfl)
theorem dX0_in_17 : decode cX0_in 17 = .ok (.iconst 0, 1) := dk_3 (dk_at dksX0_in_0 17 rfl rfl)
theorem dX0_in_18 : decode cX0_in 18 = .ok (.ireturn, 1) := dk_172 (dk_at dksX0_in_0 18 rfl rfl)
abbrev cX0_isTold : ByteArray := prog_1_method_14_code
def yX0_isTold : MethodName := ⟨RX0, "isTold", "(Z)V"⟩
def dkwX0_isTold_0 : List UInt8 := [26, 3, 184, 0, 87, 177]
abbrev dktX0_isTold_0 : List UInt8 := dkwX0_isTold_0 ++ []
theorem dksX0_isTold_0 : cX0_isTold.data.toList.drop 0 = dktX0_isTold_0 := by decide +kernel
theorem dX0_isTold_0 : decode cX0_isTold 0 = .ok (.iload_n 0, 1) := dk_26 (dk_at dksX0_isTold_0 0 rfl rfl)
theorem dX0_isTold_1 : decode cX0_isTold 1 = .ok (.iconst 0, 1) := dk_3 (dk_at dksX0_isTold_0 1 rfl rfl)
theorem dX0_isTold_2 : decode cX0_isTold 2 = .ok (.invokestatic 87, 3) := dk_184 0 87 (dk_at dksX0_isTold_0 2 rfl rfl)
theorem dX0_isTold_5 : decode cX0_isTold 5 = .ok (.return_, 1) := dk_177 (dk_at dksX0_isTold_0 5 rfl rfl)
abbrev cX0_need : ByteArray := prog_1_method_1_code
def yX0_need : MethodName := ⟨RX0, "need", "(ZI)V"⟩
def dkwX0_need_0 : List UInt8 := [26, 154, 0, 12, 187, 0, 1, 89, 27, 183, 0, 3, 191, 177]
abbrev dktX0_need_0 : List UInt8 := dkwX0_need_0 ++ []
theorem dksX0_need_0 : cX0_need.data.toList.drop 0 = dktX0_need_0 := by decide +kernel
theorem dX0_need_0 : decode cX0_need 0 = .ok (.iload_n 0, 1) := dk_26 (dk_at dksX0_need_0 0 rfl rfl)
theorem dX0_need_1 : decode cX0_need 1 = .ok (.ifCond .ne 12, 3) := dk_154 0 12 (dk_at dksX0_need_0 1 rfl rfl)
theorem dX0_need_4 : decode cX0_need 4 = .ok (.new 1, 3) := dk_187 0 1 (dk_at dksX0_need_0 4 rfl rfl)
theorem dX0_need_7 : decode cX0_need 7 = .ok (.dup, 1) := dk_89 (dk_at dksX0_need_0 7 rfl rfl)
theorem dX0_need_8 : decode cX0_need 8 = .ok (.iload_n 1, 1) := dk_27 (dk_at dksX0_need_0 8 rfl rfl)
theorem dX0_need_9 : decode cX0_need 9 = .ok (.invokespecial 3, 3) := dk_183 0 3 (dk_at dksX0_need_0 9 rfl rfl)
theorem dX0_need_12 : decode cX0_need 12 = .ok (.athrow, 1) := dk_191 (dk_at dksX0_need_0 12 rfl rfl)
theorem dX0_need_13 : decode cX0_need 13 = .ok (.return_, 1) := dk_177 (dk_at dksX0_need_0 13 rfl rfl)
abbrev cX0_finds : ByteArray := prog_1_method_11_code
def yX0_finds : MethodName := ⟨RX0, "finds", "(LRumourBeds$Finding;)I"⟩
def dkwX0_finds_0 : List UInt8 := [42, 180, 0, 75, 43, 180, 0, 79, 92, 46, 4, 96, 79, 43, 182, 0, 83, 172]
abbrev dktX0_finds_0 : List UInt8 := dkwX0_finds_0 ++ []
theorem dksX0_finds_0 : cX0_finds.data.toList.drop 0 = dktX0_finds_0 := by decide +kernel
theorem dX0_finds_0 : decode cX0_finds 0 = .ok (.aload_n 0, 1) := dk_42 (dk_at dksX0_finds_0 0 rfl rfl)
theorem dX0_finds_1 : decode cX0_finds 1 = .ok (.getfield 75, 3) := dk_180 0 75 (dk_at dksX0_finds_0 1 rfl rfl)
theorem dX0_finds_4 : decode cX0_finds 4 = .ok (.aload_n 1, 1) := dk_43 (dk_at dksX0_finds_0 4 rfl rfl)
theorem dX0_finds_5 : decode cX0_finds 5 = .ok (.getfield 79, 3) := dk_180 0 79 (dk_at dksX0_finds_0 5 rfl rfl)
theorem dX0_finds_8 : decode cX0_finds 8 = .ok (.dup2, 1) := dk_92 (dk_at dksX0_finds_0 8 rfl rfl)
theorem dX0_finds_9 : decode cX0_finds 9 = .ok (.iaload, 1) := dk_46 (dk_at dksX0_finds_0 9 rfl rfl)
theorem dX0_finds_10 : decode cX0_finds 10 = .ok (.iconst 1, 1) := dk_4 (dk_at dksX0_finds_0 10 rfl rfl)
theorem dX0_finds_11 : decode cX0_finds 11 = .ok (.iadd, 1) := dk_96 (dk_at dksX0_finds_0 11 rfl rfl)
theorem dX0_finds_12 : decode cX0_finds 12 = .ok (.iastore, 1) := dk_79 (dk_at dksX0_finds_0 12 rfl rfl)
theorem dX0_finds_13 : decode cX0_finds 13 = .ok (.aload_n 1, 1) := dk_43 (dk_at dksX0_finds_0 13 rfl rfl)
theorem dX0_finds_14 : decode cX0_finds 14 = .ok (.invokevirtual 83, 3) := dk_182 0 83 (dk_at dksX0_finds_0 14 rfl rfl)
theorem dX0_finds_17 : decode cX0_finds 17 = .ok (.ireturn, 1) := dk_172 (dk_at dksX0_finds_0 17 rfl rfl)
abbrev cX0_houseOf : ByteArray := prog_1_method_18_code
def yX0_houseOf : MethodName := ⟨RX0, "houseOf", "(II)I"⟩
def dkwX0_houseOf_4 : List UInt8 := [42, 180, 0, 50, 28, 182, 0, 118, 27, 46, 172, 78, 42, 45, 182, 0, 122, 172]
abbrev dktX0_houseOf_4 : List UInt8 := dkwX0_houseOf_4 ++ []
def dkwX0_houseOf_3 : List UInt8 := [42, 180, 0, 50, 27, 182, 0, 131, 172, 42, 27, 182, 0, 135, 172, 42, 180, 0, 50, 27, 182, 0, 138, 172]
abbrev dktX0_houseOf_3 : List UInt8 := dkwX0_houseOf_3 ++ dktX0_houseOf_4
def dkwX0_houseOf_2 : List UInt8 := [170, 0, 0, 0, 0, 0, 0, 52, 0, 0, 0, 3, 0, 0, 0, 5, 0, 0, 0, 28, 0, 0, 0, 37, 0, 0, 0, 43]
abbrev dktX0_houseOf_2 : List UInt8 := dkwX0_houseOf_2 ++ dktX0_houseOf_3
def dkwX0_houseOf_1 : List UInt8 := [184, 0, 114, 28]
abbrev dktX0_houseOf_1 : List UInt8 := dkwX0_houseOf_1 ++ dktX0_houseOf_2
def dkwX0_houseOf_0 : List UInt8 := [27, 184, 0, 102, 153, 0, 19, 28, 133, 9, 20, 0, 129, 184, 0, 16, 153, 0, 7, 4, 167, 0, 4, 3]
abbrev dktX0_houseOf_0 : List UInt8 := dkwX0_houseOf_0 ++ dktX0_houseOf_1
theorem dksX0_houseOf_0 : cX0_houseOf.data.toList.drop 0 = dktX0_houseOf_0 := by decide +kernel
theorem dksX0_houseOf_1 : cX0_houseOf.data.toList.drop 24 = dktX0_houseOf_1 := dk_seg dksX0_houseOf_0 24 rfl rfl
theorem dksX0_houseOf_2 : cX0_houseOf.data.toList.drop 28 = dktX0_houseOf_2 := dk_seg dksX0_houseOf_1 4 rfl rfl
theorem dksX0_houseOf_3 : cX0_houseOf.data.toList.drop 56 = dktX0_houseOf_3 := dk_seg dksX0_houseOf_2 28 rfl rfl
theorem dksX0_houseOf_4 : cX0_houseOf.data.toList.drop 80 = dktX0_houseOf_4 := dk_seg dksX0_houseOf_3 24 rfl rfl
theorem dX0_houseOf_0 : decode cX0_houseOf 0 = .ok (.iload_n 1, 1) := dk_27 (dk_at dksX0_houseOf_0 0 rfl rfl)
theorem dX0_houseOf_1 : decode cX0_houseOf 1 = .ok (.invokestatic 102, 3) := dk_184 0 102 (dk_at dksX0_houseOf_0 1 rfl rfl)
theorem dX0_houseOf_4 : decode cX0_houseOf 4 = .ok (.ifCond .eq 19, 3) := dk_153 0 19 (dk_at dksX0_houseOf_0 4 rfl rfl)
theorem dX0_houseOf_7 : decode cX0_houseOf 7 = .ok (.iload_n 2, 1) := dk_28 (dk_at dksX0_houseOf_0 7 rfl rfl)
theorem dX0_houseOf_8 : decode cX0_houseOf 8 = .ok (.i2l, 1) := dk_133 (dk_at dksX0_houseOf_0 8 rfl rfl)
theorem dX0_houseOf_9 : decode cX0_houseOf 9 = .ok (.lconst 0, 1) := dk_9 (dk_at dksX0_houseOf_0 9 rfl rfl)
theorem dX0_houseOf_10 : decode cX0_houseOf 10 = .ok (.ldc2_w 129, 3) := dk_20 0 129 (dk_at dksX0_houseOf_0 10 rfl rfl)
theorem dX0_houseOf_13 : decode cX0_houseOf 13 = .ok (.invokestatic 16, 3) := dk_184 0 16 (dk_at dksX0_houseOf_0 13 rfl rfl)
theorem dX0_houseOf_16 : decode cX0_houseOf 16 = .ok (.ifCond .eq 7, 3) := dk_153 0 7 (dk_at dksX0_houseOf_0 16 rfl rfl)
theorem dX0_houseOf_19 : decode cX0_houseOf 19 = .ok (.iconst 1, 1) := dk_4 (dk_at dksX0_houseOf_0 19 rfl rfl)
theorem dX0_houseOf_20 : decode cX0_houseOf 20 = .ok (.goto 4, 3) := dk_167 0 4 (dk_at dksX0_houseOf_0 20 rfl rfl)
theorem dX0_houseOf_23 : decode cX0_houseOf 23 = .ok (.iconst 0, 1) := dk_3 (dk_at dksX0_houseOf_0 23 rfl rfl)
theorem dX0_houseOf_24 : decode cX0_houseOf 24 = .ok (.invokestatic 114, 3) := dk_184 0 114 (dk_at dksX0_houseOf_1 0 rfl rfl)
theorem dX0_houseOf_27 : decode cX0_houseOf 27 = .ok (.iload_n 2, 1) := dk_28 (dk_at dksX0_houseOf_1 3 rfl rfl)
theorem dX0_houseOf_28 : decode cX0_houseOf 28 = .ok (.tableswitch 52 3 5 #[28, 37, 43], 28) := by decide +kernel
theorem dX0_houseOf_56 : decode cX0_houseOf 56 = .ok (.aload_n 0, 1) := dk_42 (dk_at dksX0_houseOf_3 0 rfl rfl)
theorem dX0_houseOf_57 : decode cX0_houseOf 57 = .ok (.getfield 50, 3) := dk_180 0 50 (dk_at dksX0_houseOf_3 1 rfl rfl)
theorem dX0_houseOf_60 : decode cX0_houseOf 60 = .ok (.iload_n 1, 1) := dk_27 (dk_at dksX0_houseOf_3 4 rfl rfl)
theorem dX0_houseOf_61 : decode cX0_houseOf 61 = .ok (.invokevirtual 131, 3) := dk_182 0 131 (dk_at dksX0_houseOf_3 5 rfl rfl)
theorem dX0_houseOf_64 : decode cX0_houseOf 64 = .ok (.ireturn, 1) := dk_172 (dk_at dksX0_houseOf_3 8 rfl rfl)
theorem dX0_houseOf_65 : decode cX0_houseOf 65 = .ok (.aload_n 0, 1) := dk_42 (dk_at dksX0_houseOf_3 9 rfl rfl)
theorem dX0_houseOf_66 : decode cX0_houseOf 66 = .ok (.iload_n 1, 1) := dk_27 (dk_at dksX0_houseOf_3 10 rfl rfl)
theorem dX0_houseOf_67 : decode cX0_houseOf 67 = .ok (.invokevirtual 135, 3) := dk_182 0 135 (dk_at dksX0_houseOf_3 11 rfl rfl)
theorem dX0_houseOf_70 : decode cX0_houseOf 70 = .ok (.ireturn, 1) := dk_172 (dk_at dksX0_houseOf_3 14 rfl rfl)
theorem dX0_houseOf_71 : decode cX0_houseOf 71 = .ok (.aload_n 0, 1) := dk_42 (dk_at dksX0_houseOf_3 15 rfl rfl)
theorem dX0_houseOf_72 : decode cX0_houseOf 72 = .ok (.getfield 50, 3) := dk_180 0 50 (dk_at dksX0_houseOf_3 16 rfl rfl)
theorem dX0_houseOf_75 : decode cX0_houseOf 75 = .ok (.iload_n 1, 1) := dk_27 (dk_at dksX0_houseOf_3 19 rfl rfl)
theorem dX0_houseOf_76 : decode cX0_houseOf 76 = .ok (.invokevirtual 138, 3) := dk_182 0 138 (dk_at dksX0_houseOf_3 20 rfl rfl)
theorem dX0_houseOf_79 : decode cX0_houseOf 79 = .ok (.ireturn, 1) := dk_172 (dk_at dksX0_houseOf_3 23 rfl rfl)
theorem dX0_houseOf_80 : decode cX0_houseOf 80 = .ok (.aload_n 0, 1) := dk_42 (dk_at dksX0_houseOf_4 0 rfl rfl)
theorem dX0_houseOf_81 : decode cX0_houseOf 81 = .ok (.getfield 50, 3) := dk_180 0 50 (dk_at dksX0_houseOf_4 1 rfl rfl)
theorem dX0_houseOf_84 : decode cX0_houseOf 84 = .ok (.iload_n 2, 1) := dk_28 (dk_at dksX0_houseOf_4 4 rfl rfl)
theorem dX0_houseOf_85 : decode cX0_houseOf 85 = .ok (.invokevirtual 118, 3) := dk_182 0 118 (dk_at dksX0_houseOf_4 5 rfl rfl)
theorem dX0_houseOf_88 : decode cX0_houseOf 88 = .ok (.iload_n 1, 1) := dk_27 (dk_at dksX0_houseOf_4 8 rfl rfl)
theorem dX0_houseOf_89 : decode cX0_houseOf 89 = .ok (.iaload, 1) := dk_46 (dk_at dksX0_houseOf_4 9 rfl rfl)
theorem dX0_houseOf_90 : decode cX0_houseOf 90 = .ok (.ireturn, 1) := dk_172 (dk_at dksX0_houseOf_4 10 rfl rfl)
theorem dX0_houseOf_91 : decode cX0_houseOf 91 = .ok (.astore_n 3, 1) := dk_78 (dk_at dksX0_houseOf_4 11 rfl rfl)
theorem dX0_houseOf_92 : decode cX0_houseOf 92 = .ok (.aload_n 0, 1) := dk_42 (dk_at dksX0_houseOf_4 12 rfl rfl)
theorem dX0_houseOf_93 : decode cX0_houseOf 93 = .ok (.aload_n 3, 1) := dk_45 (dk_at dksX0_houseOf_4 13 rfl rfl)
theorem dX0_houseOf_94 : decode cX0_houseOf 94 = .ok (.invokevirtual 122, 3) := dk_182 0 122 (dk_at dksX0_houseOf_4 14 rfl rfl)
theorem dX0_houseOf_97 : decode cX0_houseOf 97 = .ok (.ireturn, 1) := dk_172 (dk_at dksX0_houseOf_4 17 rfl rfl)
abbrev cX0_eventsIn : ByteArray := prog_1_method_17_code
def yX0_eventsIn : MethodName := ⟨RX0, "eventsIn", "(I)I"⟩
def dkwX0_eventsIn_2 : List UInt8 := [120, 128, 61, 132, 3, 1, 167, 255, 207, 28, 172]
abbrev dktX0_eventsIn_2 : List UInt8 := dkwX0_eventsIn_2 ++ []
def dkwX0_eventsIn_1 : List UInt8 := [180, 0, 126, 6, 46, 27, 160, 0, 21, 28, 4, 42, 180, 0, 50, 29, 182, 0, 94, 180, 0, 126, 3, 46]
abbrev dktX0_eventsIn_1 : List UInt8 := dkwX0_eventsIn_1 ++ dktX0_eventsIn_2
def dkwX0_eventsIn_0 : List UInt8 := [3, 61, 3, 62, 29, 42, 180, 0, 50, 180, 0, 91, 162, 0, 44, 42, 180, 0, 50, 29, 182, 0, 94]
abbrev dktX0_eventsIn_0 : List UInt8 := dkwX0_eventsIn_0 ++ dktX0_eventsIn_1
theorem dksX0_eventsIn_0 : cX0_eventsIn.data.toList.drop 0 = dktX0_eventsIn_0 := by decide +kernel
theorem dksX0_eventsIn_1 : cX0_eventsIn.data.toList.drop 23 = dktX0_eventsIn_1 := dk_seg dksX0_eventsIn_0 23 rfl rfl
theorem dksX0_eventsIn_2 : cX0_eventsIn.data.toList.drop 47 = dktX0_eventsIn_2 := dk_seg dksX0_eventsIn_1 24 rfl rfl
theorem dX0_eventsIn_0 : decode cX0_eventsIn 0 = .ok (.iconst 0, 1) := dk_3 (dk_at dksX0_eventsIn_0 0 rfl rfl)
theorem dX0_eventsIn_1 : decode cX0_eventsIn 1 = .ok (.istore_n 2, 1) := dk_61 (dk_at dksX0_eventsIn_0 1 rfl rfl)
theorem dX0_eventsIn_2 : decode cX0_eventsIn 2 = .ok (.iconst 0, 1) := dk_3 (dk_at dksX0_eventsIn_0 2 rfl rfl)
theorem dX0_eventsIn_3 : decode cX0_eventsIn 3 = .ok (.istore_n 3, 1) := dk_62 (dk_at dksX0_eventsIn_0 3 rfl rfl)
theorem dX0_eventsIn_4 : decode cX0_eventsIn 4 = .ok (.iload_n 3, 1) := dk_29 (dk_at dksX0_eventsIn_0 4 rfl rfl)
theorem dX0_eventsIn_5 : decode cX0_eventsIn 5 = .ok (.aload_n 0, 1) := dk_42 (dk_at dksX0_eventsIn_0 5 rfl rfl)
theorem dX0_eventsIn_6 : decode cX0_eventsIn 6 = .ok (.getfield 50, 3) := dk_180 0 50 (dk_at dksX0_eventsIn_0 6 rfl rfl)
theorem dX0_eventsIn_9 : decode cX0_eventsIn 9 = .ok (.getfield 91, 3) := dk_180 0 91 (dk_at dksX0_eventsIn_0 9 rfl rfl)
theorem dX0_eventsIn_12 : decode cX0_eventsIn 12 = .ok (.if_icmp .ge 44, 3) := dk_162 0 44 (dk_at dksX0_eventsIn_0 12 rfl rfl)
theorem dX0_eventsIn_15 : decode cX0_eventsIn 15 = .ok (.aload_n 0, 1) := dk_42 (dk_at dksX0_eventsIn_0 15 rfl rfl)
theorem dX0_eventsIn_16 : decode cX0_eventsIn 16 = .ok (.getfield 50, 3) := dk_180 0 50 (dk_at dksX0_eventsIn_0 16 rfl rfl)
theorem dX0_eventsIn_19 : decode cX0_eventsIn 19 = .ok (.iload_n 3, 1) := dk_29 (dk_at dksX0_eventsIn_0 19 rfl rfl)
theorem dX0_eventsIn_20 : decode cX0_eventsIn 20 = .ok (.invokevirtual 94, 3) := dk_182 0 94 (dk_at dksX0_eventsIn_0 20 rfl rfl)
theorem dX0_eventsIn_23 : decode cX0_eventsIn 23 = .ok (.getfield 126, 3) := dk_180 0 126 (dk_at dksX0_eventsIn_1 0 rfl rfl)
theorem dX0_eventsIn_26 : decode cX0_eventsIn 26 = .ok (.iconst 3, 1) := dk_6 (dk_at dksX0_eventsIn_1 3 rfl rfl)
theorem dX0_eventsIn_27 : decode cX0_eventsIn 27 = .ok (.iaload, 1) := dk_46 (dk_at dksX0_eventsIn_1 4 rfl rfl)
theorem dX0_eventsIn_28 : decode cX0_eventsIn 28 = .ok (.iload_n 1, 1) := dk_27 (dk_at dksX0_eventsIn_1 5 rfl rfl)
theorem dX0_eventsIn_29 : decode cX0_eventsIn 29 = .ok (.if_icmp .ne 21, 3) := dk_160 0 21 (dk_at dksX0_eventsIn_1 6 rfl rfl)
theorem dX0_eventsIn_32 : decode cX0_eventsIn 32 = .ok (.iload_n 2, 1) := dk_28 (dk_at dksX0_eventsIn_1 9 rfl rfl)
theorem dX0_eventsIn_33 : decode cX0_eventsIn 33 = .ok (.iconst 1, 1) := dk_4 (dk_at dksX0_eventsIn_1 10 rfl rfl)
theorem dX0_eventsIn_34 : decode cX0_eventsIn 34 = .ok (.aload_n 0, 1) := dk_42 (dk_at dksX0_eventsIn_1 11 rfl rfl)
theorem dX0_eventsIn_35 : decode cX0_eventsIn 35 = .ok (.getfield 50, 3) := dk_180 0 50 (dk_at dksX0_eventsIn_1 12 rfl rfl)
theorem dX0_eventsIn_38 : decode cX0_eventsIn 38 = .ok (.iload_n 3, 1) := dk_29 (dk_at dksX0_eventsIn_1 15 rfl rfl)
theorem dX0_eventsIn_39 : decode cX0_eventsIn 39 = .ok (.invokevirtual 94, 3) := dk_182 0 94 (dk_at dksX0_eventsIn_1 16 rfl rfl)
theorem dX0_eventsIn_42 : decode cX0_eventsIn 42 = .ok (.getfield 126, 3) := dk_180 0 126 (dk_at dksX0_eventsIn_1 19 rfl rfl)
theorem dX0_eventsIn_45 : decode cX0_eventsIn 45 = .ok (.iconst 0, 1) := dk_3 (dk_at dksX0_eventsIn_1 22 rfl rfl)
theorem dX0_eventsIn_46 : decode cX0_eventsIn 46 = .ok (.iaload, 1) := dk_46 (dk_at dksX0_eventsIn_1 23 rfl rfl)
theorem dX0_eventsIn_47 : decode cX0_eventsIn 47 = .ok (.ishl, 1) := dk_120 (dk_at dksX0_eventsIn_2 0 rfl rfl)
theorem dX0_eventsIn_48 : decode cX0_eventsIn 48 = .ok (.ior, 1) := dk_128 (dk_at dksX0_eventsIn_2 1 rfl rfl)
theorem dX0_eventsIn_49 : decode cX0_eventsIn 49 = .ok (.istore_n 2, 1) := dk_61 (dk_at dksX0_eventsIn_2 2 rfl rfl)
theorem dX0_eventsIn_50 : decode cX0_eventsIn 50 = .ok (.iinc 3 1, 3) := dk_132 3 1 (dk_at dksX0_eventsIn_2 3 rfl rfl)
theorem dX0_eventsIn_53 : decode cX0_eventsIn 53 = .ok (.goto (-49), 3) := dk_167 255 207 (dk_at dksX0_eventsIn_2 6 rfl rfl)
theorem dX0_eventsIn_56 : decode cX0_eventsIn 56 = .ok (.iload_n 2, 1) := dk_28 (dk_at dksX0_eventsIn_2 9 rfl rfl)
theorem dX0_eventsIn_57 : decode cX0_eventsIn 57 = .ok (.ireturn, 1) := dk_172 (dk_at dksX0_eventsIn_2 10 rfl rfl)
abbrev cX0_rumour : ByteArray := prog_1_method_19_code
def yX0_rumour : MethodName := ⟨RX0, "rumour", "(II)I"⟩
def dkwX0_rumour_3 : List UInt8 := [45, 182, 0, 122, 172]
abbrev dktX0_rumour_3 : List UInt8 := dkwX0_rumour_3 ++ []
def dkwX0_rumour_2 : List UInt8 := [42, 180, 0, 50, 27, 28, 16, 10, 182, 0, 144, 87, 42, 180, 0, 50, 180, 0, 91, 4, 100, 172, 78, 42]
abbrev dktX0_rumour_2 : List UInt8 := dkwX0_rumour_2 ++ dktX0_rumour_3
def dkwX0_rumour_1 : List UInt8 := [184, 0, 114, 42, 180, 0, 50, 180, 0, 91, 16, 10, 162, 0, 7, 4, 167, 0, 4, 3, 4, 184, 0, 87]
abbrev dktX0_rumour_1 : List UInt8 := dkwX0_rumour_1 ++ dktX0_rumour_2
def dkwX0_rumour_0 : List UInt8 := [27, 133, 9, 20, 0, 129, 184, 0, 16, 153, 0, 14, 28, 184, 0, 141, 153, 0, 7, 4, 167, 0, 4, 3]
abbrev dktX0_rumour_0 : List UInt8 := dkwX0_rumour_0 ++ dktX0_rumour_1
theorem dksX0_rumour_0 : cX0_rumour.data.toList.drop 0 = dktX0_rumour_0 := by decide +kernel
theorem dksX0_rumour_1 : cX0_rumour.data.toList.drop 24 = dktX0_rumour_1 := dk_seg dksX0_rumour_0 24 rfl rfl
theorem dksX0_rumour_2 : cX0_rumour.data.toList.drop 48 = dktX0_rumour_2 := dk_seg dksX0_rumour_1 24 rfl rfl
theorem dksX0_rumour_3 : cX0_rumour.data.toList.drop 72 = dktX0_rumour_3 := dk_seg dksX0_rumour_2 24 rfl rfl
theorem dX0_rumour_0 : decode cX0_rumour 0 = .ok (.iload_n 1, 1) := dk_27 (dk_at dksX0_rumour_0 0 rfl rfl)
theorem dX0_rumour_1 : decode cX0_rumour 1 = .ok (.i2l, 1) := dk_133 (dk_at dksX0_rumour_0 1 rfl rfl)
theorem dX0_rumour_2 : decode cX0_rumour 2 = .ok (.lconst 0, 1) := dk_9 (dk_at dksX0_rumour_0 2 rfl rfl)
theorem dX0_rumour_3 : decode cX0_rumour 3 = .ok (.ldc2_w 129, 3) := dk_20 0 129 (dk_at dksX0_rumour_0 3 rfl rfl)
theorem dX0_rumour_6 : decode cX0_rumour 6 = .ok (.invokestatic 16, 3) := dk_184 0 16 (dk_at dksX0_rumour_0 6 rfl rfl)
theorem dX0_rumour_9 : decode cX0_rumour 9 = .ok (.ifCond .eq 14, 3) := dk_153 0 14 (dk_at dksX0_rumour_0 9 rfl rfl)
theorem dX0_rumour_12 : decode cX0_rumour 12 = .ok (.iload_n 2, 1) := dk_28 (dk_at dksX0_rumour_0 12 rfl rfl)
theorem dX0_rumour_13 : decode cX0_rumour 13 = .ok (.invokestatic 141, 3) := dk_184 0 141 (dk_at dksX0_rumour_0 13 rfl rfl)
theorem dX0_rumour_16 : decode cX0_rumour 16 = .ok (.ifCond .eq 7, 3) := dk_153 0 7 (dk_at dksX0_rumour_0 16 rfl rfl)
theorem dX0_rumour_19 : decode cX0_rumour 19 = .ok (.iconst 1, 1) := dk_4 (dk_at dksX0_rumour_0 19 rfl rfl)
theorem dX0_rumour_20 : decode cX0_rumour 20 = .ok (.goto 4, 3) := dk_167 0 4 (dk_at dksX0_rumour_0 20 rfl rfl)
theorem dX0_rumour_23 : decode cX0_rumour 23 = .ok (.iconst 0, 1) := dk_3 (dk_at dksX0_rumour_0 23 rfl rfl)
theorem dX0_rumour_24 : decode cX0_rumour 24 = .ok (.invokestatic 114, 3) := dk_184 0 114 (dk_at dksX0_rumour_1 0 rfl rfl)
theorem dX0_rumour_27 : decode cX0_rumour 27 = .ok (.aload_n 0, 1) := dk_42 (dk_at dksX0_rumour_1 3 rfl rfl)
theorem dX0_rumour_28 : decode cX0_rumour 28 = .ok (.getfield 50, 3) := dk_180 0 50 (dk_at dksX0_rumour_1 4 rfl rfl)
theorem dX0_rumour_31 : decode cX0_rumour 31 = .ok (.getfield 91, 3) := dk_180 0 91 (dk_at dksX0_rumour_1 7 rfl rfl)
theorem dX0_rumour_34 : decode cX0_rumour 34 = .ok (.bipush 10, 2) := dk_16 10 (dk_at dksX0_rumour_1 10 rfl rfl)
theorem dX0_rumour_36 : decode cX0_rumour 36 = .ok (.if_icmp .ge 7, 3) := dk_162 0 7 (dk_at dksX0_rumour_1 12 rfl rfl)
theorem dX0_rumour_39 : decode cX0_rumour 39 = .ok (.iconst 1, 1) := dk_4 (dk_at dksX0_rumour_1 15 rfl rfl)
theorem dX0_rumour_40 : decode cX0_rumour 40 = .ok (.goto 4, 3) := dk_167 0 4 (dk_at dksX0_rumour_1 16 rfl rfl)
theorem dX0_rumour_43 : decode cX0_rumour 43 = .ok (.iconst 0, 1) := dk_3 (dk_at dksX0_rumour_1 19 rfl rfl)
theorem dX0_rumour_44 : decode cX0_rumour 44 = .ok (.iconst 1, 1) := dk_4 (dk_at dksX0_rumour_1 20 rfl rfl)
theorem dX0_rumour_45 : decode cX0_rumour 45 = .ok (.invokestatic 87, 3) := dk_184 0 87 (dk_at dksX0_rumour_1 21 rfl rfl)
theorem dX0_rumour_48 : decode cX0_rumour 48 = .ok (.aload_n 0, 1) := dk_42 (dk_at dksX0_rumour_2 0 rfl rfl)
theorem dX0_rumour_49 : decode cX0_rumour 49 = .ok (.getfield 50, 3) := dk_180 0 50 (dk_at dksX0_rumour_2 1 rfl rfl)
theorem dX0_rumour_52 : decode cX0_rumour 52 = .ok (.iload_n 1, 1) := dk_27 (dk_at dksX0_rumour_2 4 rfl rfl)
theorem dX0_rumour_53 : decode cX0_rumour 53 = .ok (.iload_n 2, 1) := dk_28 (dk_at dksX0_rumour_2 5 rfl rfl)
theorem dX0_rumour_54 : decode cX0_rumour 54 = .ok (.bipush 10, 2) := dk_16 10 (dk_at dksX0_rumour_2 6 rfl rfl)
theorem dX0_rumour_56 : decode cX0_rumour 56 = .ok (.invokevirtual 144, 3) := dk_182 0 144 (dk_at dksX0_rumour_2 8 rfl rfl)
theorem dX0_rumour_59 : decode cX0_rumour 59 = .ok (.pop, 1) := dk_87 (dk_at dksX0_rumour_2 11 rfl rfl)
theorem dX0_rumour_60 : decode cX0_rumour 60 = .ok (.aload_n 0, 1) := dk_42 (dk_at dksX0_rumour_2 12 rfl rfl)
theorem dX0_rumour_61 : decode cX0_rumour 61 = .ok (.getfield 50, 3) := dk_180 0 50 (dk_at dksX0_rumour_2 13 rfl rfl)
theorem dX0_rumour_64 : decode cX0_rumour 64 = .ok (.getfield 91, 3) := dk_180 0 91 (dk_at dksX0_rumour_2 16 rfl rfl)
theorem dX0_rumour_67 : decode cX0_rumour 67 = .ok (.iconst 1, 1) := dk_4 (dk_at dksX0_rumour_2 19 rfl rfl)
theorem dX0_rumour_68 : decode cX0_rumour 68 = .ok (.isub, 1) := dk_100 (dk_at dksX0_rumour_2 20 rfl rfl)
theorem dX0_rumour_69 : decode cX0_rumour 69 = .ok (.ireturn, 1) := dk_172 (dk_at dksX0_rumour_2 21 rfl rfl)
theorem dX0_rumour_70 : decode cX0_rumour 70 = .ok (.astore_n 3, 1) := dk_78 (dk_at dksX0_rumour_2 22 rfl rfl)
theorem dX0_rumour_71 : decode cX0_rumour 71 = .ok (.aload_n 0, 1) := dk_42 (dk_at dksX0_rumour_2 23 rfl rfl)
theorem dX0_rumour_72 : decode cX0_rumour 72 = .ok (.aload_n 3, 1) := dk_45 (dk_at dksX0_rumour_3 0 rfl rfl)
theorem dX0_rumour_73 : decode cX0_rumour 73 = .ok (.invokevirtual 122, 3) := dk_182 0 122 (dk_at dksX0_rumour_3 1 rfl rfl)
theorem dX0_rumour_76 : decode cX0_rumour 76 = .ok (.ireturn, 1) := dk_172 (dk_at dksX0_rumour_3 4 rfl rfl)
abbrev cX0_isEvent : ByteArray := prog_1_method_6_code
def yX0_isEvent : MethodName := ⟨RX0, "isEvent", "(I)Z"⟩
def dkwX0_isEvent_0 : List UInt8 := [26, 133, 9, 20, 0, 20, 184, 0, 16, 172]
abbrev dktX0_isEvent_0 : List UInt8 := dkwX0_isEvent_0 ++ []
theorem dksX0_isEvent_0 : cX0_isEvent.data.toList.drop 0 = dktX0_isEvent_0 := by decide +kernel
theorem dX0_isEvent_0 : decode cX0_isEvent 0 = .ok (.iload_n 0, 1) := dk_26 (dk_at dksX0_isEvent_0 0 rfl rfl)
theorem dX0_isEvent_1 : decode cX0_isEvent 1 = .ok (.i2l, 1) := dk_133 (dk_at dksX0_isEvent_0 1 rfl rfl)
theorem dX0_isEvent_2 : decode cX0_isEvent 2 = .ok (.lconst 0, 1) := dk_9 (dk_at dksX0_isEvent_0 2 rfl rfl)
theorem dX0_isEvent_3 : decode cX0_isEvent 3 = .ok (.ldc2_w 20, 3) := dk_20 0 20 (dk_at dksX0_isEvent_0 3 rfl rfl)
theorem dX0_isEvent_6 : decode cX0_isEvent 6 = .ok (.invokestatic 16, 3) := dk_184 0 16 (dk_at dksX0_isEvent_0 6 rfl rfl)
theorem dX0_isEvent_9 : decode cX0_isEvent 9 = .ok (.ireturn, 1) := dk_172 (dk_at dksX0_isEvent_0 9 rfl rfl)
abbrev cX0_rumourFor : ByteArray := prog_1_method_9_code
def yX0_rumourFor : MethodName := ⟨RX0, "rumourFor", "(I)LRumourBeds$Rumour;"⟩
def dkwX0_rumourFor_3 : List UInt8 := [187, 0, 35, 89, 183, 0, 37, 176, 187, 0, 38, 89, 183, 0, 40, 176, 187, 0, 41, 89, 183, 0, 43, 176]
abbrev dktX0_rumourFor_3 : List UInt8 := dkwX0_rumourFor_3 ++ []
def dkwX0_rumourFor_2 : List UInt8 := [187, 0, 26, 89, 183, 0, 28, 176, 187, 0, 29, 89, 183, 0, 31, 176, 187, 0, 32, 89, 183, 0, 34, 176]
abbrev dktX0_rumourFor_2 : List UInt8 := dkwX0_rumourFor_2 ++ dktX0_rumourFor_3
def dkwX0_rumourFor_1 : List UInt8 := [170, 0, 0, 0, 0, 0, 75, 0, 0, 0, 0, 0, 0, 0, 4, 0, 0, 0, 35, 0, 0, 0, 43, 0, 0, 0, 51, 0, 0, 0, 59, 0, 0, 0, 67]
abbrev dktX0_rumourFor_1 : List UInt8 := dkwX0_rumourFor_1 ++ dktX0_rumourFor_2
def dkwX0_rumourFor_0 : List UInt8 := [26]
abbrev dktX0_rumourFor_0 : List UInt8 := dkwX0_rumourFor_0 ++ dktX0_rumourFor_1
theorem dksX0_rumourFor_0 : cX0_rumourFor.data.toList.drop 0 = dktX0_rumourFor_0 := by decide +kernel
theorem dksX0_rumourFor_1 : cX0_rumourFor.data.toList.drop 1 = dktX0_rumourFor_1 := dk_seg dksX0_rumourFor_0 1 rfl rfl
theorem dksX0_rumourFor_2 : cX0_rumourFor.data.toList.drop 36 = dktX0_rumourFor_2 := dk_seg dksX0_rumourFor_1 35 rfl rfl
theorem dksX0_rumourFor_3 : cX0_rumourFor.data.toList.drop 60 = dktX0_rumourFor_3 := dk_seg dksX0_rumourFor_2 24 rfl rfl
theorem dX0_rumourFor_0 : decode cX0_rumourFor 0 = .ok (.iload_n 0, 1) := dk_26 (dk_at dksX0_rumourFor_0 0 rfl rfl)
theorem dX0_rumourFor_1 : decode cX0_rumourFor 1 = .ok (.tableswitch 75 0 4 #[35, 43, 51, 59, 67], 35) := by decide +kernel
theorem dX0_rumourFor_36 : decode cX0_rumourFor 36 = .ok (.new 26, 3) := dk_187 0 26 (dk_at dksX0_rumourFor_2 0 rfl rfl)
theorem dX0_rumourFor_39 : decode cX0_rumourFor 39 = .ok (.dup, 1) := dk_89 (dk_at dksX0_rumourFor_2 3 rfl rfl)
theorem dX0_rumourFor_40 : decode cX0_rumourFor 40 = .ok (.invokespecial 28, 3) := dk_183 0 28 (dk_at dksX0_rumourFor_2 4 rfl rfl)
theorem dX0_rumourFor_43 : decode cX0_rumourFor 43 = .ok (.areturn, 1) := dk_176 (dk_at dksX0_rumourFor_2 7 rfl rfl)
theorem dX0_rumourFor_44 : decode cX0_rumourFor 44 = .ok (.new 29, 3) := dk_187 0 29 (dk_at dksX0_rumourFor_2 8 rfl rfl)
theorem dX0_rumourFor_47 : decode cX0_rumourFor 47 = .ok (.dup, 1) := dk_89 (dk_at dksX0_rumourFor_2 11 rfl rfl)
theorem dX0_rumourFor_48 : decode cX0_rumourFor 48 = .ok (.invokespecial 31, 3) := dk_183 0 31 (dk_at dksX0_rumourFor_2 12 rfl rfl)
theorem dX0_rumourFor_51 : decode cX0_rumourFor 51 = .ok (.areturn, 1) := dk_176 (dk_at dksX0_rumourFor_2 15 rfl rfl)
theorem dX0_rumourFor_52 : decode cX0_rumourFor 52 = .ok (.new 32, 3) := dk_187 0 32 (dk_at dksX0_rumourFor_2 16 rfl rfl)
theorem dX0_rumourFor_55 : decode cX0_rumourFor 55 = .ok (.dup, 1) := dk_89 (dk_at dksX0_rumourFor_2 19 rfl rfl)
theorem dX0_rumourFor_56 : decode cX0_rumourFor 56 = .ok (.invokespecial 34, 3) := dk_183 0 34 (dk_at dksX0_rumourFor_2 20 rfl rfl)
theorem dX0_rumourFor_59 : decode cX0_rumourFor 59 = .ok (.areturn, 1) := dk_176 (dk_at dksX0_rumourFor_2 23 rfl rfl)
theorem dX0_rumourFor_60 : decode cX0_rumourFor 60 = .ok (.new 35, 3) := dk_187 0 35 (dk_at dksX0_rumourFor_3 0 rfl rfl)
theorem dX0_rumourFor_63 : decode cX0_rumourFor 63 = .ok (.dup, 1) := dk_89 (dk_at dksX0_rumourFor_3 3 rfl rfl)
theorem dX0_rumourFor_64 : decode cX0_rumourFor 64 = .ok (.invokespecial 37, 3) := dk_183 0 37 (dk_at dksX0_rumourFor_3 4 rfl rfl)
theorem dX0_rumourFor_67 : decode cX0_rumourFor 67 = .ok (.areturn, 1) := dk_176 (dk_at dksX0_rumourFor_3 7 rfl rfl)
theorem dX0_rumourFor_68 : decode cX0_rumourFor 68 = .ok (.new 38, 3) := dk_187 0 38 (dk_at dksX0_rumourFor_3 8 rfl rfl)
theorem dX0_rumourFor_71 : decode cX0_rumourFor 71 = .ok (.dup, 1) := dk_89 (dk_at dksX0_rumourFor_3 11 rfl rfl)
theorem dX0_rumourFor_72 : decode cX0_rumourFor 72 = .ok (.invokespecial 40, 3) := dk_183 0 40 (dk_at dksX0_rumourFor_3 12 rfl rfl)
theorem dX0_rumourFor_75 : decode cX0_rumourFor 75 = .ok (.areturn, 1) := dk_176 (dk_at dksX0_rumourFor_3 15 rfl rfl)
theorem dX0_rumourFor_76 : decode cX0_rumourFor 76 = .ok (.new 41, 3) := dk_187 0 41 (dk_at dksX0_rumourFor_3 16 rfl rfl)
theorem dX0_rumourFor_79 : decode cX0_rumourFor 79 = .ok (.dup, 1) := dk_89 (dk_at dksX0_rumourFor_3 19 rfl rfl)
theorem dX0_rumourFor_80 : decode cX0_rumourFor 80 = .ok (.invokespecial 43, 3) := dk_183 0 43 (dk_at dksX0_rumourFor_3 20 rfl rfl)
theorem dX0_rumourFor_83 : decode cX0_rumourFor 83 = .ok (.areturn, 1) := dk_176 (dk_at dksX0_rumourFor_3 23 rfl rfl)
abbrev cX0_of : ByteArray := prog_1_method_20_code
def yX0_of : MethodName := ⟨RX0, "of", "(II)I"⟩
def dkwX0_of_3 : List UInt8 := [45, 182, 0, 160, 172, 78, 42, 45, 182, 0, 122, 172]
abbrev dktX0_of_3 : List UInt8 := dkwX0_of_3 ++ []
def dkwX0_of_2 : List UInt8 := [8, 160, 0, 10, 45, 182, 0, 154, 167, 0, 20, 28, 16, 6, 160, 0, 10, 45, 182, 0, 157, 167, 0, 7]
abbrev dktX0_of_2 : List UInt8 := dkwX0_of_2 ++ dktX0_of_3
def dkwX0_of_1 : List UInt8 := [162, 0, 12, 45, 180, 0, 126, 28, 4, 100, 46, 172, 28, 154, 0, 10, 45, 182, 0, 151, 167, 0, 32, 28]
abbrev dktX0_of_1 : List UInt8 := dkwX0_of_1 ++ dktX0_of_2
def dkwX0_of_0 : List UInt8 := [42, 27, 182, 0, 148, 78, 28, 133, 9, 20, 0, 14, 184, 0, 16, 184, 0, 114, 28, 158, 0, 17, 28, 8]
abbrev dktX0_of_0 : List UInt8 := dkwX0_of_0 ++ dktX0_of_1
theorem dksX0_of_0 : cX0_of.data.toList.drop 0 = dktX0_of_0 := by decide +kernel
theorem dksX0_of_1 : cX0_of.data.toList.drop 24 = dktX0_of_1 := dk_seg dksX0_of_0 24 rfl rfl
theorem dksX0_of_2 : cX0_of.data.toList.drop 48 = dktX0_of_2 := dk_seg dksX0_of_1 24 rfl rfl
theorem dksX0_of_3 : cX0_of.data.toList.drop 72 = dktX0_of_3 := dk_seg dksX0_of_2 24 rfl rfl
theorem dX0_of_0 : decode cX0_of 0 = .ok (.aload_n 0, 1) := dk_42 (dk_at dksX0_of_0 0 rfl rfl)
theorem dX0_of_1 : decode cX0_of 1 = .ok (.iload_n 1, 1) := dk_27 (dk_at dksX0_of_0 1 rfl rfl)
theorem dX0_of_2 : decode cX0_of 2 = .ok (.invokevirtual 148, 3) := dk_182 0 148 (dk_at dksX0_of_0 2 rfl rfl)
theorem dX0_of_5 : decode cX0_of 5 = .ok (.astore_n 3, 1) := dk_78 (dk_at dksX0_of_0 5 rfl rfl)
theorem dX0_of_6 : decode cX0_of 6 = .ok (.iload_n 2, 1) := dk_28 (dk_at dksX0_of_0 6 rfl rfl)
theorem dX0_of_7 : decode cX0_of 7 = .ok (.i2l, 1) := dk_133 (dk_at dksX0_of_0 7 rfl rfl)
theorem dX0_of_8 : decode cX0_of 8 = .ok (.lconst 0, 1) := dk_9 (dk_at dksX0_of_0 8 rfl rfl)
theorem dX0_of_9 : decode cX0_of 9 = .ok (.ldc2_w 14, 3) := dk_20 0 14 (dk_at dksX0_of_0 9 rfl rfl)
theorem dX0_of_12 : decode cX0_of 12 = .ok (.invokestatic 16, 3) := dk_184 0 16 (dk_at dksX0_of_0 12 rfl rfl)
theorem dX0_of_15 : decode cX0_of 15 = .ok (.invokestatic 114, 3) := dk_184 0 114 (dk_at dksX0_of_0 15 rfl rfl)
theorem dX0_of_18 : decode cX0_of 18 = .ok (.iload_n 2, 1) := dk_28 (dk_at dksX0_of_0 18 rfl rfl)
theorem dX0_of_19 : decode cX0_of 19 = .ok (.ifCond .le 17, 3) := dk_158 0 17 (dk_at dksX0_of_0 19 rfl rfl)
theorem dX0_of_22 : decode cX0_of 22 = .ok (.iload_n 2, 1) := dk_28 (dk_at dksX0_of_0 22 rfl rfl)
theorem dX0_of_23 : decode cX0_of 23 = .ok (.iconst 5, 1) := dk_8 (dk_at dksX0_of_0 23 rfl rfl)
theorem dX0_of_24 : decode cX0_of 24 = .ok (.if_icmp .ge 12, 3) := dk_162 0 12 (dk_at dksX0_of_1 0 rfl rfl)
theorem dX0_of_27 : decode cX0_of 27 = .ok (.aload_n 3, 1) := dk_45 (dk_at dksX0_of_1 3 rfl rfl)
theorem dX0_of_28 : decode cX0_of 28 = .ok (.getfield 126, 3) := dk_180 0 126 (dk_at dksX0_of_1 4 rfl rfl)
theorem dX0_of_31 : decode cX0_of 31 = .ok (.iload_n 2, 1) := dk_28 (dk_at dksX0_of_1 7 rfl rfl)
theorem dX0_of_32 : decode cX0_of 32 = .ok (.iconst 1, 1) := dk_4 (dk_at dksX0_of_1 8 rfl rfl)
theorem dX0_of_33 : decode cX0_of 33 = .ok (.isub, 1) := dk_100 (dk_at dksX0_of_1 9 rfl rfl)
theorem dX0_of_34 : decode cX0_of 34 = .ok (.iaload, 1) := dk_46 (dk_at dksX0_of_1 10 rfl rfl)
theorem dX0_of_35 : decode cX0_of 35 = .ok (.ireturn, 1) := dk_172 (dk_at dksX0_of_1 11 rfl rfl)
theorem dX0_of_36 : decode cX0_of 36 = .ok (.iload_n 2, 1) := dk_28 (dk_at dksX0_of_1 12 rfl rfl)
theorem dX0_of_37 : decode cX0_of 37 = .ok (.ifCond .ne 10, 3) := dk_154 0 10 (dk_at dksX0_of_1 13 rfl rfl)
theorem dX0_of_40 : decode cX0_of 40 = .ok (.aload_n 3, 1) := dk_45 (dk_at dksX0_of_1 16 rfl rfl)
theorem dX0_of_41 : decode cX0_of 41 = .ok (.invokevirtual 151, 3) := dk_182 0 151 (dk_at dksX0_of_1 17 rfl rfl)
theorem dX0_of_44 : decode cX0_of 44 = .ok (.goto 32, 3) := dk_167 0 32 (dk_at dksX0_of_1 20 rfl rfl)
theorem dX0_of_47 : decode cX0_of 47 = .ok (.iload_n 2, 1) := dk_28 (dk_at dksX0_of_1 23 rfl rfl)
theorem dX0_of_48 : decode cX0_of 48 = .ok (.iconst 5, 1) := dk_8 (dk_at dksX0_of_2 0 rfl rfl)
theorem dX0_of_49 : decode cX0_of 49 = .ok (.if_icmp .ne 10, 3) := dk_160 0 10 (dk_at dksX0_of_2 1 rfl rfl)
theorem dX0_of_52 : decode cX0_of 52 = .ok (.aload_n 3, 1) := dk_45 (dk_at dksX0_of_2 4 rfl rfl)
theorem dX0_of_53 : decode cX0_of 53 = .ok (.invokevirtual 154, 3) := dk_182 0 154 (dk_at dksX0_of_2 5 rfl rfl)
theorem dX0_of_56 : decode cX0_of 56 = .ok (.goto 20, 3) := dk_167 0 20 (dk_at dksX0_of_2 8 rfl rfl)
theorem dX0_of_59 : decode cX0_of 59 = .ok (.iload_n 2, 1) := dk_28 (dk_at dksX0_of_2 11 rfl rfl)
theorem dX0_of_60 : decode cX0_of 60 = .ok (.bipush 6, 2) := dk_16 6 (dk_at dksX0_of_2 12 rfl rfl)
theorem dX0_of_62 : decode cX0_of 62 = .ok (.if_icmp .ne 10, 3) := dk_160 0 10 (dk_at dksX0_of_2 14 rfl rfl)
theorem dX0_of_65 : decode cX0_of 65 = .ok (.aload_n 3, 1) := dk_45 (dk_at dksX0_of_2 17 rfl rfl)
theorem dX0_of_66 : decode cX0_of 66 = .ok (.invokevirtual 157, 3) := dk_182 0 157 (dk_at dksX0_of_2 18 rfl rfl)
theorem dX0_of_69 : decode cX0_of 69 = .ok (.goto 7, 3) := dk_167 0 7 (dk_at dksX0_of_2 21 rfl rfl)
theorem dX0_of_72 : decode cX0_of 72 = .ok (.aload_n 3, 1) := dk_45 (dk_at dksX0_of_3 0 rfl rfl)
theorem dX0_of_73 : decode cX0_of 73 = .ok (.invokevirtual 160, 3) := dk_182 0 160 (dk_at dksX0_of_3 1 rfl rfl)
theorem dX0_of_76 : decode cX0_of 76 = .ok (.ireturn, 1) := dk_172 (dk_at dksX0_of_3 4 rfl rfl)
theorem dX0_of_77 : decode cX0_of 77 = .ok (.astore_n 3, 1) := dk_78 (dk_at dksX0_of_3 5 rfl rfl)
theorem dX0_of_78 : decode cX0_of 78 = .ok (.aload_n 0, 1) := dk_42 (dk_at dksX0_of_3 6 rfl rfl)
theorem dX0_of_79 : decode cX0_of 79 = .ok (.aload_n 3, 1) := dk_45 (dk_at dksX0_of_3 7 rfl rfl)
theorem dX0_of_80 : decode cX0_of 80 = .ok (.invokevirtual 122, 3) := dk_182 0 122 (dk_at dksX0_of_3 8 rfl rfl)
theorem dX0_of_83 : decode cX0_of 83 = .ok (.ireturn, 1) := dk_172 (dk_at dksX0_of_3 11 rfl rfl)
abbrev cX0_rumourAt : ByteArray := prog_1_method_13_code
def yX0_rumourAt : MethodName := ⟨RX0, "rumourAt", "(I)LRumourBeds$Rumour;"⟩
def dkwX0_rumourAt_1 : List UInt8 := [27, 182, 0, 94, 176]
abbrev dktX0_rumourAt_1 : List UInt8 := dkwX0_rumourAt_1 ++ []
def dkwX0_rumourAt_0 : List UInt8 := [27, 133, 9, 42, 180, 0, 50, 180, 0, 91, 4, 100, 133, 184, 0, 16, 3, 184, 0, 87, 42, 180, 0, 50]
abbrev dktX0_rumourAt_0 : List UInt8 := dkwX0_rumourAt_0 ++ dktX0_rumourAt_1
theorem dksX0_rumourAt_0 : cX0_rumourAt.data.toList.drop 0 = dktX0_rumourAt_0 := by decide +kernel
theorem dksX0_rumourAt_1 : cX0_rumourAt.data.toList.drop 24 = dktX0_rumourAt_1 := dk_seg dksX0_rumourAt_0 24 rfl rfl
theorem dX0_rumourAt_0 : decode cX0_rumourAt 0 = .ok (.iload_n 1, 1) := dk_27 (dk_at dksX0_rumourAt_0 0 rfl rfl)
theorem dX0_rumourAt_1 : decode cX0_rumourAt 1 = .ok (.i2l, 1) := dk_133 (dk_at dksX0_rumourAt_0 1 rfl rfl)
theorem dX0_rumourAt_2 : decode cX0_rumourAt 2 = .ok (.lconst 0, 1) := dk_9 (dk_at dksX0_rumourAt_0 2 rfl rfl)
theorem dX0_rumourAt_3 : decode cX0_rumourAt 3 = .ok (.aload_n 0, 1) := dk_42 (dk_at dksX0_rumourAt_0 3 rfl rfl)
theorem dX0_rumourAt_4 : decode cX0_rumourAt 4 = .ok (.getfield 50, 3) := dk_180 0 50 (dk_at dksX0_rumourAt_0 4 rfl rfl)
theorem dX0_rumourAt_7 : decode cX0_rumourAt 7 = .ok (.getfield 91, 3) := dk_180 0 91 (dk_at dksX0_rumourAt_0 7 rfl rfl)
theorem dX0_rumourAt_10 : decode cX0_rumourAt 10 = .ok (.iconst 1, 1) := dk_4 (dk_at dksX0_rumourAt_0 10 rfl rfl)
theorem dX0_rumourAt_11 : decode cX0_rumourAt 11 = .ok (.isub, 1) := dk_100 (dk_at dksX0_rumourAt_0 11 rfl rfl)
theorem dX0_rumourAt_12 : decode cX0_rumourAt 12 = .ok (.i2l, 1) := dk_133 (dk_at dksX0_rumourAt_0 12 rfl rfl)
theorem dX0_rumourAt_13 : decode cX0_rumourAt 13 = .ok (.invokestatic 16, 3) := dk_184 0 16 (dk_at dksX0_rumourAt_0 13 rfl rfl)
theorem dX0_rumourAt_16 : decode cX0_rumourAt 16 = .ok (.iconst 0, 1) := dk_3 (dk_at dksX0_rumourAt_0 16 rfl rfl)
theorem dX0_rumourAt_17 : decode cX0_rumourAt 17 = .ok (.invokestatic 87, 3) := dk_184 0 87 (dk_at dksX0_rumourAt_0 17 rfl rfl)
theorem dX0_rumourAt_20 : decode cX0_rumourAt 20 = .ok (.aload_n 0, 1) := dk_42 (dk_at dksX0_rumourAt_0 20 rfl rfl)
theorem dX0_rumourAt_21 : decode cX0_rumourAt 21 = .ok (.getfield 50, 3) := dk_180 0 50 (dk_at dksX0_rumourAt_0 21 rfl rfl)
theorem dX0_rumourAt_24 : decode cX0_rumourAt 24 = .ok (.iload_n 1, 1) := dk_27 (dk_at dksX0_rumourAt_1 0 rfl rfl)
theorem dX0_rumourAt_25 : decode cX0_rumourAt 25 = .ok (.invokevirtual 94, 3) := dk_182 0 94 (dk_at dksX0_rumourAt_1 1 rfl rfl)
theorem dX0_rumourAt_28 : decode cX0_rumourAt 28 = .ok (.areturn, 1) := dk_176 (dk_at dksX0_rumourAt_1 4 rfl rfl)
abbrev cX0_set : ByteArray := prog_1_method_21_code
def yX0_set : MethodName := ⟨RX0, "set", "(III)I"⟩
def dkwX0_set_3 : List UInt8 := [54, 5, 25, 4, 180, 0, 126, 28, 4, 100, 29, 79, 21, 5, 172, 58, 4, 42, 25, 4, 182, 0, 122, 172]
abbrev dktX0_set_3 : List UInt8 := dkwX0_set_3 ++ []
def dkwX0_set_2 : List UInt8 := [184, 0, 16, 153, 0, 7, 4, 167, 0, 4, 3, 184, 0, 114, 25, 4, 180, 0, 126, 28, 4, 100, 46]
abbrev dktX0_set_2 : List UInt8 := dkwX0_set_2 ++ dktX0_set_3
def dkwX0_set_1 : List UInt8 := [29, 133, 9, 20, 0, 163, 184, 0, 16, 167, 0, 25, 28, 6, 160, 0, 19, 29, 133, 9, 20, 0, 110]
abbrev dktX0_set_1 : List UInt8 := dkwX0_set_1 ++ dktX0_set_2
def dkwX0_set_0 : List UInt8 := [42, 27, 182, 0, 148, 58, 4, 28, 4, 160, 0, 10, 29, 184, 0, 141, 167, 0, 42, 28, 5, 160, 0, 15]
abbrev dktX0_set_0 : List UInt8 := dkwX0_set_0 ++ dktX0_set_1
theorem dksX0_set_0 : cX0_set.data.toList.drop 0 = dktX0_set_0 := by decide +kernel
theorem dksX0_set_1 : cX0_set.data.toList.drop 24 = dktX0_set_1 := dk_seg dksX0_set_0 24 rfl rfl
theorem dksX0_set_2 : cX0_set.data.toList.drop 47 = dktX0_set_2 := dk_seg dksX0_set_1 23 rfl rfl
theorem dksX0_set_3 : cX0_set.data.toList.drop 70 = dktX0_set_3 := dk_seg dksX0_set_2 23 rfl rfl
theorem dX0_set_0 : decode cX0_set 0 = .ok (.aload_n 0, 1) := dk_42 (dk_at dksX0_set_0 0 rfl rfl)
theorem dX0_set_1 : decode cX0_set 1 = .ok (.iload_n 1, 1) := dk_27 (dk_at dksX0_set_0 1 rfl rfl)
theorem dX0_set_2 : decode cX0_set 2 = .ok (.invokevirtual 148, 3) := dk_182 0 148 (dk_at dksX0_set_0 2 rfl rfl)
theorem dX0_set_5 : decode cX0_set 5 = .ok (.astore 4, 2) := dk_58 4 (dk_at dksX0_set_0 5 rfl rfl)
theorem dX0_set_7 : decode cX0_set 7 = .ok (.iload_n 2, 1) := dk_28 (dk_at dksX0_set_0 7 rfl rfl)
theorem dX0_set_8 : decode cX0_set 8 = .ok (.iconst 1, 1) := dk_4 (dk_at dksX0_set_0 8 rfl rfl)
theorem dX0_set_9 : decode cX0_set 9 = .ok (.if_icmp .ne 10, 3) := dk_160 0 10 (dk_at dksX0_set_0 9 rfl rfl)
theorem dX0_set_12 : decode cX0_set 12 = .ok (.iload_n 3, 1) := dk_29 (dk_at dksX0_set_0 12 rfl rfl)
theorem dX0_set_13 : decode cX0_set 13 = .ok (.invokestatic 141, 3) := dk_184 0 141 (dk_at dksX0_set_0 13 rfl rfl)
theorem dX0_set_16 : decode cX0_set 16 = .ok (.goto 42, 3) := dk_167 0 42 (dk_at dksX0_set_0 16 rfl rfl)
theorem dX0_set_19 : decode cX0_set 19 = .ok (.iload_n 2, 1) := dk_28 (dk_at dksX0_set_0 19 rfl rfl)
theorem dX0_set_20 : decode cX0_set 20 = .ok (.iconst 2, 1) := dk_5 (dk_at dksX0_set_0 20 rfl rfl)
theorem dX0_set_21 : decode cX0_set 21 = .ok (.if_icmp .ne 15, 3) := dk_160 0 15 (dk_at dksX0_set_0 21 rfl rfl)
theorem dX0_set_24 : decode cX0_set 24 = .ok (.iload_n 3, 1) := dk_29 (dk_at dksX0_set_1 0 rfl rfl)
theorem dX0_set_25 : decode cX0_set 25 = .ok (.i2l, 1) := dk_133 (dk_at dksX0_set_1 1 rfl rfl)
theorem dX0_set_26 : decode cX0_set 26 = .ok (.lconst 0, 1) := dk_9 (dk_at dksX0_set_1 2 rfl rfl)
theorem dX0_set_27 : decode cX0_set 27 = .ok (.ldc2_w 163, 3) := dk_20 0 163 (dk_at dksX0_set_1 3 rfl rfl)
theorem dX0_set_30 : decode cX0_set 30 = .ok (.invokestatic 16, 3) := dk_184 0 16 (dk_at dksX0_set_1 6 rfl rfl)
theorem dX0_set_33 : decode cX0_set 33 = .ok (.goto 25, 3) := dk_167 0 25 (dk_at dksX0_set_1 9 rfl rfl)
theorem dX0_set_36 : decode cX0_set 36 = .ok (.iload_n 2, 1) := dk_28 (dk_at dksX0_set_1 12 rfl rfl)
theorem dX0_set_37 : decode cX0_set 37 = .ok (.iconst 3, 1) := dk_6 (dk_at dksX0_set_1 13 rfl rfl)
theorem dX0_set_38 : decode cX0_set 38 = .ok (.if_icmp .ne 19, 3) := dk_160 0 19 (dk_at dksX0_set_1 14 rfl rfl)
theorem dX0_set_41 : decode cX0_set 41 = .ok (.iload_n 3, 1) := dk_29 (dk_at dksX0_set_1 17 rfl rfl)
theorem dX0_set_42 : decode cX0_set 42 = .ok (.i2l, 1) := dk_133 (dk_at dksX0_set_1 18 rfl rfl)
theorem dX0_set_43 : decode cX0_set 43 = .ok (.lconst 0, 1) := dk_9 (dk_at dksX0_set_1 19 rfl rfl)
theorem dX0_set_44 : decode cX0_set 44 = .ok (.ldc2_w 110, 3) := dk_20 0 110 (dk_at dksX0_set_1 20 rfl rfl)
theorem dX0_set_47 : decode cX0_set 47 = .ok (.invokestatic 16, 3) := dk_184 0 16 (dk_at dksX0_set_2 0 rfl rfl)
theorem dX0_set_50 : decode cX0_set 50 = .ok (.ifCond .eq 7, 3) := dk_153 0 7 (dk_at dksX0_set_2 3 rfl rfl)
theorem dX0_set_53 : decode cX0_set 53 = .ok (.iconst 1, 1) := dk_4 (dk_at dksX0_set_2 6 rfl rfl)
theorem dX0_set_54 : decode cX0_set 54 = .ok (.goto 4, 3) := dk_167 0 4 (dk_at dksX0_set_2 7 rfl rfl)
theorem dX0_set_57 : decode cX0_set 57 = .ok (.iconst 0, 1) := dk_3 (dk_at dksX0_set_2 10 rfl rfl)
theorem dX0_set_58 : decode cX0_set 58 = .ok (.invokestatic 114, 3) := dk_184 0 114 (dk_at dksX0_set_2 11 rfl rfl)
theorem dX0_set_61 : decode cX0_set 61 = .ok (.aload 4, 2) := dk_25 4 (dk_at dksX0_set_2 14 rfl rfl)
theorem dX0_set_63 : decode cX0_set 63 = .ok (.getfield 126, 3) := dk_180 0 126 (dk_at dksX0_set_2 16 rfl rfl)
theorem dX0_set_66 : decode cX0_set 66 = .ok (.iload_n 2, 1) := dk_28 (dk_at dksX0_set_2 19 rfl rfl)
theorem dX0_set_67 : decode cX0_set 67 = .ok (.iconst 1, 1) := dk_4 (dk_at dksX0_set_2 20 rfl rfl)
theorem dX0_set_68 : decode cX0_set 68 = .ok (.isub, 1) := dk_100 (dk_at dksX0_set_2 21 rfl rfl)
theorem dX0_set_69 : decode cX0_set 69 = .ok (.iaload, 1) := dk_46 (dk_at dksX0_set_2 22 rfl rfl)
theorem dX0_set_70 : decode cX0_set 70 = .ok (.istore 5, 2) := dk_54 5 (dk_at dksX0_set_3 0 rfl rfl)
theorem dX0_set_72 : decode cX0_set 72 = .ok (.aload 4, 2) := dk_25 4 (dk_at dksX0_set_3 2 rfl rfl)
theorem dX0_set_74 : decode cX0_set 74 = .ok (.getfield 126, 3) := dk_180 0 126 (dk_at dksX0_set_3 4 rfl rfl)
theorem dX0_set_77 : decode cX0_set 77 = .ok (.iload_n 2, 1) := dk_28 (dk_at dksX0_set_3 7 rfl rfl)
theorem dX0_set_78 : decode cX0_set 78 = .ok (.iconst 1, 1) := dk_4 (dk_at dksX0_set_3 8 rfl rfl)
theorem dX0_set_79 : decode cX0_set 79 = .ok (.isub, 1) := dk_100 (dk_at dksX0_set_3 9 rfl rfl)
theorem dX0_set_80 : decode cX0_set 80 = .ok (.iload_n 3, 1) := dk_29 (dk_at dksX0_set_3 10 rfl rfl)
theorem dX0_set_81 : decode cX0_set 81 = .ok (.iastore, 1) := dk_79 (dk_at dksX0_set_3 11 rfl rfl)
theorem dX0_set_82 : decode cX0_set 82 = .ok (.iload 5, 2) := dk_21 5 (dk_at dksX0_set_3 12 rfl rfl)
theorem dX0_set_84 : decode cX0_set 84 = .ok (.ireturn, 1) := dk_172 (dk_at dksX0_set_3 14 rfl rfl)
theorem dX0_set_85 : decode cX0_set 85 = .ok (.astore 4, 2) := dk_58 4 (dk_at dksX0_set_3 15 rfl rfl)
theorem dX0_set_87 : decode cX0_set 87 = .ok (.aload_n 0, 1) := dk_42 (dk_at dksX0_set_3 17 rfl rfl)
theorem dX0_set_88 : decode cX0_set 88 = .ok (.aload 4, 2) := dk_25 4 (dk_at dksX0_set_3 18 rfl rfl)
theorem dX0_set_90 : decode cX0_set 90 = .ok (.invokevirtual 122, 3) := dk_182 0 122 (dk_at dksX0_set_3 20 rfl rfl)
theorem dX0_set_93 : decode cX0_set 93 = .ok (.ireturn, 1) := dk_172 (dk_at dksX0_set_3 23 rfl rfl)
abbrev cX0_turn : ByteArray := prog_1_method_22_code
def yX0_turn : MethodName := ⟨RX0, "turn", "(II)I"⟩
def dkwX0_turn_1 : List UInt8 := [180, 0, 50, 27, 28, 182, 0, 165, 29, 172, 78, 42, 45, 182, 0, 122, 172]
abbrev dktX0_turn_1 : List UInt8 := dkwX0_turn_1 ++ []
def dkwX0_turn_0 : List UInt8 := [42, 27, 182, 0, 148, 182, 0, 151, 62, 28, 133, 9, 20, 0, 129, 184, 0, 16, 184, 0, 114, 42]
abbrev dktX0_turn_0 : List UInt8 := dkwX0_turn_0 ++ dktX0_turn_1
theorem dksX0_turn_0 : cX0_turn.data.toList.drop 0 = dktX0_turn_0 := by decide +kernel
theorem dksX0_turn_1 : cX0_turn.data.toList.drop 22 = dktX0_turn_1 := dk_seg dksX0_turn_0 22 rfl rfl
theorem dX0_turn_0 : decode cX0_turn 0 = .ok (.aload_n 0, 1) := dk_42 (dk_at dksX0_turn_0 0 rfl rfl)
theorem dX0_turn_1 : decode cX0_turn 1 = .ok (.iload_n 1, 1) := dk_27 (dk_at dksX0_turn_0 1 rfl rfl)
theorem dX0_turn_2 : decode cX0_turn 2 = .ok (.invokevirtual 148, 3) := dk_182 0 148 (dk_at dksX0_turn_0 2 rfl rfl)
theorem dX0_turn_5 : decode cX0_turn 5 = .ok (.invokevirtual 151, 3) := dk_182 0 151 (dk_at dksX0_turn_0 5 rfl rfl)
theorem dX0_turn_8 : decode cX0_turn 8 = .ok (.istore_n 3, 1) := dk_62 (dk_at dksX0_turn_0 8 rfl rfl)
theorem dX0_turn_9 : decode cX0_turn 9 = .ok (.iload_n 2, 1) := dk_28 (dk_at dksX0_turn_0 9 rfl rfl)
theorem dX0_turn_10 : decode cX0_turn 10 = .ok (.i2l, 1) := dk_133 (dk_at dksX0_turn_0 10 rfl rfl)
theorem dX0_turn_11 : decode cX0_turn 11 = .ok (.lconst 0, 1) := dk_9 (dk_at dksX0_turn_0 11 rfl rfl)
theorem dX0_turn_12 : decode cX0_turn 12 = .ok (.ldc2_w 129, 3) := dk_20 0 129 (dk_at dksX0_turn_0 12 rfl rfl)
theorem dX0_turn_15 : decode cX0_turn 15 = .ok (.invokestatic 16, 3) := dk_184 0 16 (dk_at dksX0_turn_0 15 rfl rfl)
theorem dX0_turn_18 : decode cX0_turn 18 = .ok (.invokestatic 114, 3) := dk_184 0 114 (dk_at dksX0_turn_0 18 rfl rfl)
theorem dX0_turn_21 : decode cX0_turn 21 = .ok (.aload_n 0, 1) := dk_42 (dk_at dksX0_turn_0 21 rfl rfl)
theorem dX0_turn_22 : decode cX0_turn 22 = .ok (.getfield 50, 3) := dk_180 0 50 (dk_at dksX0_turn_1 0 rfl rfl)
theorem dX0_turn_25 : decode cX0_turn 25 = .ok (.iload_n 1, 1) := dk_27 (dk_at dksX0_turn_1 3 rfl rfl)
theorem dX0_turn_26 : decode cX0_turn 26 = .ok (.iload_n 2, 1) := dk_28 (dk_at dksX0_turn_1 4 rfl rfl)
theorem dX0_turn_27 : decode cX0_turn 27 = .ok (.invokevirtual 165, 3) := dk_182 0 165 (dk_at dksX0_turn_1 5 rfl rfl)
theorem dX0_turn_30 : decode cX0_turn 30 = .ok (.iload_n 3, 1) := dk_29 (dk_at dksX0_turn_1 8 rfl rfl)
theorem dX0_turn_31 : decode cX0_turn 31 = .ok (.ireturn, 1) := dk_172 (dk_at dksX0_turn_1 9 rfl rfl)
theorem dX0_turn_32 : decode cX0_turn 32 = .ok (.astore_n 3, 1) := dk_78 (dk_at dksX0_turn_1 10 rfl rfl)
theorem dX0_turn_33 : decode cX0_turn 33 = .ok (.aload_n 0, 1) := dk_42 (dk_at dksX0_turn_1 11 rfl rfl)
theorem dX0_turn_34 : decode cX0_turn 34 = .ok (.aload_n 3, 1) := dk_45 (dk_at dksX0_turn_1 12 rfl rfl)
theorem dX0_turn_35 : decode cX0_turn 35 = .ok (.invokevirtual 122, 3) := dk_182 0 122 (dk_at dksX0_turn_1 13 rfl rfl)
theorem dX0_turn_38 : decode cX0_turn 38 = .ok (.ireturn, 1) := dk_172 (dk_at dksX0_turn_1 16 rfl rfl)
abbrev cX0_as : ByteArray := prog_1_method_23_code
def yX0_as : MethodName := ⟨RX0, "as", "(II)I"⟩
def dkwX0_as_1 : List UInt8 := [184, 0, 87, 45, 180, 0, 126, 4, 46, 172, 78, 42, 45, 182, 0, 122, 172]
abbrev dktX0_as_1 : List UInt8 := dkwX0_as_1 ++ []
def dkwX0_as_0 : List UInt8 := [42, 27, 182, 0, 148, 78, 28, 133, 9, 20, 0, 129, 184, 0, 16, 184, 0, 114, 45, 28, 182, 0, 169, 5]
abbrev dktX0_as_0 : List UInt8 := dkwX0_as_0 ++ dktX0_as_1
theorem dksX0_as_0 : cX0_as.data.toList.drop 0 = dktX0_as_0 := by decide +kernel
theorem dksX0_as_1 : cX0_as.data.toList.drop 24 = dktX0_as_1 := dk_seg dksX0_as_0 24 rfl rfl
theorem dX0_as_0 : decode cX0_as 0 = .ok (.aload_n 0, 1) := dk_42 (dk_at dksX0_as_0 0 rfl rfl)
theorem dX0_as_1 : decode cX0_as 1 = .ok (.iload_n 1, 1) := dk_27 (dk_at dksX0_as_0 1 rfl rfl)
theorem dX0_as_2 : decode cX0_as 2 = .ok (.invokevirtual 148, 3) := dk_182 0 148 (dk_at dksX0_as_0 2 rfl rfl)
theorem dX0_as_5 : decode cX0_as 5 = .ok (.astore_n 3, 1) := dk_78 (dk_at dksX0_as_0 5 rfl rfl)
theorem dX0_as_6 : decode cX0_as 6 = .ok (.iload_n 2, 1) := dk_28 (dk_at dksX0_as_0 6 rfl rfl)
theorem dX0_as_7 : decode cX0_as 7 = .ok (.i2l, 1) := dk_133 (dk_at dksX0_as_0 7 rfl rfl)
theorem dX0_as_8 : decode cX0_as 8 = .ok (.lconst 0, 1) := dk_9 (dk_at dksX0_as_0 8 rfl rfl)
theorem dX0_as_9 : decode cX0_as 9 = .ok (.ldc2_w 129, 3) := dk_20 0 129 (dk_at dksX0_as_0 9 rfl rfl)
theorem dX0_as_12 : decode cX0_as 12 = .ok (.invokestatic 16, 3) := dk_184 0 16 (dk_at dksX0_as_0 12 rfl rfl)
theorem dX0_as_15 : decode cX0_as 15 = .ok (.invokestatic 114, 3) := dk_184 0 114 (dk_at dksX0_as_0 15 rfl rfl)
theorem dX0_as_18 : decode cX0_as 18 = .ok (.aload_n 3, 1) := dk_45 (dk_at dksX0_as_0 18 rfl rfl)
theorem dX0_as_19 : decode cX0_as 19 = .ok (.iload_n 2, 1) := dk_28 (dk_at dksX0_as_0 19 rfl rfl)
theorem dX0_as_20 : decode cX0_as 20 = .ok (.invokevirtual 169, 3) := dk_182 0 169 (dk_at dksX0_as_0 20 rfl rfl)
theorem dX0_as_23 : decode cX0_as 23 = .ok (.iconst 2, 1) := dk_5 (dk_at dksX0_as_0 23 rfl rfl)
theorem dX0_as_24 : decode cX0_as 24 = .ok (.invokestatic 87, 3) := dk_184 0 87 (dk_at dksX0_as_1 0 rfl rfl)
theorem dX0_as_27 : decode cX0_as 27 = .ok (.aload_n 3, 1) := dk_45 (dk_at dksX0_as_1 3 rfl rfl)
theorem dX0_as_28 : decode cX0_as 28 = .ok (.getfield 126, 3) := dk_180 0 126 (dk_at dksX0_as_1 4 rfl rfl)
theorem dX0_as_31 : decode cX0_as 31 = .ok (.iconst 1, 1) := dk_4 (dk_at dksX0_as_1 7 rfl rfl)
theorem dX0_as_32 : decode cX0_as 32 = .ok (.iaload, 1) := dk_46 (dk_at dksX0_as_1 8 rfl rfl)
theorem dX0_as_33 : decode cX0_as 33 = .ok (.ireturn, 1) := dk_172 (dk_at dksX0_as_1 9 rfl rfl)
theorem dX0_as_34 : decode cX0_as 34 = .ok (.astore_n 3, 1) := dk_78 (dk_at dksX0_as_1 10 rfl rfl)
theorem dX0_as_35 : decode cX0_as 35 = .ok (.aload_n 0, 1) := dk_42 (dk_at dksX0_as_1 11 rfl rfl)
theorem dX0_as_36 : decode cX0_as 36 = .ok (.aload_n 3, 1) := dk_45 (dk_at dksX0_as_1 12 rfl rfl)
theorem dX0_as_37 : decode cX0_as 37 = .ok (.invokevirtual 122, 3) := dk_182 0 122 (dk_at dksX0_as_1 13 rfl rfl)
theorem dX0_as_40 : decode cX0_as 40 = .ok (.ireturn, 1) := dk_172 (dk_at dksX0_as_1 16 rfl rfl)
abbrev cX0_takes : ByteArray := prog_1_method_24_code
def yX0_takes : MethodName := ⟨RX0, "takes", "(II)I"⟩
def dkwX0_takes_1 : List UInt8 := [167, 0, 4, 3, 172, 78, 42, 45, 182, 0, 122, 172]
abbrev dktX0_takes_1 : List UInt8 := dkwX0_takes_1 ++ []
def dkwX0_takes_0 : List UInt8 := [27, 184, 0, 102, 184, 0, 114, 42, 180, 0, 50, 27, 42, 28, 182, 0, 148, 182, 0, 172, 153, 0, 7, 4]
abbrev dktX0_takes_0 : List UInt8 := dkwX0_takes_0 ++ dktX0_takes_1
theorem dksX0_takes_0 : cX0_takes.data.toList.drop 0 = dktX0_takes_0 := by decide +kernel
theorem dksX0_takes_1 : cX0_takes.data.toList.drop 24 = dktX0_takes_1 := dk_seg dksX0_takes_0 24 rfl rfl
theorem dX0_takes_0 : decode cX0_takes 0 = .ok (.iload_n 1, 1) := dk_27 (dk_at dksX0_takes_0 0 rfl rfl)
theorem dX0_takes_1 : decode cX0_takes 1 = .ok (.invokestatic 102, 3) := dk_184 0 102 (dk_at dksX0_takes_0 1 rfl rfl)
theorem dX0_takes_4 : decode cX0_takes 4 = .ok (.invokestatic 114, 3) := dk_184 0 114 (dk_at dksX0_takes_0 4 rfl rfl)
theorem dX0_takes_7 : decode cX0_takes 7 = .ok (.aload_n 0, 1) := dk_42 (dk_at dksX0_takes_0 7 rfl rfl)
theorem dX0_takes_8 : decode cX0_takes 8 = .ok (.getfield 50, 3) := dk_180 0 50 (dk_at dksX0_takes_0 8 rfl rfl)
theorem dX0_takes_11 : decode cX0_takes 11 = .ok (.iload_n 1, 1) := dk_27 (dk_at dksX0_takes_0 11 rfl rfl)
theorem dX0_takes_12 : decode cX0_takes 12 = .ok (.aload_n 0, 1) := dk_42 (dk_at dksX0_takes_0 12 rfl rfl)
theorem dX0_takes_13 : decode cX0_takes 13 = .ok (.iload_n 2, 1) := dk_28 (dk_at dksX0_takes_0 13 rfl rfl)
theorem dX0_takes_14 : decode cX0_takes 14 = .ok (.invokevirtual 148, 3) := dk_182 0 148 (dk_at dksX0_takes_0 14 rfl rfl)
theorem dX0_takes_17 : decode cX0_takes 17 = .ok (.invokevirtual 172, 3) := dk_182 0 172 (dk_at dksX0_takes_0 17 rfl rfl)
theorem dX0_takes_20 : decode cX0_takes 20 = .ok (.ifCond .eq 7, 3) := dk_153 0 7 (dk_at dksX0_takes_0 20 rfl rfl)
theorem dX0_takes_23 : decode cX0_takes 23 = .ok (.iconst 1, 1) := dk_4 (dk_at dksX0_takes_0 23 rfl rfl)
theorem dX0_takes_24 : decode cX0_takes 24 = .ok (.goto 4, 3) := dk_167 0 4 (dk_at dksX0_takes_1 0 rfl rfl)
theorem dX0_takes_27 : decode cX0_takes 27 = .ok (.iconst 0, 1) := dk_3 (dk_at dksX0_takes_1 3 rfl rfl)
theorem dX0_takes_28 : decode cX0_takes 28 = .ok (.ireturn, 1) := dk_172 (dk_at dksX0_takes_1 4 rfl rfl)
theorem dX0_takes_29 : decode cX0_takes 29 = .ok (.astore_n 3, 1) := dk_78 (dk_at dksX0_takes_1 5 rfl rfl)
theorem dX0_takes_30 : decode cX0_takes 30 = .ok (.aload_n 0, 1) := dk_42 (dk_at dksX0_takes_1 6 rfl rfl)
theorem dX0_takes_31 : decode cX0_takes 31 = .ok (.aload_n 3, 1) := dk_45 (dk_at dksX0_takes_1 7 rfl rfl)
theorem dX0_takes_32 : decode cX0_takes 32 = .ok (.invokevirtual 122, 3) := dk_182 0 122 (dk_at dksX0_takes_1 8 rfl rfl)
theorem dX0_takes_35 : decode cX0_takes 35 = .ok (.ireturn, 1) := dk_172 (dk_at dksX0_takes_1 11 rfl rfl)
abbrev cX0_comeIn : ByteArray := prog_1_method_25_code
def yX0_comeIn : MethodName := ⟨RX0, "comeIn", "(I)I"⟩
def dkwX0_comeIn_2 : List UInt8 := [180, 0, 126, 6, 46, 172, 77, 42, 44, 182, 0, 122, 172]
abbrev dktX0_comeIn_2 : List UInt8 := dkwX0_comeIn_2 ++ []
def dkwX0_comeIn_1 : List UInt8 := [182, 0, 180, 154, 0, 7, 4, 167, 0, 4, 3, 7, 184, 0, 87, 42, 180, 0, 50, 44, 182, 0, 183, 44]
abbrev dktX0_comeIn_1 : List UInt8 := dkwX0_comeIn_1 ++ dktX0_comeIn_2
def dkwX0_comeIn_0 : List UInt8 := [42, 27, 182, 0, 148, 77, 44, 182, 0, 176, 154, 0, 23, 42, 180, 0, 50, 44, 180, 0, 126, 3, 46]
abbrev dktX0_comeIn_0 : List UInt8 := dkwX0_comeIn_0 ++ dktX0_comeIn_1
theorem dksX0_comeIn_0 : cX0_comeIn.data.toList.drop 0 = dktX0_comeIn_0 := by decide +kernel
theorem dksX0_comeIn_1 : cX0_comeIn.data.toList.drop 23 = dktX0_comeIn_1 := dk_seg dksX0_comeIn_0 23 rfl rfl
theorem dksX0_comeIn_2 : cX0_comeIn.data.toList.drop 47 = dktX0_comeIn_2 := dk_seg dksX0_comeIn_1 24 rfl rfl
theorem dX0_comeIn_0 : decode cX0_comeIn 0 = .ok (.aload_n 0, 1) := dk_42 (dk_at dksX0_comeIn_0 0 rfl rfl)
theorem dX0_comeIn_1 : decode cX0_comeIn 1 = .ok (.iload_n 1, 1) := dk_27 (dk_at dksX0_comeIn_0 1 rfl rfl)
theorem dX0_comeIn_2 : decode cX0_comeIn 2 = .ok (.invokevirtual 148, 3) := dk_182 0 148 (dk_at dksX0_comeIn_0 2 rfl rfl)
theorem dX0_comeIn_5 : decode cX0_comeIn 5 = .ok (.astore_n 2, 1) := dk_77 (dk_at dksX0_comeIn_0 5 rfl rfl)
theorem dX0_comeIn_6 : decode cX0_comeIn 6 = .ok (.aload_n 2, 1) := dk_44 (dk_at dksX0_comeIn_0 6 rfl rfl)
theorem dX0_comeIn_7 : decode cX0_comeIn 7 = .ok (.invokevirtual 176, 3) := dk_182 0 176 (dk_at dksX0_comeIn_0 7 rfl rfl)
theorem dX0_comeIn_10 : decode cX0_comeIn 10 = .ok (.ifCond .ne 23, 3) := dk_154 0 23 (dk_at dksX0_comeIn_0 10 rfl rfl)
theorem dX0_comeIn_13 : decode cX0_comeIn 13 = .ok (.aload_n 0, 1) := dk_42 (dk_at dksX0_comeIn_0 13 rfl rfl)
theorem dX0_comeIn_14 : decode cX0_comeIn 14 = .ok (.getfield 50, 3) := dk_180 0 50 (dk_at dksX0_comeIn_0 14 rfl rfl)
theorem dX0_comeIn_17 : decode cX0_comeIn 17 = .ok (.aload_n 2, 1) := dk_44 (dk_at dksX0_comeIn_0 17 rfl rfl)
theorem dX0_comeIn_18 : decode cX0_comeIn 18 = .ok (.getfield 126, 3) := dk_180 0 126 (dk_at dksX0_comeIn_0 18 rfl rfl)
theorem dX0_comeIn_21 : decode cX0_comeIn 21 = .ok (.iconst 0, 1) := dk_3 (dk_at dksX0_comeIn_0 21 rfl rfl)
theorem dX0_comeIn_22 : decode cX0_comeIn 22 = .ok (.iaload, 1) := dk_46 (dk_at dksX0_comeIn_0 22 rfl rfl)
theorem dX0_comeIn_23 : decode cX0_comeIn 23 = .ok (.invokevirtual 180, 3) := dk_182 0 180 (dk_at dksX0_comeIn_1 0 rfl rfl)
theorem dX0_comeIn_26 : decode cX0_comeIn 26 = .ok (.ifCond .ne 7, 3) := dk_154 0 7 (dk_at dksX0_comeIn_1 3 rfl rfl)
theorem dX0_comeIn_29 : decode cX0_comeIn 29 = .ok (.iconst 1, 1) := dk_4 (dk_at dksX0_comeIn_1 6 rfl rfl)
theorem dX0_comeIn_30 : decode cX0_comeIn 30 = .ok (.goto 4, 3) := dk_167 0 4 (dk_at dksX0_comeIn_1 7 rfl rfl)
theorem dX0_comeIn_33 : decode cX0_comeIn 33 = .ok (.iconst 0, 1) := dk_3 (dk_at dksX0_comeIn_1 10 rfl rfl)
theorem dX0_comeIn_34 : decode cX0_comeIn 34 = .ok (.iconst 4, 1) := dk_7 (dk_at dksX0_comeIn_1 11 rfl rfl)
theorem dX0_comeIn_35 : decode cX0_comeIn 35 = .ok (.invokestatic 87, 3) := dk_184 0 87 (dk_at dksX0_comeIn_1 12 rfl rfl)
theorem dX0_comeIn_38 : decode cX0_comeIn 38 = .ok (.aload_n 0, 1) := dk_42 (dk_at dksX0_comeIn_1 15 rfl rfl)
theorem dX0_comeIn_39 : decode cX0_comeIn 39 = .ok (.getfield 50, 3) := dk_180 0 50 (dk_at dksX0_comeIn_1 16 rfl rfl)
theorem dX0_comeIn_42 : decode cX0_comeIn 42 = .ok (.aload_n 2, 1) := dk_44 (dk_at dksX0_comeIn_1 19 rfl rfl)
theorem dX0_comeIn_43 : decode cX0_comeIn 43 = .ok (.invokevirtual 183, 3) := dk_182 0 183 (dk_at dksX0_comeIn_1 20 rfl rfl)
theorem dX0_comeIn_46 : decode cX0_comeIn 46 = .ok (.aload_n 2, 1) := dk_44 (dk_at dksX0_comeIn_1 23 rfl rfl)
theorem dX0_comeIn_47 : decode cX0_comeIn 47 = .ok (.getfield 126, 3) := dk_180 0 126 (dk_at dksX0_comeIn_2 0 rfl rfl)
theorem dX0_comeIn_50 : decode cX0_comeIn 50 = .ok (.iconst 3, 1) := dk_6 (dk_at dksX0_comeIn_2 3 rfl rfl)
theorem dX0_comeIn_51 : decode cX0_comeIn 51 = .ok (.iaload, 1) := dk_46 (dk_at dksX0_comeIn_2 4 rfl rfl)
theorem dX0_comeIn_52 : decode cX0_comeIn 52 = .ok (.ireturn, 1) := dk_172 (dk_at dksX0_comeIn_2 5 rfl rfl)
theorem dX0_comeIn_53 : decode cX0_comeIn 53 = .ok (.astore_n 2, 1) := dk_77 (dk_at dksX0_comeIn_2 6 rfl rfl)
theorem dX0_comeIn_54 : decode cX0_comeIn 54 = .ok (.aload_n 0, 1) := dk_42 (dk_at dksX0_comeIn_2 7 rfl rfl)
theorem dX0_comeIn_55 : decode cX0_comeIn 55 = .ok (.aload_n 2, 1) := dk_44 (dk_at dksX0_comeIn_2 8 rfl rfl)
theorem dX0_comeIn_56 : decode cX0_comeIn 56 = .ok (.invokevirtual 122, 3) := dk_182 0 122 (dk_at dksX0_comeIn_2 9 rfl rfl)
theorem dX0_comeIn_59 : decode cX0_comeIn 59 = .ok (.ireturn, 1) := dk_172 (dk_at dksX0_comeIn_2 12 rfl rfl)
abbrev cX0_has : ByteArray := prog_1_method_3_code
def yX0_has : MethodName := ⟨RX0, "has", "(II)Z"⟩
def dkwX0_has_0 : List UInt8 := [26, 27, 122, 4, 126, 4, 160, 0, 7, 4, 167, 0, 4, 3, 172]
abbrev dktX0_has_0 : List UInt8 := dkwX0_has_0 ++ []
theorem dksX0_has_0 : cX0_has.data.toList.drop 0 = dktX0_has_0 := by decide +kernel
theorem dX0_has_0 : decode cX0_has 0 = .ok (.iload_n 0, 1) := dk_26 (dk_at dksX0_has_0 0 rfl rfl)
theorem dX0_has_1 : decode cX0_has 1 = .ok (.iload_n 1, 1) := dk_27 (dk_at dksX0_has_0 1 rfl rfl)
theorem dX0_has_2 : decode cX0_has 2 = .ok (.ishr, 1) := dk_122 (dk_at dksX0_has_0 2 rfl rfl)
theorem dX0_has_3 : decode cX0_has 3 = .ok (.iconst 1, 1) := dk_4 (dk_at dksX0_has_0 3 rfl rfl)
theorem dX0_has_4 : decode cX0_has 4 = .ok (.iand, 1) := dk_126 (dk_at dksX0_has_0 4 rfl rfl)
theorem dX0_has_5 : decode cX0_has 5 = .ok (.iconst 1, 1) := dk_4 (dk_at dksX0_has_0 5 rfl rfl)
theorem dX0_has_6 : decode cX0_has 6 = .ok (.if_icmp .ne 7, 3) := dk_160 0 7 (dk_at dksX0_has_0 6 rfl rfl)
theorem dX0_has_9 : decode cX0_has 9 = .ok (.iconst 1, 1) := dk_4 (dk_at dksX0_has_0 9 rfl rfl)
theorem dX0_has_10 : decode cX0_has 10 = .ok (.goto 4, 3) := dk_167 0 4 (dk_at dksX0_has_0 10 rfl rfl)
theorem dX0_has_13 : decode cX0_has 13 = .ok (.iconst 0, 1) := dk_3 (dk_at dksX0_has_0 13 rfl rfl)
theorem dX0_has_14 : decode cX0_has 14 = .ok (.ireturn, 1) := dk_172 (dk_at dksX0_has_0 14 rfl rfl)
abbrev cX0_improve : ByteArray := prog_1_method_27_code
def yX0_improve : MethodName := ⟨RX0, "improve", "(II)I"⟩
def dkwX0_improve_1 : List UInt8 := [42, 180, 0, 50, 45, 28, 182, 0, 190, 45, 180, 0, 126, 6, 46, 172, 78, 42, 45, 182, 0, 122, 172]
abbrev dktX0_improve_1 : List UInt8 := dkwX0_improve_1 ++ []
def dkwX0_improve_0 : List UInt8 := [42, 27, 182, 0, 148, 87, 28, 133, 10, 20, 0, 24, 184, 0, 16, 184, 0, 114, 42, 27, 182, 0, 187, 78]
abbrev dktX0_improve_0 : List UInt8 := dkwX0_improve_0 ++ dktX0_improve_1
theorem dksX0_improve_0 : cX0_improve.data.toList.drop 0 = dktX0_improve_0 := by decide +kernel
theorem dksX0_improve_1 : cX0_improve.data.toList.drop 24 = dktX0_improve_1 := dk_seg dksX0_improve_0 24 rfl rfl
theorem dX0_improve_0 : decode cX0_improve 0 = .ok (.aload_n 0, 1) := dk_42 (dk_at dksX0_improve_0 0 rfl rfl)
theorem dX0_improve_1 : decode cX0_improve 1 = .ok (.iload_n 1, 1) := dk_27 (dk_at dksX0_improve_0 1 rfl rfl)
theorem dX0_improve_2 : decode cX0_improve 2 = .ok (.invokevirtual 148, 3) := dk_182 0 148 (dk_at dksX0_improve_0 2 rfl rfl)
theorem dX0_improve_5 : decode cX0_improve 5 = .ok (.pop, 1) := dk_87 (dk_at dksX0_improve_0 5 rfl rfl)
theorem dX0_improve_6 : decode cX0_improve 6 = .ok (.iload_n 2, 1) := dk_28 (dk_at dksX0_improve_0 6 rfl rfl)
theorem dX0_improve_7 : decode cX0_improve 7 = .ok (.i2l, 1) := dk_133 (dk_at dksX0_improve_0 7 rfl rfl)
theorem dX0_improve_8 : decode cX0_improve 8 = .ok (.lconst 1, 1) := dk_10 (dk_at dksX0_improve_0 8 rfl rfl)
theorem dX0_improve_9 : decode cX0_improve 9 = .ok (.ldc2_w 24, 3) := dk_20 0 24 (dk_at dksX0_improve_0 9 rfl rfl)
theorem dX0_improve_12 : decode cX0_improve 12 = .ok (.invokestatic 16, 3) := dk_184 0 16 (dk_at dksX0_improve_0 12 rfl rfl)
theorem dX0_improve_15 : decode cX0_improve 15 = .ok (.invokestatic 114, 3) := dk_184 0 114 (dk_at dksX0_improve_0 15 rfl rfl)
theorem dX0_improve_18 : decode cX0_improve 18 = .ok (.aload_n 0, 1) := dk_42 (dk_at dksX0_improve_0 18 rfl rfl)
theorem dX0_improve_19 : decode cX0_improve 19 = .ok (.iload_n 1, 1) := dk_27 (dk_at dksX0_improve_0 19 rfl rfl)
theorem dX0_improve_20 : decode cX0_improve 20 = .ok (.invokevirtual 187, 3) := dk_182 0 187 (dk_at dksX0_improve_0 20 rfl rfl)
theorem dX0_improve_23 : decode cX0_improve 23 = .ok (.astore_n 3, 1) := dk_78 (dk_at dksX0_improve_0 23 rfl rfl)
theorem dX0_improve_24 : decode cX0_improve 24 = .ok (.aload_n 0, 1) := dk_42 (dk_at dksX0_improve_1 0 rfl rfl)
theorem dX0_improve_25 : decode cX0_improve 25 = .ok (.getfield 50, 3) := dk_180 0 50 (dk_at dksX0_improve_1 1 rfl rfl)
theorem dX0_improve_28 : decode cX0_improve 28 = .ok (.aload_n 3, 1) := dk_45 (dk_at dksX0_improve_1 4 rfl rfl)
theorem dX0_improve_29 : decode cX0_improve 29 = .ok (.iload_n 2, 1) := dk_28 (dk_at dksX0_improve_1 5 rfl rfl)
theorem dX0_improve_30 : decode cX0_improve 30 = .ok (.invokevirtual 190, 3) := dk_182 0 190 (dk_at dksX0_improve_1 6 rfl rfl)
theorem dX0_improve_33 : decode cX0_improve 33 = .ok (.aload_n 3, 1) := dk_45 (dk_at dksX0_improve_1 9 rfl rfl)
theorem dX0_improve_34 : decode cX0_improve 34 = .ok (.getfield 126, 3) := dk_180 0 126 (dk_at dksX0_improve_1 10 rfl rfl)
theorem dX0_improve_37 : decode cX0_improve 37 = .ok (.iconst 3, 1) := dk_6 (dk_at dksX0_improve_1 13 rfl rfl)
theorem dX0_improve_38 : decode cX0_improve 38 = .ok (.iaload, 1) := dk_46 (dk_at dksX0_improve_1 14 rfl rfl)
theorem dX0_improve_39 : decode cX0_improve 39 = .ok (.ireturn, 1) := dk_172 (dk_at dksX0_improve_1 15 rfl rfl)
theorem dX0_improve_40 : decode cX0_improve 40 = .ok (.astore_n 3, 1) := dk_78 (dk_at dksX0_improve_1 16 rfl rfl)
theorem dX0_improve_41 : decode cX0_improve 41 = .ok (.aload_n 0, 1) := dk_42 (dk_at dksX0_improve_1 17 rfl rfl)
theorem dX0_improve_42 : decode cX0_improve 42 = .ok (.aload_n 3, 1) := dk_45 (dk_at dksX0_improve_1 18 rfl rfl)
theorem dX0_improve_43 : decode cX0_improve 43 = .ok (.invokevirtual 122, 3) := dk_182 0 122 (dk_at dksX0_improve_1 19 rfl rfl)
theorem dX0_improve_46 : decode cX0_improve 46 = .ok (.ireturn, 1) := dk_172 (dk_at dksX0_improve_1 22 rfl rfl)
abbrev cX0_lodger : ByteArray := prog_1_method_26_code
def yX0_lodger : MethodName := ⟨RX0, "lodger", "(I)LRumourBeds$Rumour;"⟩
def dkwX0_lodger_0 : List UInt8 := [42, 27, 182, 0, 148, 77, 44, 182, 0, 176, 7, 184, 0, 87, 44, 176]
abbrev dktX0_lodger_0 : List UInt8 := dkwX0_lodger_0 ++ []
theorem dksX0_lodger_0 : cX0_lodger.data.toList.drop 0 = dktX0_lodger_0 := by decide +kernel
theorem dX0_lodger_0 : decode cX0_lodger 0 = .ok (.aload_n 0, 1) := dk_42 (dk_at dksX0_lodger_0 0 rfl rfl)
theorem dX0_lodger_1 : decode cX0_lodger 1 = .ok (.iload_n 1, 1) := dk_27 (dk_at dksX0_lodger_0 1 rfl rfl)
theorem dX0_lodger_2 : decode cX0_lodger 2 = .ok (.invokevirtual 148, 3) := dk_182 0 148 (dk_at dksX0_lodger_0 2 rfl rfl)
theorem dX0_lodger_5 : decode cX0_lodger 5 = .ok (.astore_n 2, 1) := dk_77 (dk_at dksX0_lodger_0 5 rfl rfl)
theorem dX0_lodger_6 : decode cX0_lodger 6 = .ok (.aload_n 2, 1) := dk_44 (dk_at dksX0_lodger_0 6 rfl rfl)
theorem dX0_lodger_7 : decode cX0_lodger 7 = .ok (.invokevirtual 176, 3) := dk_182 0 176 (dk_at dksX0_lodger_0 7 rfl rfl)
theorem dX0_lodger_10 : decode cX0_lodger 10 = .ok (.iconst 4, 1) := dk_7 (dk_at dksX0_lodger_0 10 rfl rfl)
theorem dX0_lodger_11 : decode cX0_lodger 11 = .ok (.invokestatic 87, 3) := dk_184 0 87 (dk_at dksX0_lodger_0 11 rfl rfl)
theorem dX0_lodger_14 : decode cX0_lodger 14 = .ok (.aload_n 2, 1) := dk_44 (dk_at dksX0_lodger_0 14 rfl rfl)
theorem dX0_lodger_15 : decode cX0_lodger 15 = .ok (.areturn, 1) := dk_176 (dk_at dksX0_lodger_0 15 rfl rfl)
abbrev cX0_comesTrue : ByteArray := prog_1_method_28_code
def yX0_comesTrue : MethodName := ⟨RX0, "comesTrue", "(I)I"⟩
def dkwX0_comesTrue_0 : List UInt8 := [27, 184, 0, 141, 184, 0, 114, 42, 180, 0, 50, 27, 182, 0, 194, 172, 77, 42, 44, 182, 0, 122, 172]
abbrev dktX0_comesTrue_0 : List UInt8 := dkwX0_comesTrue_0 ++ []
theorem dksX0_comesTrue_0 : cX0_comesTrue.data.toList.drop 0 = dktX0_comesTrue_0 := by decide +kernel
theorem dX0_comesTrue_0 : decode cX0_comesTrue 0 = .ok (.iload_n 1, 1) := dk_27 (dk_at dksX0_comesTrue_0 0 rfl rfl)
theorem dX0_comesTrue_1 : decode cX0_comesTrue 1 = .ok (.invokestatic 141, 3) := dk_184 0 141 (dk_at dksX0_comesTrue_0 1 rfl rfl)
theorem dX0_comesTrue_4 : decode cX0_comesTrue 4 = .ok (.invokestatic 114, 3) := dk_184 0 114 (dk_at dksX0_comesTrue_0 4 rfl rfl)
theorem dX0_comesTrue_7 : decode cX0_comesTrue 7 = .ok (.aload_n 0, 1) := dk_42 (dk_at dksX0_comesTrue_0 7 rfl rfl)
theorem dX0_comesTrue_8 : decode cX0_comesTrue 8 = .ok (.getfield 50, 3) := dk_180 0 50 (dk_at dksX0_comesTrue_0 8 rfl rfl)
theorem dX0_comesTrue_11 : decode cX0_comesTrue 11 = .ok (.iload_n 1, 1) := dk_27 (dk_at dksX0_comesTrue_0 11 rfl rfl)
theorem dX0_comesTrue_12 : decode cX0_comesTrue 12 = .ok (.invokevirtual 194, 3) := dk_182 0 194 (dk_at dksX0_comesTrue_0 12 rfl rfl)
theorem dX0_comesTrue_15 : decode cX0_comesTrue 15 = .ok (.ireturn, 1) := dk_172 (dk_at dksX0_comesTrue_0 15 rfl rfl)
theorem dX0_comesTrue_16 : decode cX0_comesTrue 16 = .ok (.astore_n 2, 1) := dk_77 (dk_at dksX0_comesTrue_0 16 rfl rfl)
theorem dX0_comesTrue_17 : decode cX0_comesTrue 17 = .ok (.aload_n 0, 1) := dk_42 (dk_at dksX0_comesTrue_0 17 rfl rfl)
theorem dX0_comesTrue_18 : decode cX0_comesTrue 18 = .ok (.aload_n 2, 1) := dk_44 (dk_at dksX0_comesTrue_0 18 rfl rfl)
theorem dX0_comesTrue_19 : decode cX0_comesTrue 19 = .ok (.invokevirtual 122, 3) := dk_182 0 122 (dk_at dksX0_comesTrue_0 19 rfl rfl)
theorem dX0_comesTrue_22 : decode cX0_comesTrue 22 = .ok (.ireturn, 1) := dk_172 (dk_at dksX0_comesTrue_0 22 rfl rfl)
abbrev cX0_forget : ByteArray := prog_1_method_29_code
def yX0_forget : MethodName := ⟨RX0, "forget", "(I)I"⟩
def dkwX0_forget_2 : List UInt8 := [182, 0, 122, 172]
abbrev dktX0_forget_2 : List UInt8 := dkwX0_forget_2 ++ []
def dkwX0_forget_1 : List UInt8 := [42, 180, 0, 50, 89, 180, 0, 197, 4, 27, 120, 2, 130, 126, 181, 0, 197, 28, 172, 77, 42, 44]
abbrev dktX0_forget_1 : List UInt8 := dkwX0_forget_1 ++ dktX0_forget_2
def dkwX0_forget_0 : List UInt8 := [27, 184, 0, 141, 184, 0, 114, 42, 180, 0, 50, 27, 182, 0, 180, 153, 0, 7, 4, 167, 0, 4, 3, 61]
abbrev dktX0_forget_0 : List UInt8 := dkwX0_forget_0 ++ dktX0_forget_1
theorem dksX0_forget_0 : cX0_forget.data.toList.drop 0 = dktX0_forget_0 := by decide +kernel
theorem dksX0_forget_1 : cX0_forget.data.toList.drop 24 = dktX0_forget_1 := dk_seg dksX0_forget_0 24 rfl rfl
theorem dksX0_forget_2 : cX0_forget.data.toList.drop 46 = dktX0_forget_2 := dk_seg dksX0_forget_1 22 rfl rfl
theorem dX0_forget_0 : decode cX0_forget 0 = .ok (.iload_n 1, 1) := dk_27 (dk_at dksX0_forget_0 0 rfl rfl)
theorem dX0_forget_1 : decode cX0_forget 1 = .ok (.invokestatic 141, 3) := dk_184 0 141 (dk_at dksX0_forget_0 1 rfl rfl)
theorem dX0_forget_4 : decode cX0_forget 4 = .ok (.invokestatic 114, 3) := dk_184 0 114 (dk_at dksX0_forget_0 4 rfl rfl)
theorem dX0_forget_7 : decode cX0_forget 7 = .ok (.aload_n 0, 1) := dk_42 (dk_at dksX0_forget_0 7 rfl rfl)
theorem dX0_forget_8 : decode cX0_forget 8 = .ok (.getfield 50, 3) := dk_180 0 50 (dk_at dksX0_forget_0 8 rfl rfl)
theorem dX0_forget_11 : decode cX0_forget 11 = .ok (.iload_n 1, 1) := dk_27 (dk_at dksX0_forget_0 11 rfl rfl)
theorem dX0_forget_12 : decode cX0_forget 12 = .ok (.invokevirtual 180, 3) := dk_182 0 180 (dk_at dksX0_forget_0 12 rfl rfl)
theorem dX0_forget_15 : decode cX0_forget 15 = .ok (.ifCond .eq 7, 3) := dk_153 0 7 (dk_at dksX0_forget_0 15 rfl rfl)
theorem dX0_forget_18 : decode cX0_forget 18 = .ok (.iconst 1, 1) := dk_4 (dk_at dksX0_forget_0 18 rfl rfl)
theorem dX0_forget_19 : decode cX0_forget 19 = .ok (.goto 4, 3) := dk_167 0 4 (dk_at dksX0_forget_0 19 rfl rfl)
theorem dX0_forget_22 : decode cX0_forget 22 = .ok (.iconst 0, 1) := dk_3 (dk_at dksX0_forget_0 22 rfl rfl)
theorem dX0_forget_23 : decode cX0_forget 23 = .ok (.istore_n 2, 1) := dk_61 (dk_at dksX0_forget_0 23 rfl rfl)
theorem dX0_forget_24 : decode cX0_forget 24 = .ok (.aload_n 0, 1) := dk_42 (dk_at dksX0_forget_1 0 rfl rfl)
theorem dX0_forget_25 : decode cX0_forget 25 = .ok (.getfield 50, 3) := dk_180 0 50 (dk_at dksX0_forget_1 1 rfl rfl)
theorem dX0_forget_28 : decode cX0_forget 28 = .ok (.dup, 1) := dk_89 (dk_at dksX0_forget_1 4 rfl rfl)
theorem dX0_forget_29 : decode cX0_forget 29 = .ok (.getfield 197, 3) := dk_180 0 197 (dk_at dksX0_forget_1 5 rfl rfl)
theorem dX0_forget_32 : decode cX0_forget 32 = .ok (.iconst 1, 1) := dk_4 (dk_at dksX0_forget_1 8 rfl rfl)
theorem dX0_forget_33 : decode cX0_forget 33 = .ok (.iload_n 1, 1) := dk_27 (dk_at dksX0_forget_1 9 rfl rfl)
theorem dX0_forget_34 : decode cX0_forget 34 = .ok (.ishl, 1) := dk_120 (dk_at dksX0_forget_1 10 rfl rfl)
theorem dX0_forget_35 : decode cX0_forget 35 = .ok (.iconst (-1), 1) := dk_2 (dk_at dksX0_forget_1 11 rfl rfl)
theorem dX0_forget_36 : decode cX0_forget 36 = .ok (.ixor, 1) := dk_130 (dk_at dksX0_forget_1 12 rfl rfl)
theorem dX0_forget_37 : decode cX0_forget 37 = .ok (.iand, 1) := dk_126 (dk_at dksX0_forget_1 13 rfl rfl)
theorem dX0_forget_38 : decode cX0_forget 38 = .ok (.putfield 197, 3) := dk_181 0 197 (dk_at dksX0_forget_1 14 rfl rfl)
theorem dX0_forget_41 : decode cX0_forget 41 = .ok (.iload_n 2, 1) := dk_28 (dk_at dksX0_forget_1 17 rfl rfl)
theorem dX0_forget_42 : decode cX0_forget 42 = .ok (.ireturn, 1) := dk_172 (dk_at dksX0_forget_1 18 rfl rfl)
theorem dX0_forget_43 : decode cX0_forget 43 = .ok (.astore_n 2, 1) := dk_77 (dk_at dksX0_forget_1 19 rfl rfl)
theorem dX0_forget_44 : decode cX0_forget 44 = .ok (.aload_n 0, 1) := dk_42 (dk_at dksX0_forget_1 20 rfl rfl)
theorem dX0_forget_45 : decode cX0_forget 45 = .ok (.aload_n 2, 1) := dk_44 (dk_at dksX0_forget_1 21 rfl rfl)
theorem dX0_forget_46 : decode cX0_forget 46 = .ok (.invokevirtual 122, 3) := dk_182 0 122 (dk_at dksX0_forget_2 0 rfl rfl)
theorem dX0_forget_49 : decode cX0_forget 49 = .ok (.ireturn, 1) := dk_172 (dk_at dksX0_forget_2 3 rfl rfl)
abbrev cX0_days : ByteArray := prog_1_method_30_code
def yX0_days : MethodName := ⟨RX0, "days", "(I)I"⟩
def dkwX0_days_2 : List UInt8 := [180, 0, 91, 172, 77, 42, 44, 182, 0, 122, 172]
abbrev dktX0_days_2 : List UInt8 := dkwX0_days_2 ++ []
def dkwX0_days_1 : List UInt8 := [163, 0, 7, 4, 167, 0, 4, 3, 7, 184, 0, 87, 42, 180, 0, 50, 27, 182, 0, 203, 42, 180, 0, 50]
abbrev dktX0_days_1 : List UInt8 := dkwX0_days_1 ++ dktX0_days_2
def dkwX0_days_0 : List UInt8 := [27, 133, 10, 20, 0, 22, 184, 0, 16, 184, 0, 114, 42, 180, 0, 50, 180, 0, 200, 27, 96, 17, 39, 15]
abbrev dktX0_days_0 : List UInt8 := dkwX0_days_0 ++ dktX0_days_1
theorem dksX0_days_0 : cX0_days.data.toList.drop 0 = dktX0_days_0 := by decide +kernel
theorem dksX0_days_1 : cX0_days.data.toList.drop 24 = dktX0_days_1 := dk_seg dksX0_days_0 24 rfl rfl
theorem dksX0_days_2 : cX0_days.data.toList.drop 48 = dktX0_days_2 := dk_seg dksX0_days_1 24 rfl rfl
theorem dX0_days_0 : decode cX0_days 0 = .ok (.iload_n 1, 1) := dk_27 (dk_at dksX0_days_0 0 rfl rfl)
theorem dX0_days_1 : decode cX0_days 1 = .ok (.i2l, 1) := dk_133 (dk_at dksX0_days_0 1 rfl rfl)
theorem dX0_days_2 : decode cX0_days 2 = .ok (.lconst 1, 1) := dk_10 (dk_at dksX0_days_0 2 rfl rfl)
theorem dX0_days_3 : decode cX0_days 3 = .ok (.ldc2_w 22, 3) := dk_20 0 22 (dk_at dksX0_days_0 3 rfl rfl)
theorem dX0_days_6 : decode cX0_days 6 = .ok (.invokestatic 16, 3) := dk_184 0 16 (dk_at dksX0_days_0 6 rfl rfl)
theorem dX0_days_9 : decode cX0_days 9 = .ok (.invokestatic 114, 3) := dk_184 0 114 (dk_at dksX0_days_0 9 rfl rfl)
theorem dX0_days_12 : decode cX0_days 12 = .ok (.aload_n 0, 1) := dk_42 (dk_at dksX0_days_0 12 rfl rfl)
theorem dX0_days_13 : decode cX0_days 13 = .ok (.getfield 50, 3) := dk_180 0 50 (dk_at dksX0_days_0 13 rfl rfl)
theorem dX0_days_16 : decode cX0_days 16 = .ok (.getfield 200, 3) := dk_180 0 200 (dk_at dksX0_days_0 16 rfl rfl)
theorem dX0_days_19 : decode cX0_days 19 = .ok (.iload_n 1, 1) := dk_27 (dk_at dksX0_days_0 19 rfl rfl)
theorem dX0_days_20 : decode cX0_days 20 = .ok (.iadd, 1) := dk_96 (dk_at dksX0_days_0 20 rfl rfl)
theorem dX0_days_21 : decode cX0_days 21 = .ok (.sipush 9999, 3) := dk_17 39 15 (dk_at dksX0_days_0 21 rfl rfl)
theorem dX0_days_24 : decode cX0_days 24 = .ok (.if_icmp .gt 7, 3) := dk_163 0 7 (dk_at dksX0_days_1 0 rfl rfl)
theorem dX0_days_27 : decode cX0_days 27 = .ok (.iconst 1, 1) := dk_4 (dk_at dksX0_days_1 3 rfl rfl)
theorem dX0_days_28 : decode cX0_days 28 = .ok (.goto 4, 3) := dk_167 0 4 (dk_at dksX0_days_1 4 rfl rfl)
theorem dX0_days_31 : decode cX0_days 31 = .ok (.iconst 0, 1) := dk_3 (dk_at dksX0_days_1 7 rfl rfl)
theorem dX0_days_32 : decode cX0_days 32 = .ok (.iconst 4, 1) := dk_7 (dk_at dksX0_days_1 8 rfl rfl)
theorem dX0_days_33 : decode cX0_days 33 = .ok (.invokestatic 87, 3) := dk_184 0 87 (dk_at dksX0_days_1 9 rfl rfl)
theorem dX0_days_36 : decode cX0_days 36 = .ok (.aload_n 0, 1) := dk_42 (dk_at dksX0_days_1 12 rfl rfl)
theorem dX0_days_37 : decode cX0_days 37 = .ok (.getfield 50, 3) := dk_180 0 50 (dk_at dksX0_days_1 13 rfl rfl)
theorem dX0_days_40 : decode cX0_days 40 = .ok (.iload_n 1, 1) := dk_27 (dk_at dksX0_days_1 16 rfl rfl)
theorem dX0_days_41 : decode cX0_days 41 = .ok (.invokevirtual 203, 3) := dk_182 0 203 (dk_at dksX0_days_1 17 rfl rfl)
theorem dX0_days_44 : decode cX0_days 44 = .ok (.aload_n 0, 1) := dk_42 (dk_at dksX0_days_1 20 rfl rfl)
theorem dX0_days_45 : decode cX0_days 45 = .ok (.getfield 50, 3) := dk_180 0 50 (dk_at dksX0_days_1 21 rfl rfl)
theorem dX0_days_48 : decode cX0_days 48 = .ok (.getfield 91, 3) := dk_180 0 91 (dk_at dksX0_days_2 0 rfl rfl)
theorem dX0_days_51 : decode cX0_days 51 = .ok (.ireturn, 1) := dk_172 (dk_at dksX0_days_2 3 rfl rfl)
theorem dX0_days_52 : decode cX0_days 52 = .ok (.astore_n 2, 1) := dk_77 (dk_at dksX0_days_2 4 rfl rfl)
theorem dX0_days_53 : decode cX0_days 53 = .ok (.aload_n 0, 1) := dk_42 (dk_at dksX0_days_2 5 rfl rfl)
theorem dX0_days_54 : decode cX0_days 54 = .ok (.aload_n 2, 1) := dk_44 (dk_at dksX0_days_2 6 rfl rfl)
theorem dX0_days_55 : decode cX0_days 55 = .ok (.invokevirtual 122, 3) := dk_182 0 122 (dk_at dksX0_days_2 7 rfl rfl)
theorem dX0_days_58 : decode cX0_days 58 = .ok (.ireturn, 1) := dk_172 (dk_at dksX0_days_2 10 rfl rfl)
abbrev cX0_now : ByteArray := prog_1_method_34_code
def yX0_now : MethodName := ⟨RX0, "now", "(I)I"⟩
def dkwX0_now_4 : List UInt8 := [77, 42, 44, 182, 0, 122, 172]
abbrev dktX0_now_4 : List UInt8 := dkwX0_now_4 ++ []
def dkwX0_now_3 : List UInt8 := [172, 42, 182, 0, 222, 172, 42, 180, 0, 50, 182, 0, 225, 172, 42, 182, 0, 228, 172, 42, 182, 0, 231, 172]
abbrev dktX0_now_3 : List UInt8 := dkwX0_now_3 ++ dktX0_now_4
def dkwX0_now_2 : List UInt8 := [42, 180, 0, 50, 180, 0, 200, 172, 42, 180, 0, 50, 180, 0, 197, 172, 42, 180, 0, 50, 2, 182, 0, 131]
abbrev dktX0_now_2 : List UInt8 := dkwX0_now_2 ++ dktX0_now_3
def dkwX0_now_1 : List UInt8 := [170, 0, 0, 0, 0, 0, 82, 0, 0, 0, 0, 0, 0, 0, 5, 0, 0, 0, 39, 0, 0, 0, 47, 0, 0, 0, 55, 0, 0, 0, 64, 0, 0, 0, 69, 0, 0, 0, 77]
abbrev dktX0_now_1 : List UInt8 := dkwX0_now_1 ++ dktX0_now_2
def dkwX0_now_0 : List UInt8 := [27, 133, 9, 20, 0, 220, 184, 0, 16, 184, 0, 114, 27]
abbrev dktX0_now_0 : List UInt8 := dkwX0_now_0 ++ dktX0_now_1
theorem dksX0_now_0 : cX0_now.data.toList.drop 0 = dktX0_now_0 := by decide +kernel
theorem dksX0_now_1 : cX0_now.data.toList.drop 13 = dktX0_now_1 := dk_seg dksX0_now_0 13 rfl rfl
theorem dksX0_now_2 : cX0_now.data.toList.drop 52 = dktX0_now_2 := dk_seg dksX0_now_1 39 rfl rfl
theorem dksX0_now_3 : cX0_now.data.toList.drop 76 = dktX0_now_3 := dk_seg dksX0_now_2 24 rfl rfl
theorem dksX0_now_4 : cX0_now.data.toList.drop 100 = dktX0_now_4 := dk_seg dksX0_now_3 24 rfl rfl
theorem dX0_now_0 : decode cX0_now 0 = .ok (.iload_n 1, 1) := dk_27 (dk_at dksX0_now_0 0 rfl rfl)
theorem dX0_now_1 : decode cX0_now 1 = .ok (.i2l, 1) := dk_133 (dk_at dksX0_now_0 1 rfl rfl)
theorem dX0_now_2 : decode cX0_now 2 = .ok (.lconst 0, 1) := dk_9 (dk_at dksX0_now_0 2 rfl rfl)
theorem dX0_now_3 : decode cX0_now 3 = .ok (.ldc2_w 220, 3) := dk_20 0 220 (dk_at dksX0_now_0 3 rfl rfl)
theorem dX0_now_6 : decode cX0_now 6 = .ok (.invokestatic 16, 3) := dk_184 0 16 (dk_at dksX0_now_0 6 rfl rfl)
theorem dX0_now_9 : decode cX0_now 9 = .ok (.invokestatic 114, 3) := dk_184 0 114 (dk_at dksX0_now_0 9 rfl rfl)
theorem dX0_now_12 : decode cX0_now 12 = .ok (.iload_n 1, 1) := dk_27 (dk_at dksX0_now_0 12 rfl rfl)
theorem dX0_now_13 : decode cX0_now 13 = .ok (.tableswitch 82 0 5 #[39, 47, 55, 64, 69, 77], 39) := by decide +kernel
theorem dX0_now_52 : decode cX0_now 52 = .ok (.aload_n 0, 1) := dk_42 (dk_at dksX0_now_2 0 rfl rfl)
theorem dX0_now_53 : decode cX0_now 53 = .ok (.getfield 50, 3) := dk_180 0 50 (dk_at dksX0_now_2 1 rfl rfl)
theorem dX0_now_56 : decode cX0_now 56 = .ok (.getfield 200, 3) := dk_180 0 200 (dk_at dksX0_now_2 4 rfl rfl)
theorem dX0_now_59 : decode cX0_now 59 = .ok (.ireturn, 1) := dk_172 (dk_at dksX0_now_2 7 rfl rfl)
theorem dX0_now_60 : decode cX0_now 60 = .ok (.aload_n 0, 1) := dk_42 (dk_at dksX0_now_2 8 rfl rfl)
theorem dX0_now_61 : decode cX0_now 61 = .ok (.getfield 50, 3) := dk_180 0 50 (dk_at dksX0_now_2 9 rfl rfl)
theorem dX0_now_64 : decode cX0_now 64 = .ok (.getfield 197, 3) := dk_180 0 197 (dk_at dksX0_now_2 12 rfl rfl)
theorem dX0_now_67 : decode cX0_now 67 = .ok (.ireturn, 1) := dk_172 (dk_at dksX0_now_2 15 rfl rfl)
theorem dX0_now_68 : decode cX0_now 68 = .ok (.aload_n 0, 1) := dk_42 (dk_at dksX0_now_2 16 rfl rfl)
theorem dX0_now_69 : decode cX0_now 69 = .ok (.getfield 50, 3) := dk_180 0 50 (dk_at dksX0_now_2 17 rfl rfl)
theorem dX0_now_72 : decode cX0_now 72 = .ok (.iconst (-1), 1) := dk_2 (dk_at dksX0_now_2 20 rfl rfl)
theorem dX0_now_73 : decode cX0_now 73 = .ok (.invokevirtual 131, 3) := dk_182 0 131 (dk_at dksX0_now_2 21 rfl rfl)
theorem dX0_now_76 : decode cX0_now 76 = .ok (.ireturn, 1) := dk_172 (dk_at dksX0_now_3 0 rfl rfl)
theorem dX0_now_77 : decode cX0_now 77 = .ok (.aload_n 0, 1) := dk_42 (dk_at dksX0_now_3 1 rfl rfl)
theorem dX0_now_78 : decode cX0_now 78 = .ok (.invokevirtual 222, 3) := dk_182 0 222 (dk_at dksX0_now_3 2 rfl rfl)
theorem dX0_now_81 : decode cX0_now 81 = .ok (.ireturn, 1) := dk_172 (dk_at dksX0_now_3 5 rfl rfl)
theorem dX0_now_82 : decode cX0_now 82 = .ok (.aload_n 0, 1) := dk_42 (dk_at dksX0_now_3 6 rfl rfl)
theorem dX0_now_83 : decode cX0_now 83 = .ok (.getfield 50, 3) := dk_180 0 50 (dk_at dksX0_now_3 7 rfl rfl)
theorem dX0_now_86 : decode cX0_now 86 = .ok (.invokevirtual 225, 3) := dk_182 0 225 (dk_at dksX0_now_3 10 rfl rfl)
theorem dX0_now_89 : decode cX0_now 89 = .ok (.ireturn, 1) := dk_172 (dk_at dksX0_now_3 13 rfl rfl)
theorem dX0_now_90 : decode cX0_now 90 = .ok (.aload_n 0, 1) := dk_42 (dk_at dksX0_now_3 14 rfl rfl)
theorem dX0_now_91 : decode cX0_now 91 = .ok (.invokevirtual 228, 3) := dk_182 0 228 (dk_at dksX0_now_3 15 rfl rfl)
theorem dX0_now_94 : decode cX0_now 94 = .ok (.ireturn, 1) := dk_172 (dk_at dksX0_now_3 18 rfl rfl)
theorem dX0_now_95 : decode cX0_now 95 = .ok (.aload_n 0, 1) := dk_42 (dk_at dksX0_now_3 19 rfl rfl)
theorem dX0_now_96 : decode cX0_now 96 = .ok (.invokevirtual 231, 3) := dk_182 0 231 (dk_at dksX0_now_3 20 rfl rfl)
theorem dX0_now_99 : decode cX0_now 99 = .ok (.ireturn, 1) := dk_172 (dk_at dksX0_now_3 23 rfl rfl)
theorem dX0_now_100 : decode cX0_now 100 = .ok (.astore_n 2, 1) := dk_77 (dk_at dksX0_now_4 0 rfl rfl)
theorem dX0_now_101 : decode cX0_now 101 = .ok (.aload_n 0, 1) := dk_42 (dk_at dksX0_now_4 1 rfl rfl)
theorem dX0_now_102 : decode cX0_now 102 = .ok (.aload_n 2, 1) := dk_44 (dk_at dksX0_now_4 2 rfl rfl)
theorem dX0_now_103 : decode cX0_now 103 = .ok (.invokevirtual 122, 3) := dk_182 0 122 (dk_at dksX0_now_4 3 rfl rfl)
theorem dX0_now_106 : decode cX0_now 106 = .ok (.ireturn, 1) := dk_172 (dk_at dksX0_now_4 6 rfl rfl)
abbrev cX0_bulks : ByteArray := prog_1_method_31_code
def yX0_bulks : MethodName := ⟨RX0, "bulks", "()I"⟩
def dkwX0_bulks_1 : List UInt8 := [180, 0, 126, 4, 46, 96, 60, 132, 2, 1, 167, 255, 226, 27, 172]
abbrev dktX0_bulks_1 : List UInt8 := dkwX0_bulks_1 ++ []
def dkwX0_bulks_0 : List UInt8 := [3, 60, 3, 61, 28, 42, 180, 0, 50, 180, 0, 91, 162, 0, 25, 27, 42, 180, 0, 50, 28, 182, 0, 94]
abbrev dktX0_bulks_0 : List UInt8 := dkwX0_bulks_0 ++ dktX0_bulks_1
theorem dksX0_bulks_0 : cX0_bulks.data.toList.drop 0 = dktX0_bulks_0 := by decide +kernel
theorem dksX0_bulks_1 : cX0_bulks.data.toList.drop 24 = dktX0_bulks_1 := dk_seg dksX0_bulks_0 24 rfl rfl
theorem dX0_bulks_0 : decode cX0_bulks 0 = .ok (.iconst 0, 1) := dk_3 (dk_at dksX0_bulks_0 0 rfl rfl)
theorem dX0_bulks_1 : decode cX0_bulks 1 = .ok (.istore_n 1, 1) := dk_60 (dk_at dksX0_bulks_0 1 rfl rfl)
theorem dX0_bulks_2 : decode cX0_bulks 2 = .ok (.iconst 0, 1) := dk_3 (dk_at dksX0_bulks_0 2 rfl rfl)
theorem dX0_bulks_3 : decode cX0_bulks 3 = .ok (.istore_n 2, 1) := dk_61 (dk_at dksX0_bulks_0 3 rfl rfl)
theorem dX0_bulks_4 : decode cX0_bulks 4 = .ok (.iload_n 2, 1) := dk_28 (dk_at dksX0_bulks_0 4 rfl rfl)
theorem dX0_bulks_5 : decode cX0_bulks 5 = .ok (.aload_n 0, 1) := dk_42 (dk_at dksX0_bulks_0 5 rfl rfl)
theorem dX0_bulks_6 : decode cX0_bulks 6 = .ok (.getfield 50, 3) := dk_180 0 50 (dk_at dksX0_bulks_0 6 rfl rfl)
theorem dX0_bulks_9 : decode cX0_bulks 9 = .ok (.getfield 91, 3) := dk_180 0 91 (dk_at dksX0_bulks_0 9 rfl rfl)
theorem dX0_bulks_12 : decode cX0_bulks 12 = .ok (.if_icmp .ge 25, 3) := dk_162 0 25 (dk_at dksX0_bulks_0 12 rfl rfl)
theorem dX0_bulks_15 : decode cX0_bulks 15 = .ok (.iload_n 1, 1) := dk_27 (dk_at dksX0_bulks_0 15 rfl rfl)
theorem dX0_bulks_16 : decode cX0_bulks 16 = .ok (.aload_n 0, 1) := dk_42 (dk_at dksX0_bulks_0 16 rfl rfl)
theorem dX0_bulks_17 : decode cX0_bulks 17 = .ok (.getfield 50, 3) := dk_180 0 50 (dk_at dksX0_bulks_0 17 rfl rfl)
theorem dX0_bulks_20 : decode cX0_bulks 20 = .ok (.iload_n 2, 1) := dk_28 (dk_at dksX0_bulks_0 20 rfl rfl)
theorem dX0_bulks_21 : decode cX0_bulks 21 = .ok (.invokevirtual 94, 3) := dk_182 0 94 (dk_at dksX0_bulks_0 21 rfl rfl)
theorem dX0_bulks_24 : decode cX0_bulks 24 = .ok (.getfield 126, 3) := dk_180 0 126 (dk_at dksX0_bulks_1 0 rfl rfl)
theorem dX0_bulks_27 : decode cX0_bulks 27 = .ok (.iconst 1, 1) := dk_4 (dk_at dksX0_bulks_1 3 rfl rfl)
theorem dX0_bulks_28 : decode cX0_bulks 28 = .ok (.iaload, 1) := dk_46 (dk_at dksX0_bulks_1 4 rfl rfl)
theorem dX0_bulks_29 : decode cX0_bulks 29 = .ok (.iadd, 1) := dk_96 (dk_at dksX0_bulks_1 5 rfl rfl)
theorem dX0_bulks_30 : decode cX0_bulks 30 = .ok (.istore_n 1, 1) := dk_60 (dk_at dksX0_bulks_1 6 rfl rfl)
theorem dX0_bulks_31 : decode cX0_bulks 31 = .ok (.iinc 2 1, 3) := dk_132 2 1 (dk_at dksX0_bulks_1 7 rfl rfl)
theorem dX0_bulks_34 : decode cX0_bulks 34 = .ok (.goto (-30), 3) := dk_167 255 226 (dk_at dksX0_bulks_1 10 rfl rfl)
theorem dX0_bulks_37 : decode cX0_bulks 37 = .ok (.iload_n 1, 1) := dk_27 (dk_at dksX0_bulks_1 13 rfl rfl)
theorem dX0_bulks_38 : decode cX0_bulks 38 = .ok (.ireturn, 1) := dk_172 (dk_at dksX0_bulks_1 14 rfl rfl)
abbrev cX0_freeBeds : ByteArray := prog_1_method_32_code
def yX0_freeBeds : MethodName := ⟨RX0, "freeBeds", "()I"⟩
def dkwX0_freeBeds_1 : List UInt8 := [180, 0, 50, 28, 182, 0, 131, 184, 0, 209, 100, 184, 0, 214, 96, 60, 132, 2, 1, 167, 255, 219, 27, 172]
abbrev dktX0_freeBeds_1 : List UInt8 := dkwX0_freeBeds_1 ++ []
def dkwX0_freeBeds_0 : List UInt8 := [3, 60, 3, 61, 28, 16, 8, 162, 0, 37, 27, 3, 42, 180, 0, 50, 180, 0, 206, 28, 46, 42]
abbrev dktX0_freeBeds_0 : List UInt8 := dkwX0_freeBeds_0 ++ dktX0_freeBeds_1
theorem dksX0_freeBeds_0 : cX0_freeBeds.data.toList.drop 0 = dktX0_freeBeds_0 := by decide +kernel
theorem dksX0_freeBeds_1 : cX0_freeBeds.data.toList.drop 22 = dktX0_freeBeds_1 := dk_seg dksX0_freeBeds_0 22 rfl rfl
theorem dX0_freeBeds_0 : decode cX0_freeBeds 0 = .ok (.iconst 0, 1) := dk_3 (dk_at dksX0_freeBeds_0 0 rfl rfl)
theorem dX0_freeBeds_1 : decode cX0_freeBeds 1 = .ok (.istore_n 1, 1) := dk_60 (dk_at dksX0_freeBeds_0 1 rfl rfl)
theorem dX0_freeBeds_2 : decode cX0_freeBeds 2 = .ok (.iconst 0, 1) := dk_3 (dk_at dksX0_freeBeds_0 2 rfl rfl)
theorem dX0_freeBeds_3 : decode cX0_freeBeds 3 = .ok (.istore_n 2, 1) := dk_61 (dk_at dksX0_freeBeds_0 3 rfl rfl)
theorem dX0_freeBeds_4 : decode cX0_freeBeds 4 = .ok (.iload_n 2, 1) := dk_28 (dk_at dksX0_freeBeds_0 4 rfl rfl)
theorem dX0_freeBeds_5 : decode cX0_freeBeds 5 = .ok (.bipush 8, 2) := dk_16 8 (dk_at dksX0_freeBeds_0 5 rfl rfl)
theorem dX0_freeBeds_7 : decode cX0_freeBeds 7 = .ok (.if_icmp .ge 37, 3) := dk_162 0 37 (dk_at dksX0_freeBeds_0 7 rfl rfl)
theorem dX0_freeBeds_10 : decode cX0_freeBeds 10 = .ok (.iload_n 1, 1) := dk_27 (dk_at dksX0_freeBeds_0 10 rfl rfl)
theorem dX0_freeBeds_11 : decode cX0_freeBeds 11 = .ok (.iconst 0, 1) := dk_3 (dk_at dksX0_freeBeds_0 11 rfl rfl)
theorem dX0_freeBeds_12 : decode cX0_freeBeds 12 = .ok (.aload_n 0, 1) := dk_42 (dk_at dksX0_freeBeds_0 12 rfl rfl)
theorem dX0_freeBeds_13 : decode cX0_freeBeds 13 = .ok (.getfield 50, 3) := dk_180 0 50 (dk_at dksX0_freeBeds_0 13 rfl rfl)
theorem dX0_freeBeds_16 : decode cX0_freeBeds 16 = .ok (.getfield 206, 3) := dk_180 0 206 (dk_at dksX0_freeBeds_0 16 rfl rfl)
theorem dX0_freeBeds_19 : decode cX0_freeBeds 19 = .ok (.iload_n 2, 1) := dk_28 (dk_at dksX0_freeBeds_0 19 rfl rfl)
theorem dX0_freeBeds_20 : decode cX0_freeBeds 20 = .ok (.iaload, 1) := dk_46 (dk_at dksX0_freeBeds_0 20 rfl rfl)
theorem dX0_freeBeds_21 : decode cX0_freeBeds 21 = .ok (.aload_n 0, 1) := dk_42 (dk_at dksX0_freeBeds_0 21 rfl rfl)
theorem dX0_freeBeds_22 : decode cX0_freeBeds 22 = .ok (.getfield 50, 3) := dk_180 0 50 (dk_at dksX0_freeBeds_1 0 rfl rfl)
theorem dX0_freeBeds_25 : decode cX0_freeBeds 25 = .ok (.iload_n 2, 1) := dk_28 (dk_at dksX0_freeBeds_1 3 rfl rfl)
theorem dX0_freeBeds_26 : decode cX0_freeBeds 26 = .ok (.invokevirtual 131, 3) := dk_182 0 131 (dk_at dksX0_freeBeds_1 4 rfl rfl)
theorem dX0_freeBeds_29 : decode cX0_freeBeds 29 = .ok (.invokestatic 209, 3) := dk_184 0 209 (dk_at dksX0_freeBeds_1 7 rfl rfl)
theorem dX0_freeBeds_32 : decode cX0_freeBeds 32 = .ok (.isub, 1) := dk_100 (dk_at dksX0_freeBeds_1 10 rfl rfl)
theorem dX0_freeBeds_33 : decode cX0_freeBeds 33 = .ok (.invokestatic 214, 3) := dk_184 0 214 (dk_at dksX0_freeBeds_1 11 rfl rfl)
theorem dX0_freeBeds_36 : decode cX0_freeBeds 36 = .ok (.iadd, 1) := dk_96 (dk_at dksX0_freeBeds_1 14 rfl rfl)
theorem dX0_freeBeds_37 : decode cX0_freeBeds 37 = .ok (.istore_n 1, 1) := dk_60 (dk_at dksX0_freeBeds_1 15 rfl rfl)
theorem dX0_freeBeds_38 : decode cX0_freeBeds 38 = .ok (.iinc 2 1, 3) := dk_132 2 1 (dk_at dksX0_freeBeds_1 16 rfl rfl)
theorem dX0_freeBeds_41 : decode cX0_freeBeds 41 = .ok (.goto (-37), 3) := dk_167 255 219 (dk_at dksX0_freeBeds_1 19 rfl rfl)
theorem dX0_freeBeds_44 : decode cX0_freeBeds 44 = .ok (.iload_n 1, 1) := dk_27 (dk_at dksX0_freeBeds_1 22 rfl rfl)
theorem dX0_freeBeds_45 : decode cX0_freeBeds 45 = .ok (.ireturn, 1) := dk_172 (dk_at dksX0_freeBeds_1 23 rfl rfl)
abbrev cX0_allEaten : ByteArray := prog_1_method_33_code
def yX0_allEaten : MethodName := ⟨RX0, "allEaten", "()I"⟩
def dkwX0_allEaten_1 : List UInt8 := [167, 255, 236, 27, 172]
abbrev dktX0_allEaten_1 : List UInt8 := dkwX0_allEaten_1 ++ []
def dkwX0_allEaten_0 : List UInt8 := [3, 60, 3, 61, 28, 16, 8, 162, 0, 20, 27, 42, 180, 0, 50, 28, 182, 0, 138, 96, 60, 132, 2, 1]
abbrev dktX0_allEaten_0 : List UInt8 := dkwX0_allEaten_0 ++ dktX0_allEaten_1
theorem dksX0_allEaten_0 : cX0_allEaten.data.toList.drop 0 = dktX0_allEaten_0 := by decide +kernel
theorem dksX0_allEaten_1 : cX0_allEaten.data.toList.drop 24 = dktX0_allEaten_1 := dk_seg dksX0_allEaten_0 24 rfl rfl
theorem dX0_allEaten_0 : decode cX0_allEaten 0 = .ok (.iconst 0, 1) := dk_3 (dk_at dksX0_allEaten_0 0 rfl rfl)
theorem dX0_allEaten_1 : decode cX0_allEaten 1 = .ok (.istore_n 1, 1) := dk_60 (dk_at dksX0_allEaten_0 1 rfl rfl)
theorem dX0_allEaten_2 : decode cX0_allEaten 2 = .ok (.iconst 0, 1) := dk_3 (dk_at dksX0_allEaten_0 2 rfl rfl)
theorem dX0_allEaten_3 : decode cX0_allEaten 3 = .ok (.istore_n 2, 1) := dk_61 (dk_at dksX0_allEaten_0 3 rfl rfl)
theorem dX0_allEaten_4 : decode cX0_allEaten 4 = .ok (.iload_n 2, 1) := dk_28 (dk_at dksX0_allEaten_0 4 rfl rfl)
theorem dX0_allEaten_5 : decode cX0_allEaten 5 = .ok (.bipush 8, 2) := dk_16 8 (dk_at dksX0_allEaten_0 5 rfl rfl)
theorem dX0_allEaten_7 : decode cX0_allEaten 7 = .ok (.if_icmp .ge 20, 3) := dk_162 0 20 (dk_at dksX0_allEaten_0 7 rfl rfl)
theorem dX0_allEaten_10 : decode cX0_allEaten 10 = .ok (.iload_n 1, 1) := dk_27 (dk_at dksX0_allEaten_0 10 rfl rfl)
theorem dX0_allEaten_11 : decode cX0_allEaten 11 = .ok (.aload_n 0, 1) := dk_42 (dk_at dksX0_allEaten_0 11 rfl rfl)
theorem dX0_allEaten_12 : decode cX0_allEaten 12 = .ok (.getfield 50, 3) := dk_180 0 50 (dk_at dksX0_allEaten_0 12 rfl rfl)
theorem dX0_allEaten_15 : decode cX0_allEaten 15 = .ok (.iload_n 2, 1) := dk_28 (dk_at dksX0_allEaten_0 15 rfl rfl)
theorem dX0_allEaten_16 : decode cX0_allEaten 16 = .ok (.invokevirtual 138, 3) := dk_182 0 138 (dk_at dksX0_allEaten_0 16 rfl rfl)
theorem dX0_allEaten_19 : decode cX0_allEaten 19 = .ok (.iadd, 1) := dk_96 (dk_at dksX0_allEaten_0 19 rfl rfl)
theorem dX0_allEaten_20 : decode cX0_allEaten 20 = .ok (.istore_n 1, 1) := dk_60 (dk_at dksX0_allEaten_0 20 rfl rfl)
theorem dX0_allEaten_21 : decode cX0_allEaten 21 = .ok (.iinc 2 1, 3) := dk_132 2 1 (dk_at dksX0_allEaten_0 21 rfl rfl)
theorem dX0_allEaten_24 : decode cX0_allEaten 24 = .ok (.goto (-20), 3) := dk_167 255 236 (dk_at dksX0_allEaten_1 0 rfl rfl)
theorem dX0_allEaten_27 : decode cX0_allEaten 27 = .ok (.iload_n 1, 1) := dk_27 (dk_at dksX0_allEaten_1 3 rfl rfl)
theorem dX0_allEaten_28 : decode cX0_allEaten 28 = .ok (.ireturn, 1) := dk_172 (dk_at dksX0_allEaten_1 4 rfl rfl)
abbrev cX0_on : ByteArray := prog_1_method_35_code
def yX0_on : MethodName := ⟨RX0, "on", "(III)I"⟩
def dkwX0_on_2 : List UInt8 := [180, 0, 126, 29, 154, 0, 7, 6, 167, 0, 4, 4, 46, 172, 58, 4, 42, 25, 4, 182, 0, 122, 172]
abbrev dktX0_on_2 : List UInt8 := dkwX0_on_2 ++ []
def dkwX0_on_1 : List UInt8 := [167, 0, 4, 3, 184, 0, 114, 42, 182, 0, 237, 28, 182, 0, 203, 42, 180, 0, 60, 27, 182, 0, 94]
abbrev dktX0_on_1 : List UInt8 := dkwX0_on_1 ++ dktX0_on_2
def dkwX0_on_0 : List UInt8 := [42, 27, 182, 0, 148, 87, 28, 184, 0, 234, 153, 0, 17, 29, 133, 9, 10, 184, 0, 16, 153, 0, 7, 4]
abbrev dktX0_on_0 : List UInt8 := dkwX0_on_0 ++ dktX0_on_1
theorem dksX0_on_0 : cX0_on.data.toList.drop 0 = dktX0_on_0 := by decide +kernel
theorem dksX0_on_1 : cX0_on.data.toList.drop 24 = dktX0_on_1 := dk_seg dksX0_on_0 24 rfl rfl
theorem dksX0_on_2 : cX0_on.data.toList.drop 47 = dktX0_on_2 := dk_seg dksX0_on_1 23 rfl rfl
theorem dX0_on_0 : decode cX0_on 0 = .ok (.aload_n 0, 1) := dk_42 (dk_at dksX0_on_0 0 rfl rfl)
theorem dX0_on_1 : decode cX0_on 1 = .ok (.iload_n 1, 1) := dk_27 (dk_at dksX0_on_0 1 rfl rfl)
theorem dX0_on_2 : decode cX0_on 2 = .ok (.invokevirtual 148, 3) := dk_182 0 148 (dk_at dksX0_on_0 2 rfl rfl)
theorem dX0_on_5 : decode cX0_on 5 = .ok (.pop, 1) := dk_87 (dk_at dksX0_on_0 5 rfl rfl)
theorem dX0_on_6 : decode cX0_on 6 = .ok (.iload_n 2, 1) := dk_28 (dk_at dksX0_on_0 6 rfl rfl)
theorem dX0_on_7 : decode cX0_on 7 = .ok (.invokestatic 234, 3) := dk_184 0 234 (dk_at dksX0_on_0 7 rfl rfl)
theorem dX0_on_10 : decode cX0_on 10 = .ok (.ifCond .eq 17, 3) := dk_153 0 17 (dk_at dksX0_on_0 10 rfl rfl)
theorem dX0_on_13 : decode cX0_on 13 = .ok (.iload_n 3, 1) := dk_29 (dk_at dksX0_on_0 13 rfl rfl)
theorem dX0_on_14 : decode cX0_on 14 = .ok (.i2l, 1) := dk_133 (dk_at dksX0_on_0 14 rfl rfl)
theorem dX0_on_15 : decode cX0_on 15 = .ok (.lconst 0, 1) := dk_9 (dk_at dksX0_on_0 15 rfl rfl)
theorem dX0_on_16 : decode cX0_on 16 = .ok (.lconst 1, 1) := dk_10 (dk_at dksX0_on_0 16 rfl rfl)
theorem dX0_on_17 : decode cX0_on 17 = .ok (.invokestatic 16, 3) := dk_184 0 16 (dk_at dksX0_on_0 17 rfl rfl)
theorem dX0_on_20 : decode cX0_on 20 = .ok (.ifCond .eq 7, 3) := dk_153 0 7 (dk_at dksX0_on_0 20 rfl rfl)
theorem dX0_on_23 : decode cX0_on 23 = .ok (.iconst 1, 1) := dk_4 (dk_at dksX0_on_0 23 rfl rfl)
theorem dX0_on_24 : decode cX0_on 24 = .ok (.goto 4, 3) := dk_167 0 4 (dk_at dksX0_on_1 0 rfl rfl)
theorem dX0_on_27 : decode cX0_on 27 = .ok (.iconst 0, 1) := dk_3 (dk_at dksX0_on_1 3 rfl rfl)
theorem dX0_on_28 : decode cX0_on 28 = .ok (.invokestatic 114, 3) := dk_184 0 114 (dk_at dksX0_on_1 4 rfl rfl)
theorem dX0_on_31 : decode cX0_on 31 = .ok (.aload_n 0, 1) := dk_42 (dk_at dksX0_on_1 7 rfl rfl)
theorem dX0_on_32 : decode cX0_on 32 = .ok (.invokevirtual 237, 3) := dk_182 0 237 (dk_at dksX0_on_1 8 rfl rfl)
theorem dX0_on_35 : decode cX0_on 35 = .ok (.iload_n 2, 1) := dk_28 (dk_at dksX0_on_1 11 rfl rfl)
theorem dX0_on_36 : decode cX0_on 36 = .ok (.invokevirtual 203, 3) := dk_182 0 203 (dk_at dksX0_on_1 12 rfl rfl)
theorem dX0_on_39 : decode cX0_on 39 = .ok (.aload_n 0, 1) := dk_42 (dk_at dksX0_on_1 15 rfl rfl)
theorem dX0_on_40 : decode cX0_on 40 = .ok (.getfield 60, 3) := dk_180 0 60 (dk_at dksX0_on_1 16 rfl rfl)
theorem dX0_on_43 : decode cX0_on 43 = .ok (.iload_n 1, 1) := dk_27 (dk_at dksX0_on_1 19 rfl rfl)
theorem dX0_on_44 : decode cX0_on 44 = .ok (.invokevirtual 94, 3) := dk_182 0 94 (dk_at dksX0_on_1 20 rfl rfl)
theorem dX0_on_47 : decode cX0_on 47 = .ok (.getfield 126, 3) := dk_180 0 126 (dk_at dksX0_on_2 0 rfl rfl)
theorem dX0_on_50 : decode cX0_on 50 = .ok (.iload_n 3, 1) := dk_29 (dk_at dksX0_on_2 3 rfl rfl)
theorem dX0_on_51 : decode cX0_on 51 = .ok (.ifCond .ne 7, 3) := dk_154 0 7 (dk_at dksX0_on_2 4 rfl rfl)
theorem dX0_on_54 : decode cX0_on 54 = .ok (.iconst 3, 1) := dk_6 (dk_at dksX0_on_2 7 rfl rfl)
theorem dX0_on_55 : decode cX0_on 55 = .ok (.goto 4, 3) := dk_167 0 4 (dk_at dksX0_on_2 8 rfl rfl)
theorem dX0_on_58 : decode cX0_on 58 = .ok (.iconst 1, 1) := dk_4 (dk_at dksX0_on_2 11 rfl rfl)
theorem dX0_on_59 : decode cX0_on 59 = .ok (.iaload, 1) := dk_46 (dk_at dksX0_on_2 12 rfl rfl)
theorem dX0_on_60 : decode cX0_on 60 = .ok (.ireturn, 1) := dk_172 (dk_at dksX0_on_2 13 rfl rfl)
theorem dX0_on_61 : decode cX0_on 61 = .ok (.astore 4, 2) := dk_58 4 (dk_at dksX0_on_2 14 rfl rfl)
theorem dX0_on_63 : decode cX0_on 63 = .ok (.aload_n 0, 1) := dk_42 (dk_at dksX0_on_2 16 rfl rfl)
theorem dX0_on_64 : decode cX0_on 64 = .ok (.aload 4, 2) := dk_25 4 (dk_at dksX0_on_2 17 rfl rfl)
theorem dX0_on_66 : decode cX0_on 66 = .ok (.invokevirtual 122, 3) := dk_182 0 122 (dk_at dksX0_on_2 19 rfl rfl)
theorem dX0_on_69 : decode cX0_on 69 = .ok (.ireturn, 1) := dk_172 (dk_at dksX0_on_2 22 rfl rfl)
abbrev cX0_isAhead : ByteArray := prog_1_method_7_code
def yX0_isAhead : MethodName := ⟨RX0, "isAhead", "(I)Z"⟩
def dkwX0_isAhead_0 : List UInt8 := [26, 133, 9, 20, 0, 22, 184, 0, 16, 172]
abbrev dktX0_isAhead_0 : List UInt8 := dkwX0_isAhead_0 ++ []
theorem dksX0_isAhead_0 : cX0_isAhead.data.toList.drop 0 = dktX0_isAhead_0 := by decide +kernel
theorem dX0_isAhead_0 : decode cX0_isAhead 0 = .ok (.iload_n 0, 1) := dk_26 (dk_at dksX0_isAhead_0 0 rfl rfl)
theorem dX0_isAhead_1 : decode cX0_isAhead 1 = .ok (.i2l, 1) := dk_133 (dk_at dksX0_isAhead_0 1 rfl rfl)
theorem dX0_isAhead_2 : decode cX0_isAhead 2 = .ok (.lconst 0, 1) := dk_9 (dk_at dksX0_isAhead_0 2 rfl rfl)
theorem dX0_isAhead_3 : decode cX0_isAhead 3 = .ok (.ldc2_w 22, 3) := dk_20 0 22 (dk_at dksX0_isAhead_0 3 rfl rfl)
theorem dX0_isAhead_6 : decode cX0_isAhead 6 = .ok (.invokestatic 16, 3) := dk_184 0 16 (dk_at dksX0_isAhead_0 6 rfl rfl)
theorem dX0_isAhead_9 : decode cX0_isAhead 9 = .ok (.ireturn, 1) := dk_172 (dk_at dksX0_isAhead_0 9 rfl rfl)
abbrev cX0_tried : ByteArray := prog_1_method_15_code
def yX0_tried : MethodName := ⟨RX0, "tried", "()LRumourBeds$Town;"⟩
def dkwX0_tried_0 : List UInt8 := [42, 180, 0, 60, 42, 180, 0, 50, 182, 0, 98, 42, 180, 0, 60, 176]
abbrev dktX0_tried_0 : List UInt8 := dkwX0_tried_0 ++ []
theorem dksX0_tried_0 : cX0_tried.data.toList.drop 0 = dktX0_tried_0 := by decide +kernel
theorem dX0_tried_0 : decode cX0_tried 0 = .ok (.aload_n 0, 1) := dk_42 (dk_at dksX0_tried_0 0 rfl rfl)
theorem dX0_tried_1 : decode cX0_tried 1 = .ok (.getfield 60, 3) := dk_180 0 60 (dk_at dksX0_tried_0 1 rfl rfl)
theorem dX0_tried_4 : decode cX0_tried 4 = .ok (.aload_n 0, 1) := dk_42 (dk_at dksX0_tried_0 4 rfl rfl)
theorem dX0_tried_5 : decode cX0_tried 5 = .ok (.getfield 50, 3) := dk_180 0 50 (dk_at dksX0_tried_0 5 rfl rfl)
theorem dX0_tried_8 : decode cX0_tried 8 = .ok (.invokevirtual 98, 3) := dk_182 0 98 (dk_at dksX0_tried_0 8 rfl rfl)
theorem dX0_tried_11 : decode cX0_tried 11 = .ok (.aload_n 0, 1) := dk_42 (dk_at dksX0_tried_0 11 rfl rfl)
theorem dX0_tried_12 : decode cX0_tried 12 = .ok (.getfield 60, 3) := dk_180 0 60 (dk_at dksX0_tried_0 12 rfl rfl)
theorem dX0_tried_15 : decode cX0_tried 15 = .ok (.areturn, 1) := dk_176 (dk_at dksX0_tried_0 15 rfl rfl)
abbrev cX0_larder : ByteArray := prog_1_method_36_code
def yX0_larder : MethodName := ⟨RX0, "larder", "(II)I"⟩
def dkwX0_larder_1 : List UInt8 := [182, 0, 237, 28, 182, 0, 203, 42, 180, 0, 60, 180, 0, 241, 27, 46, 172, 78, 42, 45, 182, 0, 122, 172]
abbrev dktX0_larder_1 : List UInt8 := dkwX0_larder_1 ++ []
def dkwX0_larder_0 : List UInt8 := [27, 184, 0, 102, 153, 0, 14, 28, 184, 0, 234, 153, 0, 7, 4, 167, 0, 4, 3, 184, 0, 114, 42]
abbrev dktX0_larder_0 : List UInt8 := dkwX0_larder_0 ++ dktX0_larder_1
theorem dksX0_larder_0 : cX0_larder.data.toList.drop 0 = dktX0_larder_0 := by decide +kernel
theorem dksX0_larder_1 : cX0_larder.data.toList.drop 23 = dktX0_larder_1 := dk_seg dksX0_larder_0 23 rfl rfl
theorem dX0_larder_0 : decode cX0_larder 0 = .ok (.iload_n 1, 1) := dk_27 (dk_at dksX0_larder_0 0 rfl rfl)
theorem dX0_larder_1 : decode cX0_larder 1 = .ok (.invokestatic 102, 3) := dk_184 0 102 (dk_at dksX0_larder_0 1 rfl rfl)
theorem dX0_larder_4 : decode cX0_larder 4 = .ok (.ifCond .eq 14, 3) := dk_153 0 14 (dk_at dksX0_larder_0 4 rfl rfl)
theorem dX0_larder_7 : decode cX0_larder 7 = .ok (.iload_n 2, 1) := dk_28 (dk_at dksX0_larder_0 7 rfl rfl)
theorem dX0_larder_8 : decode cX0_larder 8 = .ok (.invokestatic 234, 3) := dk_184 0 234 (dk_at dksX0_larder_0 8 rfl rfl)
theorem dX0_larder_11 : decode cX0_larder 11 = .ok (.ifCond .eq 7, 3) := dk_153 0 7 (dk_at dksX0_larder_0 11 rfl rfl)
theorem dX0_larder_14 : decode cX0_larder 14 = .ok (.iconst 1, 1) := dk_4 (dk_at dksX0_larder_0 14 rfl rfl)
theorem dX0_larder_15 : decode cX0_larder 15 = .ok (.goto 4, 3) := dk_167 0 4 (dk_at dksX0_larder_0 15 rfl rfl)
theorem dX0_larder_18 : decode cX0_larder 18 = .ok (.iconst 0, 1) := dk_3 (dk_at dksX0_larder_0 18 rfl rfl)
theorem dX0_larder_19 : decode cX0_larder 19 = .ok (.invokestatic 114, 3) := dk_184 0 114 (dk_at dksX0_larder_0 19 rfl rfl)
theorem dX0_larder_22 : decode cX0_larder 22 = .ok (.aload_n 0, 1) := dk_42 (dk_at dksX0_larder_0 22 rfl rfl)
theorem dX0_larder_23 : decode cX0_larder 23 = .ok (.invokevirtual 237, 3) := dk_182 0 237 (dk_at dksX0_larder_1 0 rfl rfl)
theorem dX0_larder_26 : decode cX0_larder 26 = .ok (.iload_n 2, 1) := dk_28 (dk_at dksX0_larder_1 3 rfl rfl)
theorem dX0_larder_27 : decode cX0_larder 27 = .ok (.invokevirtual 203, 3) := dk_182 0 203 (dk_at dksX0_larder_1 4 rfl rfl)
theorem dX0_larder_30 : decode cX0_larder 30 = .ok (.aload_n 0, 1) := dk_42 (dk_at dksX0_larder_1 7 rfl rfl)
theorem dX0_larder_31 : decode cX0_larder 31 = .ok (.getfield 60, 3) := dk_180 0 60 (dk_at dksX0_larder_1 8 rfl rfl)
theorem dX0_larder_34 : decode cX0_larder 34 = .ok (.getfield 241, 3) := dk_180 0 241 (dk_at dksX0_larder_1 11 rfl rfl)
theorem dX0_larder_37 : decode cX0_larder 37 = .ok (.iload_n 1, 1) := dk_27 (dk_at dksX0_larder_1 14 rfl rfl)
theorem dX0_larder_38 : decode cX0_larder 38 = .ok (.iaload, 1) := dk_46 (dk_at dksX0_larder_1 15 rfl rfl)
theorem dX0_larder_39 : decode cX0_larder 39 = .ok (.ireturn, 1) := dk_172 (dk_at dksX0_larder_1 16 rfl rfl)
theorem dX0_larder_40 : decode cX0_larder 40 = .ok (.astore_n 3, 1) := dk_78 (dk_at dksX0_larder_1 17 rfl rfl)
theorem dX0_larder_41 : decode cX0_larder 41 = .ok (.aload_n 0, 1) := dk_42 (dk_at dksX0_larder_1 18 rfl rfl)
theorem dX0_larder_42 : decode cX0_larder 42 = .ok (.aload_n 3, 1) := dk_45 (dk_at dksX0_larder_1 19 rfl rfl)
theorem dX0_larder_43 : decode cX0_larder 43 = .ok (.invokevirtual 122, 3) := dk_182 0 122 (dk_at dksX0_larder_1 20 rfl rfl)
theorem dX0_larder_46 : decode cX0_larder 46 = .ok (.ireturn, 1) := dk_172 (dk_at dksX0_larder_1 23 rfl rfl)
abbrev cX0_empty : ByteArray := prog_1_method_37_code
def yX0_empty : MethodName := ⟨RX0, "empty", "(I)I"⟩
def dkwX0_empty_2 : List UInt8 := [187, 0, 1, 89, 6, 183, 0, 3, 191, 77, 42, 44, 182, 0, 122, 172]
abbrev dktX0_empty_2 : List UInt8 := dkwX0_empty_2 ++ []
def dkwX0_empty_1 : List UInt8 := [180, 0, 241, 27, 46, 154, 0, 5, 28, 172, 42, 180, 0, 60, 182, 0, 244, 132, 2, 1, 167, 255, 226]
abbrev dktX0_empty_1 : List UInt8 := dkwX0_empty_1 ++ dktX0_empty_2
def dkwX0_empty_0 : List UInt8 := [27, 184, 0, 102, 184, 0, 114, 42, 182, 0, 237, 87, 3, 61, 28, 16, 60, 163, 0, 30, 42, 180, 0, 60]
abbrev dktX0_empty_0 : List UInt8 := dkwX0_empty_0 ++ dktX0_empty_1
theorem dksX0_empty_0 : cX0_empty.data.toList.drop 0 = dktX0_empty_0 := by decide +kernel
theorem dksX0_empty_1 : cX0_empty.data.toList.drop 24 = dktX0_empty_1 := dk_seg dksX0_empty_0 24 rfl rfl
theorem dksX0_empty_2 : cX0_empty.data.toList.drop 47 = dktX0_empty_2 := dk_seg dksX0_empty_1 23 rfl rfl
theorem dX0_empty_0 : decode cX0_empty 0 = .ok (.iload_n 1, 1) := dk_27 (dk_at dksX0_empty_0 0 rfl rfl)
theorem dX0_empty_1 : decode cX0_empty 1 = .ok (.invokestatic 102, 3) := dk_184 0 102 (dk_at dksX0_empty_0 1 rfl rfl)
theorem dX0_empty_4 : decode cX0_empty 4 = .ok (.invokestatic 114, 3) := dk_184 0 114 (dk_at dksX0_empty_0 4 rfl rfl)
theorem dX0_empty_7 : decode cX0_empty 7 = .ok (.aload_n 0, 1) := dk_42 (dk_at dksX0_empty_0 7 rfl rfl)
theorem dX0_empty_8 : decode cX0_empty 8 = .ok (.invokevirtual 237, 3) := dk_182 0 237 (dk_at dksX0_empty_0 8 rfl rfl)
theorem dX0_empty_11 : decode cX0_empty 11 = .ok (.pop, 1) := dk_87 (dk_at dksX0_empty_0 11 rfl rfl)
theorem dX0_empty_12 : decode cX0_empty 12 = .ok (.iconst 0, 1) := dk_3 (dk_at dksX0_empty_0 12 rfl rfl)
theorem dX0_empty_13 : decode cX0_empty 13 = .ok (.istore_n 2, 1) := dk_61 (dk_at dksX0_empty_0 13 rfl rfl)
theorem dX0_empty_14 : decode cX0_empty 14 = .ok (.iload_n 2, 1) := dk_28 (dk_at dksX0_empty_0 14 rfl rfl)
theorem dX0_empty_15 : decode cX0_empty 15 = .ok (.bipush 60, 2) := dk_16 60 (dk_at dksX0_empty_0 15 rfl rfl)
theorem dX0_empty_17 : decode cX0_empty 17 = .ok (.if_icmp .gt 30, 3) := dk_163 0 30 (dk_at dksX0_empty_0 17 rfl rfl)
theorem dX0_empty_20 : decode cX0_empty 20 = .ok (.aload_n 0, 1) := dk_42 (dk_at dksX0_empty_0 20 rfl rfl)
theorem dX0_empty_21 : decode cX0_empty 21 = .ok (.getfield 60, 3) := dk_180 0 60 (dk_at dksX0_empty_0 21 rfl rfl)
theorem dX0_empty_24 : decode cX0_empty 24 = .ok (.getfield 241, 3) := dk_180 0 241 (dk_at dksX0_empty_1 0 rfl rfl)
theorem dX0_empty_27 : decode cX0_empty 27 = .ok (.iload_n 1, 1) := dk_27 (dk_at dksX0_empty_1 3 rfl rfl)
theorem dX0_empty_28 : decode cX0_empty 28 = .ok (.iaload, 1) := dk_46 (dk_at dksX0_empty_1 4 rfl rfl)
theorem dX0_empty_29 : decode cX0_empty 29 = .ok (.ifCond .ne 5, 3) := dk_154 0 5 (dk_at dksX0_empty_1 5 rfl rfl)
theorem dX0_empty_32 : decode cX0_empty 32 = .ok (.iload_n 2, 1) := dk_28 (dk_at dksX0_empty_1 8 rfl rfl)
theorem dX0_empty_33 : decode cX0_empty 33 = .ok (.ireturn, 1) := dk_172 (dk_at dksX0_empty_1 9 rfl rfl)
theorem dX0_empty_34 : decode cX0_empty 34 = .ok (.aload_n 0, 1) := dk_42 (dk_at dksX0_empty_1 10 rfl rfl)
theorem dX0_empty_35 : decode cX0_empty 35 = .ok (.getfield 60, 3) := dk_180 0 60 (dk_at dksX0_empty_1 11 rfl rfl)
theorem dX0_empty_38 : decode cX0_empty 38 = .ok (.invokevirtual 244, 3) := dk_182 0 244 (dk_at dksX0_empty_1 14 rfl rfl)
theorem dX0_empty_41 : decode cX0_empty 41 = .ok (.iinc 2 1, 3) := dk_132 2 1 (dk_at dksX0_empty_1 17 rfl rfl)
theorem dX0_empty_44 : decode cX0_empty 44 = .ok (.goto (-30), 3) := dk_167 255 226 (dk_at dksX0_empty_1 20 rfl rfl)
theorem dX0_empty_47 : decode cX0_empty 47 = .ok (.new 1, 3) := dk_187 0 1 (dk_at dksX0_empty_2 0 rfl rfl)
theorem dX0_empty_50 : decode cX0_empty 50 = .ok (.dup, 1) := dk_89 (dk_at dksX0_empty_2 3 rfl rfl)
theorem dX0_empty_51 : decode cX0_empty 51 = .ok (.iconst 3, 1) := dk_6 (dk_at dksX0_empty_2 4 rfl rfl)
theorem dX0_empty_52 : decode cX0_empty 52 = .ok (.invokespecial 3, 3) := dk_183 0 3 (dk_at dksX0_empty_2 5 rfl rfl)
theorem dX0_empty_55 : decode cX0_empty 55 = .ok (.athrow, 1) := dk_191 (dk_at dksX0_empty_2 8 rfl rfl)
theorem dX0_empty_56 : decode cX0_empty 56 = .ok (.astore_n 2, 1) := dk_77 (dk_at dksX0_empty_2 9 rfl rfl)
theorem dX0_empty_57 : decode cX0_empty 57 = .ok (.aload_n 0, 1) := dk_42 (dk_at dksX0_empty_2 10 rfl rfl)
theorem dX0_empty_58 : decode cX0_empty 58 = .ok (.aload_n 2, 1) := dk_44 (dk_at dksX0_empty_2 11 rfl rfl)
theorem dX0_empty_59 : decode cX0_empty 59 = .ok (.invokevirtual 122, 3) := dk_182 0 122 (dk_at dksX0_empty_2 12 rfl rfl)
theorem dX0_empty_62 : decode cX0_empty 62 = .ok (.ireturn, 1) := dk_172 (dk_at dksX0_empty_2 15 rfl rfl)
abbrev cX0_many : ByteArray := prog_1_method_38_code
def yX0_many : MethodName := ⟨RX0, "many", "(I)I"⟩
def dkwX0_many_1 : List UInt8 := [42, 44, 182, 0, 122, 172]
abbrev dktX0_many_1 : List UInt8 := dkwX0_many_1 ++ []
def dkwX0_many_0 : List UInt8 := [27, 184, 0, 234, 184, 0, 114, 42, 182, 0, 237, 27, 182, 0, 203, 42, 180, 0, 60, 180, 0, 91, 172, 77]
abbrev dktX0_many_0 : List UInt8 := dkwX0_many_0 ++ dktX0_many_1
theorem dksX0_many_0 : cX0_many.data.toList.drop 0 = dktX0_many_0 := by decide +kernel
theorem dksX0_many_1 : cX0_many.data.toList.drop 24 = dktX0_many_1 := dk_seg dksX0_many_0 24 rfl rfl
theorem dX0_many_0 : decode cX0_many 0 = .ok (.iload_n 1, 1) := dk_27 (dk_at dksX0_many_0 0 rfl rfl)
theorem dX0_many_1 : decode cX0_many 1 = .ok (.invokestatic 234, 3) := dk_184 0 234 (dk_at dksX0_many_0 1 rfl rfl)
theorem dX0_many_4 : decode cX0_many 4 = .ok (.invokestatic 114, 3) := dk_184 0 114 (dk_at dksX0_many_0 4 rfl rfl)
theorem dX0_many_7 : decode cX0_many 7 = .ok (.aload_n 0, 1) := dk_42 (dk_at dksX0_many_0 7 rfl rfl)
theorem dX0_many_8 : decode cX0_many 8 = .ok (.invokevirtual 237, 3) := dk_182 0 237 (dk_at dksX0_many_0 8 rfl rfl)
theorem dX0_many_11 : decode cX0_many 11 = .ok (.iload_n 1, 1) := dk_27 (dk_at dksX0_many_0 11 rfl rfl)
theorem dX0_many_12 : decode cX0_many 12 = .ok (.invokevirtual 203, 3) := dk_182 0 203 (dk_at dksX0_many_0 12 rfl rfl)
theorem dX0_many_15 : decode cX0_many 15 = .ok (.aload_n 0, 1) := dk_42 (dk_at dksX0_many_0 15 rfl rfl)
theorem dX0_many_16 : decode cX0_many 16 = .ok (.getfield 60, 3) := dk_180 0 60 (dk_at dksX0_many_0 16 rfl rfl)
theorem dX0_many_19 : decode cX0_many 19 = .ok (.getfield 91, 3) := dk_180 0 91 (dk_at dksX0_many_0 19 rfl rfl)
theorem dX0_many_22 : decode cX0_many 22 = .ok (.ireturn, 1) := dk_172 (dk_at dksX0_many_0 22 rfl rfl)
theorem dX0_many_23 : decode cX0_many 23 = .ok (.astore_n 2, 1) := dk_77 (dk_at dksX0_many_0 23 rfl rfl)
theorem dX0_many_24 : decode cX0_many 24 = .ok (.aload_n 0, 1) := dk_42 (dk_at dksX0_many_1 0 rfl rfl)
theorem dX0_many_25 : decode cX0_many 25 = .ok (.aload_n 2, 1) := dk_44 (dk_at dksX0_many_1 1 rfl rfl)
theorem dX0_many_26 : decode cX0_many 26 = .ok (.invokevirtual 122, 3) := dk_182 0 122 (dk_at dksX0_many_1 2 rfl rfl)
theorem dX0_many_29 : decode cX0_many 29 = .ok (.ireturn, 1) := dk_172 (dk_at dksX0_many_1 5 rfl rfl)
abbrev cX0_out : ByteArray := prog_1_method_39_code
def yX0_out : MethodName := ⟨RX0, "out", "(I)I"⟩
def dkwX0_out_2 : List UInt8 := [187, 0, 1, 89, 6, 183, 0, 3, 191, 77, 42, 44, 182, 0, 122, 172]
abbrev dktX0_out_2 : List UInt8 := dkwX0_out_2 ++ []
def dkwX0_out_1 : List UInt8 := [182, 0, 94, 182, 0, 176, 154, 0, 5, 28, 172, 42, 180, 0, 60, 182, 0, 244, 132, 2, 1, 167, 255, 224]
abbrev dktX0_out_1 : List UInt8 := dkwX0_out_1 ++ dktX0_out_2
def dkwX0_out_0 : List UInt8 := [42, 27, 182, 0, 148, 87, 42, 182, 0, 237, 87, 3, 61, 28, 16, 60, 163, 0, 32, 42, 180, 0, 60, 27]
abbrev dktX0_out_0 : List UInt8 := dkwX0_out_0 ++ dktX0_out_1
theorem dksX0_out_0 : cX0_out.data.toList.drop 0 = dktX0_out_0 := by decide +kernel
theorem dksX0_out_1 : cX0_out.data.toList.drop 24 = dktX0_out_1 := dk_seg dksX0_out_0 24 rfl rfl
theorem dksX0_out_2 : cX0_out.data.toList.drop 48 = dktX0_out_2 := dk_seg dksX0_out_1 24 rfl rfl
theorem dX0_out_0 : decode cX0_out 0 = .ok (.aload_n 0, 1) := dk_42 (dk_at dksX0_out_0 0 rfl rfl)
theorem dX0_out_1 : decode cX0_out 1 = .ok (.iload_n 1, 1) := dk_27 (dk_at dksX0_out_0 1 rfl rfl)
theorem dX0_out_2 : decode cX0_out 2 = .ok (.invokevirtual 148, 3) := dk_182 0 148 (dk_at dksX0_out_0 2 rfl rfl)
theorem dX0_out_5 : decode cX0_out 5 = .ok (.pop, 1) := dk_87 (dk_at dksX0_out_0 5 rfl rfl)
theorem dX0_out_6 : decode cX0_out 6 = .ok (.aload_n 0, 1) := dk_42 (dk_at dksX0_out_0 6 rfl rfl)
theorem dX0_out_7 : decode cX0_out 7 = .ok (.invokevirtual 237, 3) := dk_182 0 237 (dk_at dksX0_out_0 7 rfl rfl)
theorem dX0_out_10 : decode cX0_out 10 = .ok (.pop, 1) := dk_87 (dk_at dksX0_out_0 10 rfl rfl)
theorem dX0_out_11 : decode cX0_out 11 = .ok (.iconst 0, 1) := dk_3 (dk_at dksX0_out_0 11 rfl rfl)
theorem dX0_out_12 : decode cX0_out 12 = .ok (.istore_n 2, 1) := dk_61 (dk_at dksX0_out_0 12 rfl rfl)
theorem dX0_out_13 : decode cX0_out 13 = .ok (.iload_n 2, 1) := dk_28 (dk_at dksX0_out_0 13 rfl rfl)
theorem dX0_out_14 : decode cX0_out 14 = .ok (.bipush 60, 2) := dk_16 60 (dk_at dksX0_out_0 14 rfl rfl)
theorem dX0_out_16 : decode cX0_out 16 = .ok (.if_icmp .gt 32, 3) := dk_163 0 32 (dk_at dksX0_out_0 16 rfl rfl)
theorem dX0_out_19 : decode cX0_out 19 = .ok (.aload_n 0, 1) := dk_42 (dk_at dksX0_out_0 19 rfl rfl)
theorem dX0_out_20 : decode cX0_out 20 = .ok (.getfield 60, 3) := dk_180 0 60 (dk_at dksX0_out_0 20 rfl rfl)
theorem dX0_out_23 : decode cX0_out 23 = .ok (.iload_n 1, 1) := dk_27 (dk_at dksX0_out_0 23 rfl rfl)
theorem dX0_out_24 : decode cX0_out 24 = .ok (.invokevirtual 94, 3) := dk_182 0 94 (dk_at dksX0_out_1 0 rfl rfl)
theorem dX0_out_27 : decode cX0_out 27 = .ok (.invokevirtual 176, 3) := dk_182 0 176 (dk_at dksX0_out_1 3 rfl rfl)
theorem dX0_out_30 : decode cX0_out 30 = .ok (.ifCond .ne 5, 3) := dk_154 0 5 (dk_at dksX0_out_1 6 rfl rfl)
theorem dX0_out_33 : decode cX0_out 33 = .ok (.iload_n 2, 1) := dk_28 (dk_at dksX0_out_1 9 rfl rfl)
theorem dX0_out_34 : decode cX0_out 34 = .ok (.ireturn, 1) := dk_172 (dk_at dksX0_out_1 10 rfl rfl)
theorem dX0_out_35 : decode cX0_out 35 = .ok (.aload_n 0, 1) := dk_42 (dk_at dksX0_out_1 11 rfl rfl)
theorem dX0_out_36 : decode cX0_out 36 = .ok (.getfield 60, 3) := dk_180 0 60 (dk_at dksX0_out_1 12 rfl rfl)
theorem dX0_out_39 : decode cX0_out 39 = .ok (.invokevirtual 244, 3) := dk_182 0 244 (dk_at dksX0_out_1 15 rfl rfl)
theorem dX0_out_42 : decode cX0_out 42 = .ok (.iinc 2 1, 3) := dk_132 2 1 (dk_at dksX0_out_1 18 rfl rfl)
theorem dX0_out_45 : decode cX0_out 45 = .ok (.goto (-32), 3) := dk_167 255 224 (dk_at dksX0_out_1 21 rfl rfl)
theorem dX0_out_48 : decode cX0_out 48 = .ok (.new 1, 3) := dk_187 0 1 (dk_at dksX0_out_2 0 rfl rfl)
theorem dX0_out_51 : decode cX0_out 51 = .ok (.dup, 1) := dk_89 (dk_at dksX0_out_2 3 rfl rfl)
theorem dX0_out_52 : decode cX0_out 52 = .ok (.iconst 3, 1) := dk_6 (dk_at dksX0_out_2 4 rfl rfl)
theorem dX0_out_53 : decode cX0_out 53 = .ok (.invokespecial 3, 3) := dk_183 0 3 (dk_at dksX0_out_2 5 rfl rfl)
theorem dX0_out_56 : decode cX0_out 56 = .ok (.athrow, 1) := dk_191 (dk_at dksX0_out_2 8 rfl rfl)
theorem dX0_out_57 : decode cX0_out 57 = .ok (.astore_n 2, 1) := dk_77 (dk_at dksX0_out_2 9 rfl rfl)
theorem dX0_out_58 : decode cX0_out 58 = .ok (.aload_n 0, 1) := dk_42 (dk_at dksX0_out_2 10 rfl rfl)
theorem dX0_out_59 : decode cX0_out 59 = .ok (.aload_n 2, 1) := dk_44 (dk_at dksX0_out_2 11 rfl rfl)
theorem dX0_out_60 : decode cX0_out 60 = .ok (.invokevirtual 122, 3) := dk_182 0 122 (dk_at dksX0_out_2 12 rfl rfl)
theorem dX0_out_63 : decode cX0_out 63 = .ok (.ireturn, 1) := dk_172 (dk_at dksX0_out_2 15 rfl rfl)
abbrev cX0_fewest : ByteArray := prog_1_method_40_code
def yX0_fewest : MethodName := ⟨RX0, "fewest", "(II)I"⟩
def dkwX0_fewest_3 : List UInt8 := [183, 0, 3, 191, 78, 42, 45, 182, 0, 122, 172]
abbrev dktX0_fewest_3 : List UInt8 := dkwX0_fewest_3 ++ []
def dkwX0_fewest_2 : List UInt8 := [21, 4, 172, 42, 180, 0, 60, 45, 4, 182, 0, 190, 132, 4, 1, 167, 255, 224, 187, 0, 1, 89, 6]
abbrev dktX0_fewest_2 : List UInt8 := dkwX0_fewest_2 ++ dktX0_fewest_3
def dkwX0_fewest_1 : List UInt8 := [182, 0, 94, 78, 3, 54, 4, 21, 4, 16, 40, 163, 0, 31, 45, 180, 0, 126, 6, 46, 28, 160, 0, 6]
abbrev dktX0_fewest_1 : List UInt8 := dkwX0_fewest_1 ++ dktX0_fewest_2
def dkwX0_fewest_0 : List UInt8 := [42, 27, 182, 0, 148, 87, 28, 184, 0, 102, 184, 0, 114, 42, 27, 182, 0, 187, 87, 42, 182, 0, 237, 27]
abbrev dktX0_fewest_0 : List UInt8 := dkwX0_fewest_0 ++ dktX0_fewest_1
theorem dksX0_fewest_0 : cX0_fewest.data.toList.drop 0 = dktX0_fewest_0 := by decide +kernel
theorem dksX0_fewest_1 : cX0_fewest.data.toList.drop 24 = dktX0_fewest_1 := dk_seg dksX0_fewest_0 24 rfl rfl
theorem dksX0_fewest_2 : cX0_fewest.data.toList.drop 48 = dktX0_fewest_2 := dk_seg dksX0_fewest_1 24 rfl rfl
theorem dksX0_fewest_3 : cX0_fewest.data.toList.drop 71 = dktX0_fewest_3 := dk_seg dksX0_fewest_2 23 rfl rfl
theorem dX0_fewest_0 : decode cX0_fewest 0 = .ok (.aload_n 0, 1) := dk_42 (dk_at dksX0_fewest_0 0 rfl rfl)
theorem dX0_fewest_1 : decode cX0_fewest 1 = .ok (.iload_n 1, 1) := dk_27 (dk_at dksX0_fewest_0 1 rfl rfl)
theorem dX0_fewest_2 : decode cX0_fewest 2 = .ok (.invokevirtual 148, 3) := dk_182 0 148 (dk_at dksX0_fewest_0 2 rfl rfl)
theorem dX0_fewest_5 : decode cX0_fewest 5 = .ok (.pop, 1) := dk_87 (dk_at dksX0_fewest_0 5 rfl rfl)
theorem dX0_fewest_6 : decode cX0_fewest 6 = .ok (.iload_n 2, 1) := dk_28 (dk_at dksX0_fewest_0 6 rfl rfl)
theorem dX0_fewest_7 : decode cX0_fewest 7 = .ok (.invokestatic 102, 3) := dk_184 0 102 (dk_at dksX0_fewest_0 7 rfl rfl)
theorem dX0_fewest_10 : decode cX0_fewest 10 = .ok (.invokestatic 114, 3) := dk_184 0 114 (dk_at dksX0_fewest_0 10 rfl rfl)
theorem dX0_fewest_13 : decode cX0_fewest 13 = .ok (.aload_n 0, 1) := dk_42 (dk_at dksX0_fewest_0 13 rfl rfl)
theorem dX0_fewest_14 : decode cX0_fewest 14 = .ok (.iload_n 1, 1) := dk_27 (dk_at dksX0_fewest_0 14 rfl rfl)
theorem dX0_fewest_15 : decode cX0_fewest 15 = .ok (.invokevirtual 187, 3) := dk_182 0 187 (dk_at dksX0_fewest_0 15 rfl rfl)
theorem dX0_fewest_18 : decode cX0_fewest 18 = .ok (.pop, 1) := dk_87 (dk_at dksX0_fewest_0 18 rfl rfl)
theorem dX0_fewest_19 : decode cX0_fewest 19 = .ok (.aload_n 0, 1) := dk_42 (dk_at dksX0_fewest_0 19 rfl rfl)
theorem dX0_fewest_20 : decode cX0_fewest 20 = .ok (.invokevirtual 237, 3) := dk_182 0 237 (dk_at dksX0_fewest_0 20 rfl rfl)
theorem dX0_fewest_23 : decode cX0_fewest 23 = .ok (.iload_n 1, 1) := dk_27 (dk_at dksX0_fewest_0 23 rfl rfl)
theorem dX0_fewest_24 : decode cX0_fewest 24 = .ok (.invokevirtual 94, 3) := dk_182 0 94 (dk_at dksX0_fewest_1 0 rfl rfl)
theorem dX0_fewest_27 : decode cX0_fewest 27 = .ok (.astore_n 3, 1) := dk_78 (dk_at dksX0_fewest_1 3 rfl rfl)
theorem dX0_fewest_28 : decode cX0_fewest 28 = .ok (.iconst 0, 1) := dk_3 (dk_at dksX0_fewest_1 4 rfl rfl)
theorem dX0_fewest_29 : decode cX0_fewest 29 = .ok (.istore 4, 2) := dk_54 4 (dk_at dksX0_fewest_1 5 rfl rfl)
theorem dX0_fewest_31 : decode cX0_fewest 31 = .ok (.iload 4, 2) := dk_21 4 (dk_at dksX0_fewest_1 7 rfl rfl)
theorem dX0_fewest_33 : decode cX0_fewest 33 = .ok (.bipush 40, 2) := dk_16 40 (dk_at dksX0_fewest_1 9 rfl rfl)
theorem dX0_fewest_35 : decode cX0_fewest 35 = .ok (.if_icmp .gt 31, 3) := dk_163 0 31 (dk_at dksX0_fewest_1 11 rfl rfl)
theorem dX0_fewest_38 : decode cX0_fewest 38 = .ok (.aload_n 3, 1) := dk_45 (dk_at dksX0_fewest_1 14 rfl rfl)
theorem dX0_fewest_39 : decode cX0_fewest 39 = .ok (.getfield 126, 3) := dk_180 0 126 (dk_at dksX0_fewest_1 15 rfl rfl)
theorem dX0_fewest_42 : decode cX0_fewest 42 = .ok (.iconst 3, 1) := dk_6 (dk_at dksX0_fewest_1 18 rfl rfl)
theorem dX0_fewest_43 : decode cX0_fewest 43 = .ok (.iaload, 1) := dk_46 (dk_at dksX0_fewest_1 19 rfl rfl)
theorem dX0_fewest_44 : decode cX0_fewest 44 = .ok (.iload_n 2, 1) := dk_28 (dk_at dksX0_fewest_1 20 rfl rfl)
theorem dX0_fewest_45 : decode cX0_fewest 45 = .ok (.if_icmp .ne 6, 3) := dk_160 0 6 (dk_at dksX0_fewest_1 21 rfl rfl)
theorem dX0_fewest_48 : decode cX0_fewest 48 = .ok (.iload 4, 2) := dk_21 4 (dk_at dksX0_fewest_2 0 rfl rfl)
theorem dX0_fewest_50 : decode cX0_fewest 50 = .ok (.ireturn, 1) := dk_172 (dk_at dksX0_fewest_2 2 rfl rfl)
theorem dX0_fewest_51 : decode cX0_fewest 51 = .ok (.aload_n 0, 1) := dk_42 (dk_at dksX0_fewest_2 3 rfl rfl)
theorem dX0_fewest_52 : decode cX0_fewest 52 = .ok (.getfield 60, 3) := dk_180 0 60 (dk_at dksX0_fewest_2 4 rfl rfl)
theorem dX0_fewest_55 : decode cX0_fewest 55 = .ok (.aload_n 3, 1) := dk_45 (dk_at dksX0_fewest_2 7 rfl rfl)
theorem dX0_fewest_56 : decode cX0_fewest 56 = .ok (.iconst 1, 1) := dk_4 (dk_at dksX0_fewest_2 8 rfl rfl)
theorem dX0_fewest_57 : decode cX0_fewest 57 = .ok (.invokevirtual 190, 3) := dk_182 0 190 (dk_at dksX0_fewest_2 9 rfl rfl)
theorem dX0_fewest_60 : decode cX0_fewest 60 = .ok (.iinc 4 1, 3) := dk_132 4 1 (dk_at dksX0_fewest_2 12 rfl rfl)
theorem dX0_fewest_63 : decode cX0_fewest 63 = .ok (.goto (-32), 3) := dk_167 255 224 (dk_at dksX0_fewest_2 15 rfl rfl)
theorem dX0_fewest_66 : decode cX0_fewest 66 = .ok (.new 1, 3) := dk_187 0 1 (dk_at dksX0_fewest_2 18 rfl rfl)
theorem dX0_fewest_69 : decode cX0_fewest 69 = .ok (.dup, 1) := dk_89 (dk_at dksX0_fewest_2 21 rfl rfl)
theorem dX0_fewest_70 : decode cX0_fewest 70 = .ok (.iconst 3, 1) := dk_6 (dk_at dksX0_fewest_2 22 rfl rfl)
theorem dX0_fewest_71 : decode cX0_fewest 71 = .ok (.invokespecial 3, 3) := dk_183 0 3 (dk_at dksX0_fewest_3 0 rfl rfl)
theorem dX0_fewest_74 : decode cX0_fewest 74 = .ok (.athrow, 1) := dk_191 (dk_at dksX0_fewest_3 3 rfl rfl)
theorem dX0_fewest_75 : decode cX0_fewest 75 = .ok (.astore_n 3, 1) := dk_78 (dk_at dksX0_fewest_3 4 rfl rfl)
theorem dX0_fewest_76 : decode cX0_fewest 76 = .ok (.aload_n 0, 1) := dk_42 (dk_at dksX0_fewest_3 5 rfl rfl)
theorem dX0_fewest_77 : decode cX0_fewest 77 = .ok (.aload_n 3, 1) := dk_45 (dk_at dksX0_fewest_3 6 rfl rfl)
theorem dX0_fewest_78 : decode cX0_fewest 78 = .ok (.invokevirtual 122, 3) := dk_182 0 122 (dk_at dksX0_fewest_3 7 rfl rfl)
theorem dX0_fewest_81 : decode cX0_fewest 81 = .ok (.ireturn, 1) := dk_172 (dk_at dksX0_fewest_3 10 rfl rfl)
abbrev cX0_least : ByteArray := prog_1_method_41_code
def yX0_least : MethodName := ⟨RX0, "least", "(I)I"⟩
def dkwX0_least_3 : List UInt8 := [182, 0, 122, 172]
abbrev dktX0_least_3 : List UInt8 := dkwX0_least_3 ++ []
def dkwX0_least_2 : List UInt8 := [159, 0, 5, 29, 172, 132, 3, 1, 167, 255, 214, 187, 0, 1, 89, 6, 183, 0, 3, 191, 77, 42, 44]
abbrev dktX0_least_2 : List UInt8 := dkwX0_least_2 ++ dktX0_least_3
def dkwX0_least_1 : List UInt8 := [182, 0, 94, 58, 4, 42, 180, 0, 60, 25, 4, 29, 182, 0, 190, 25, 4, 180, 0, 126, 6, 46, 28]
abbrev dktX0_least_1 : List UInt8 := dkwX0_least_1 ++ dktX0_least_2
def dkwX0_least_0 : List UInt8 := [42, 27, 182, 0, 187, 180, 0, 126, 6, 46, 61, 4, 62, 29, 16, 20, 163, 0, 42, 42, 182, 0, 237, 27]
abbrev dktX0_least_0 : List UInt8 := dkwX0_least_0 ++ dktX0_least_1
theorem dksX0_least_0 : cX0_least.data.toList.drop 0 = dktX0_least_0 := by decide +kernel
theorem dksX0_least_1 : cX0_least.data.toList.drop 24 = dktX0_least_1 := dk_seg dksX0_least_0 24 rfl rfl
theorem dksX0_least_2 : cX0_least.data.toList.drop 47 = dktX0_least_2 := dk_seg dksX0_least_1 23 rfl rfl
theorem dksX0_least_3 : cX0_least.data.toList.drop 70 = dktX0_least_3 := dk_seg dksX0_least_2 23 rfl rfl
theorem dX0_least_0 : decode cX0_least 0 = .ok (.aload_n 0, 1) := dk_42 (dk_at dksX0_least_0 0 rfl rfl)
theorem dX0_least_1 : decode cX0_least 1 = .ok (.iload_n 1, 1) := dk_27 (dk_at dksX0_least_0 1 rfl rfl)
theorem dX0_least_2 : decode cX0_least 2 = .ok (.invokevirtual 187, 3) := dk_182 0 187 (dk_at dksX0_least_0 2 rfl rfl)
theorem dX0_least_5 : decode cX0_least 5 = .ok (.getfield 126, 3) := dk_180 0 126 (dk_at dksX0_least_0 5 rfl rfl)
theorem dX0_least_8 : decode cX0_least 8 = .ok (.iconst 3, 1) := dk_6 (dk_at dksX0_least_0 8 rfl rfl)
theorem dX0_least_9 : decode cX0_least 9 = .ok (.iaload, 1) := dk_46 (dk_at dksX0_least_0 9 rfl rfl)
theorem dX0_least_10 : decode cX0_least 10 = .ok (.istore_n 2, 1) := dk_61 (dk_at dksX0_least_0 10 rfl rfl)
theorem dX0_least_11 : decode cX0_least 11 = .ok (.iconst 1, 1) := dk_4 (dk_at dksX0_least_0 11 rfl rfl)
theorem dX0_least_12 : decode cX0_least 12 = .ok (.istore_n 3, 1) := dk_62 (dk_at dksX0_least_0 12 rfl rfl)
theorem dX0_least_13 : decode cX0_least 13 = .ok (.iload_n 3, 1) := dk_29 (dk_at dksX0_least_0 13 rfl rfl)
theorem dX0_least_14 : decode cX0_least 14 = .ok (.bipush 20, 2) := dk_16 20 (dk_at dksX0_least_0 14 rfl rfl)
theorem dX0_least_16 : decode cX0_least 16 = .ok (.if_icmp .gt 42, 3) := dk_163 0 42 (dk_at dksX0_least_0 16 rfl rfl)
theorem dX0_least_19 : decode cX0_least 19 = .ok (.aload_n 0, 1) := dk_42 (dk_at dksX0_least_0 19 rfl rfl)
theorem dX0_least_20 : decode cX0_least 20 = .ok (.invokevirtual 237, 3) := dk_182 0 237 (dk_at dksX0_least_0 20 rfl rfl)
theorem dX0_least_23 : decode cX0_least 23 = .ok (.iload_n 1, 1) := dk_27 (dk_at dksX0_least_0 23 rfl rfl)
theorem dX0_least_24 : decode cX0_least 24 = .ok (.invokevirtual 94, 3) := dk_182 0 94 (dk_at dksX0_least_1 0 rfl rfl)
theorem dX0_least_27 : decode cX0_least 27 = .ok (.astore 4, 2) := dk_58 4 (dk_at dksX0_least_1 3 rfl rfl)
theorem dX0_least_29 : decode cX0_least 29 = .ok (.aload_n 0, 1) := dk_42 (dk_at dksX0_least_1 5 rfl rfl)
theorem dX0_least_30 : decode cX0_least 30 = .ok (.getfield 60, 3) := dk_180 0 60 (dk_at dksX0_least_1 6 rfl rfl)
theorem dX0_least_33 : decode cX0_least 33 = .ok (.aload 4, 2) := dk_25 4 (dk_at dksX0_least_1 9 rfl rfl)
theorem dX0_least_35 : decode cX0_least 35 = .ok (.iload_n 3, 1) := dk_29 (dk_at dksX0_least_1 11 rfl rfl)
theorem dX0_least_36 : decode cX0_least 36 = .ok (.invokevirtual 190, 3) := dk_182 0 190 (dk_at dksX0_least_1 12 rfl rfl)
theorem dX0_least_39 : decode cX0_least 39 = .ok (.aload 4, 2) := dk_25 4 (dk_at dksX0_least_1 15 rfl rfl)
theorem dX0_least_41 : decode cX0_least 41 = .ok (.getfield 126, 3) := dk_180 0 126 (dk_at dksX0_least_1 17 rfl rfl)
theorem dX0_least_44 : decode cX0_least 44 = .ok (.iconst 3, 1) := dk_6 (dk_at dksX0_least_1 20 rfl rfl)
theorem dX0_least_45 : decode cX0_least 45 = .ok (.iaload, 1) := dk_46 (dk_at dksX0_least_1 21 rfl rfl)
theorem dX0_least_46 : decode cX0_least 46 = .ok (.iload_n 2, 1) := dk_28 (dk_at dksX0_least_1 22 rfl rfl)
theorem dX0_least_47 : decode cX0_least 47 = .ok (.if_icmp .eq 5, 3) := dk_159 0 5 (dk_at dksX0_least_2 0 rfl rfl)
theorem dX0_least_50 : decode cX0_least 50 = .ok (.iload_n 3, 1) := dk_29 (dk_at dksX0_least_2 3 rfl rfl)
theorem dX0_least_51 : decode cX0_least 51 = .ok (.ireturn, 1) := dk_172 (dk_at dksX0_least_2 4 rfl rfl)
theorem dX0_least_52 : decode cX0_least 52 = .ok (.iinc 3 1, 3) := dk_132 3 1 (dk_at dksX0_least_2 5 rfl rfl)
theorem dX0_least_55 : decode cX0_least 55 = .ok (.goto (-42), 3) := dk_167 255 214 (dk_at dksX0_least_2 8 rfl rfl)
theorem dX0_least_58 : decode cX0_least 58 = .ok (.new 1, 3) := dk_187 0 1 (dk_at dksX0_least_2 11 rfl rfl)
theorem dX0_least_61 : decode cX0_least 61 = .ok (.dup, 1) := dk_89 (dk_at dksX0_least_2 14 rfl rfl)
theorem dX0_least_62 : decode cX0_least 62 = .ok (.iconst 3, 1) := dk_6 (dk_at dksX0_least_2 15 rfl rfl)
theorem dX0_least_63 : decode cX0_least 63 = .ok (.invokespecial 3, 3) := dk_183 0 3 (dk_at dksX0_least_2 16 rfl rfl)
theorem dX0_least_66 : decode cX0_least 66 = .ok (.athrow, 1) := dk_191 (dk_at dksX0_least_2 19 rfl rfl)
theorem dX0_least_67 : decode cX0_least 67 = .ok (.astore_n 2, 1) := dk_77 (dk_at dksX0_least_2 20 rfl rfl)
theorem dX0_least_68 : decode cX0_least 68 = .ok (.aload_n 0, 1) := dk_42 (dk_at dksX0_least_2 21 rfl rfl)
theorem dX0_least_69 : decode cX0_least 69 = .ok (.aload_n 2, 1) := dk_44 (dk_at dksX0_least_2 22 rfl rfl)
theorem dX0_least_70 : decode cX0_least 70 = .ok (.invokevirtual 122, 3) := dk_182 0 122 (dk_at dksX0_least_3 0 rfl rfl)
theorem dX0_least_73 : decode cX0_least 73 = .ok (.ireturn, 1) := dk_172 (dk_at dksX0_least_3 3 rfl rfl)
abbrev cX0_best : ByteArray := prog_1_method_42_code
def yX0_best : MethodName := ⟨RX0, "best", "(I)I"⟩
def dkwX0_best_3 : List UInt8 := [28, 172, 77, 42, 44, 182, 0, 122, 172]
abbrev dktX0_best_3 : List UInt8 := dkwX0_best_3 ++ []
def dkwX0_best_2 : List UInt8 := [29, 163, 0, 6, 167, 0, 14, 21, 4, 61, 42, 180, 0, 60, 182, 0, 225, 62, 132, 4, 1, 167, 255, 203]
abbrev dktX0_best_2 : List UInt8 := dkwX0_best_2 ++ dktX0_best_3
def dkwX0_best_1 : List UInt8 := [182, 0, 237, 21, 4, 182, 0, 194, 87, 42, 180, 0, 60, 27, 182, 0, 203, 42, 180, 0, 60, 182, 0, 225]
abbrev dktX0_best_1 : List UInt8 := dkwX0_best_1 ++ dktX0_best_2
def dkwX0_best_0 : List UInt8 := [27, 184, 0, 247, 184, 0, 114, 3, 61, 2, 62, 3, 54, 4, 21, 4, 16, 16, 162, 0, 52, 42]
abbrev dktX0_best_0 : List UInt8 := dkwX0_best_0 ++ dktX0_best_1
theorem dksX0_best_0 : cX0_best.data.toList.drop 0 = dktX0_best_0 := by decide +kernel
theorem dksX0_best_1 : cX0_best.data.toList.drop 22 = dktX0_best_1 := dk_seg dksX0_best_0 22 rfl rfl
theorem dksX0_best_2 : cX0_best.data.toList.drop 46 = dktX0_best_2 := dk_seg dksX0_best_1 24 rfl rfl
theorem dksX0_best_3 : cX0_best.data.toList.drop 70 = dktX0_best_3 := dk_seg dksX0_best_2 24 rfl rfl
theorem dX0_best_0 : decode cX0_best 0 = .ok (.iload_n 1, 1) := dk_27 (dk_at dksX0_best_0 0 rfl rfl)
theorem dX0_best_1 : decode cX0_best 1 = .ok (.invokestatic 247, 3) := dk_184 0 247 (dk_at dksX0_best_0 1 rfl rfl)
theorem dX0_best_4 : decode cX0_best 4 = .ok (.invokestatic 114, 3) := dk_184 0 114 (dk_at dksX0_best_0 4 rfl rfl)
theorem dX0_best_7 : decode cX0_best 7 = .ok (.iconst 0, 1) := dk_3 (dk_at dksX0_best_0 7 rfl rfl)
theorem dX0_best_8 : decode cX0_best 8 = .ok (.istore_n 2, 1) := dk_61 (dk_at dksX0_best_0 8 rfl rfl)
theorem dX0_best_9 : decode cX0_best 9 = .ok (.iconst (-1), 1) := dk_2 (dk_at dksX0_best_0 9 rfl rfl)
theorem dX0_best_10 : decode cX0_best 10 = .ok (.istore_n 3, 1) := dk_62 (dk_at dksX0_best_0 10 rfl rfl)
theorem dX0_best_11 : decode cX0_best 11 = .ok (.iconst 0, 1) := dk_3 (dk_at dksX0_best_0 11 rfl rfl)
theorem dX0_best_12 : decode cX0_best 12 = .ok (.istore 4, 2) := dk_54 4 (dk_at dksX0_best_0 12 rfl rfl)
theorem dX0_best_14 : decode cX0_best 14 = .ok (.iload 4, 2) := dk_21 4 (dk_at dksX0_best_0 14 rfl rfl)
theorem dX0_best_16 : decode cX0_best 16 = .ok (.bipush 16, 2) := dk_16 16 (dk_at dksX0_best_0 16 rfl rfl)
theorem dX0_best_18 : decode cX0_best 18 = .ok (.if_icmp .ge 52, 3) := dk_162 0 52 (dk_at dksX0_best_0 18 rfl rfl)
theorem dX0_best_21 : decode cX0_best 21 = .ok (.aload_n 0, 1) := dk_42 (dk_at dksX0_best_0 21 rfl rfl)
theorem dX0_best_22 : decode cX0_best 22 = .ok (.invokevirtual 237, 3) := dk_182 0 237 (dk_at dksX0_best_1 0 rfl rfl)
theorem dX0_best_25 : decode cX0_best 25 = .ok (.iload 4, 2) := dk_21 4 (dk_at dksX0_best_1 3 rfl rfl)
theorem dX0_best_27 : decode cX0_best 27 = .ok (.invokevirtual 194, 3) := dk_182 0 194 (dk_at dksX0_best_1 5 rfl rfl)
theorem dX0_best_30 : decode cX0_best 30 = .ok (.pop, 1) := dk_87 (dk_at dksX0_best_1 8 rfl rfl)
theorem dX0_best_31 : decode cX0_best 31 = .ok (.aload_n 0, 1) := dk_42 (dk_at dksX0_best_1 9 rfl rfl)
theorem dX0_best_32 : decode cX0_best 32 = .ok (.getfield 60, 3) := dk_180 0 60 (dk_at dksX0_best_1 10 rfl rfl)
theorem dX0_best_35 : decode cX0_best 35 = .ok (.iload_n 1, 1) := dk_27 (dk_at dksX0_best_1 13 rfl rfl)
theorem dX0_best_36 : decode cX0_best 36 = .ok (.invokevirtual 203, 3) := dk_182 0 203 (dk_at dksX0_best_1 14 rfl rfl)
theorem dX0_best_39 : decode cX0_best 39 = .ok (.aload_n 0, 1) := dk_42 (dk_at dksX0_best_1 17 rfl rfl)
theorem dX0_best_40 : decode cX0_best 40 = .ok (.getfield 60, 3) := dk_180 0 60 (dk_at dksX0_best_1 18 rfl rfl)
theorem dX0_best_43 : decode cX0_best 43 = .ok (.invokevirtual 225, 3) := dk_182 0 225 (dk_at dksX0_best_1 21 rfl rfl)
theorem dX0_best_46 : decode cX0_best 46 = .ok (.iload_n 3, 1) := dk_29 (dk_at dksX0_best_2 0 rfl rfl)
theorem dX0_best_47 : decode cX0_best 47 = .ok (.if_icmp .gt 6, 3) := dk_163 0 6 (dk_at dksX0_best_2 1 rfl rfl)
theorem dX0_best_50 : decode cX0_best 50 = .ok (.goto 14, 3) := dk_167 0 14 (dk_at dksX0_best_2 4 rfl rfl)
theorem dX0_best_53 : decode cX0_best 53 = .ok (.iload 4, 2) := dk_21 4 (dk_at dksX0_best_2 7 rfl rfl)
theorem dX0_best_55 : decode cX0_best 55 = .ok (.istore_n 2, 1) := dk_61 (dk_at dksX0_best_2 9 rfl rfl)
theorem dX0_best_56 : decode cX0_best 56 = .ok (.aload_n 0, 1) := dk_42 (dk_at dksX0_best_2 10 rfl rfl)
theorem dX0_best_57 : decode cX0_best 57 = .ok (.getfield 60, 3) := dk_180 0 60 (dk_at dksX0_best_2 11 rfl rfl)
theorem dX0_best_60 : decode cX0_best 60 = .ok (.invokevirtual 225, 3) := dk_182 0 225 (dk_at dksX0_best_2 14 rfl rfl)
theorem dX0_best_63 : decode cX0_best 63 = .ok (.istore_n 3, 1) := dk_62 (dk_at dksX0_best_2 17 rfl rfl)
theorem dX0_best_64 : decode cX0_best 64 = .ok (.iinc 4 1, 3) := dk_132 4 1 (dk_at dksX0_best_2 18 rfl rfl)
theorem dX0_best_67 : decode cX0_best 67 = .ok (.goto (-53), 3) := dk_167 255 203 (dk_at dksX0_best_2 21 rfl rfl)
theorem dX0_best_70 : decode cX0_best 70 = .ok (.iload_n 2, 1) := dk_28 (dk_at dksX0_best_3 0 rfl rfl)
theorem dX0_best_71 : decode cX0_best 71 = .ok (.ireturn, 1) := dk_172 (dk_at dksX0_best_3 1 rfl rfl)
theorem dX0_best_72 : decode cX0_best 72 = .ok (.astore_n 2, 1) := dk_77 (dk_at dksX0_best_3 2 rfl rfl)
theorem dX0_best_73 : decode cX0_best 73 = .ok (.aload_n 0, 1) := dk_42 (dk_at dksX0_best_3 3 rfl rfl)
theorem dX0_best_74 : decode cX0_best 74 = .ok (.aload_n 2, 1) := dk_44 (dk_at dksX0_best_3 4 rfl rfl)
theorem dX0_best_75 : decode cX0_best 75 = .ok (.invokevirtual 122, 3) := dk_182 0 122 (dk_at dksX0_best_3 5 rfl rfl)
theorem dX0_best_78 : decode cX0_best 78 = .ok (.ireturn, 1) := dk_172 (dk_at dksX0_best_3 8 rfl rfl)
abbrev cX0_isSoon : ByteArray := prog_1_method_8_code
def yX0_isSoon : MethodName := ⟨RX0, "isSoon", "(I)Z"⟩
def dkwX0_isSoon_0 : List UInt8 := [26, 133, 9, 20, 0, 24, 184, 0, 16, 172]
abbrev dktX0_isSoon_0 : List UInt8 := dkwX0_isSoon_0 ++ []
theorem dksX0_isSoon_0 : cX0_isSoon.data.toList.drop 0 = dktX0_isSoon_0 := by decide +kernel
theorem dX0_isSoon_0 : decode cX0_isSoon 0 = .ok (.iload_n 0, 1) := dk_26 (dk_at dksX0_isSoon_0 0 rfl rfl)
theorem dX0_isSoon_1 : decode cX0_isSoon 1 = .ok (.i2l, 1) := dk_133 (dk_at dksX0_isSoon_0 1 rfl rfl)
theorem dX0_isSoon_2 : decode cX0_isSoon 2 = .ok (.lconst 0, 1) := dk_9 (dk_at dksX0_isSoon_0 2 rfl rfl)
theorem dX0_isSoon_3 : decode cX0_isSoon 3 = .ok (.ldc2_w 24, 3) := dk_20 0 24 (dk_at dksX0_isSoon_0 3 rfl rfl)
theorem dX0_isSoon_6 : decode cX0_isSoon 6 = .ok (.invokestatic 16, 3) := dk_184 0 16 (dk_at dksX0_isSoon_0 6 rfl rfl)
theorem dX0_isSoon_9 : decode cX0_isSoon 9 = .ok (.ireturn, 1) := dk_172 (dk_at dksX0_isSoon_0 9 rfl rfl)
abbrev cX0_lean : ByteArray := prog_1_method_43_code
def yX0_lean : MethodName := ⟨RX0, "lean", "(II)I"⟩
def dkwX0_lean_2 : List UInt8 := [184, 0, 214, 172, 78, 42, 45, 182, 0, 122, 172]
abbrev dktX0_lean_2 : List UInt8 := dkwX0_lean_2 ++ []
def dkwX0_lean_1 : List UInt8 := [45, 182, 0, 157, 16, 9, 163, 0, 7, 4, 167, 0, 4, 3, 6, 184, 0, 87, 3, 45, 182, 0, 157]
abbrev dktX0_lean_1 : List UInt8 := dkwX0_lean_1 ++ dktX0_lean_2
def dkwX0_lean_0 : List UInt8 := [27, 184, 0, 102, 184, 0, 114, 42, 28, 182, 0, 148, 78, 42, 180, 0, 50, 27, 182, 0, 250, 153, 0, 16]
abbrev dktX0_lean_0 : List UInt8 := dkwX0_lean_0 ++ dktX0_lean_1
theorem dksX0_lean_0 : cX0_lean.data.toList.drop 0 = dktX0_lean_0 := by decide +kernel
theorem dksX0_lean_1 : cX0_lean.data.toList.drop 24 = dktX0_lean_1 := dk_seg dksX0_lean_0 24 rfl rfl
theorem dksX0_lean_2 : cX0_lean.data.toList.drop 47 = dktX0_lean_2 := dk_seg dksX0_lean_1 23 rfl rfl
theorem dX0_lean_0 : decode cX0_lean 0 = .ok (.iload_n 1, 1) := dk_27 (dk_at dksX0_lean_0 0 rfl rfl)
theorem dX0_lean_1 : decode cX0_lean 1 = .ok (.invokestatic 102, 3) := dk_184 0 102 (dk_at dksX0_lean_0 1 rfl rfl)
theorem dX0_lean_4 : decode cX0_lean 4 = .ok (.invokestatic 114, 3) := dk_184 0 114 (dk_at dksX0_lean_0 4 rfl rfl)
theorem dX0_lean_7 : decode cX0_lean 7 = .ok (.aload_n 0, 1) := dk_42 (dk_at dksX0_lean_0 7 rfl rfl)
theorem dX0_lean_8 : decode cX0_lean 8 = .ok (.iload_n 2, 1) := dk_28 (dk_at dksX0_lean_0 8 rfl rfl)
theorem dX0_lean_9 : decode cX0_lean 9 = .ok (.invokevirtual 148, 3) := dk_182 0 148 (dk_at dksX0_lean_0 9 rfl rfl)
theorem dX0_lean_12 : decode cX0_lean 12 = .ok (.astore_n 3, 1) := dk_78 (dk_at dksX0_lean_0 12 rfl rfl)
theorem dX0_lean_13 : decode cX0_lean 13 = .ok (.aload_n 0, 1) := dk_42 (dk_at dksX0_lean_0 13 rfl rfl)
theorem dX0_lean_14 : decode cX0_lean 14 = .ok (.getfield 50, 3) := dk_180 0 50 (dk_at dksX0_lean_0 14 rfl rfl)
theorem dX0_lean_17 : decode cX0_lean 17 = .ok (.iload_n 1, 1) := dk_27 (dk_at dksX0_lean_0 17 rfl rfl)
theorem dX0_lean_18 : decode cX0_lean 18 = .ok (.invokevirtual 250, 3) := dk_182 0 250 (dk_at dksX0_lean_0 18 rfl rfl)
theorem dX0_lean_21 : decode cX0_lean 21 = .ok (.ifCond .eq 16, 3) := dk_153 0 16 (dk_at dksX0_lean_0 21 rfl rfl)
theorem dX0_lean_24 : decode cX0_lean 24 = .ok (.aload_n 3, 1) := dk_45 (dk_at dksX0_lean_1 0 rfl rfl)
theorem dX0_lean_25 : decode cX0_lean 25 = .ok (.invokevirtual 157, 3) := dk_182 0 157 (dk_at dksX0_lean_1 1 rfl rfl)
theorem dX0_lean_28 : decode cX0_lean 28 = .ok (.bipush 9, 2) := dk_16 9 (dk_at dksX0_lean_1 4 rfl rfl)
theorem dX0_lean_30 : decode cX0_lean 30 = .ok (.if_icmp .gt 7, 3) := dk_163 0 7 (dk_at dksX0_lean_1 6 rfl rfl)
theorem dX0_lean_33 : decode cX0_lean 33 = .ok (.iconst 1, 1) := dk_4 (dk_at dksX0_lean_1 9 rfl rfl)
theorem dX0_lean_34 : decode cX0_lean 34 = .ok (.goto 4, 3) := dk_167 0 4 (dk_at dksX0_lean_1 10 rfl rfl)
theorem dX0_lean_37 : decode cX0_lean 37 = .ok (.iconst 0, 1) := dk_3 (dk_at dksX0_lean_1 13 rfl rfl)
theorem dX0_lean_38 : decode cX0_lean 38 = .ok (.iconst 3, 1) := dk_6 (dk_at dksX0_lean_1 14 rfl rfl)
theorem dX0_lean_39 : decode cX0_lean 39 = .ok (.invokestatic 87, 3) := dk_184 0 87 (dk_at dksX0_lean_1 15 rfl rfl)
theorem dX0_lean_42 : decode cX0_lean 42 = .ok (.iconst 0, 1) := dk_3 (dk_at dksX0_lean_1 18 rfl rfl)
theorem dX0_lean_43 : decode cX0_lean 43 = .ok (.aload_n 3, 1) := dk_45 (dk_at dksX0_lean_1 19 rfl rfl)
theorem dX0_lean_44 : decode cX0_lean 44 = .ok (.invokevirtual 157, 3) := dk_182 0 157 (dk_at dksX0_lean_1 20 rfl rfl)
theorem dX0_lean_47 : decode cX0_lean 47 = .ok (.invokestatic 214, 3) := dk_184 0 214 (dk_at dksX0_lean_2 0 rfl rfl)
theorem dX0_lean_50 : decode cX0_lean 50 = .ok (.ireturn, 1) := dk_172 (dk_at dksX0_lean_2 3 rfl rfl)
theorem dX0_lean_51 : decode cX0_lean 51 = .ok (.astore_n 3, 1) := dk_78 (dk_at dksX0_lean_2 4 rfl rfl)
theorem dX0_lean_52 : decode cX0_lean 52 = .ok (.aload_n 0, 1) := dk_42 (dk_at dksX0_lean_2 5 rfl rfl)
theorem dX0_lean_53 : decode cX0_lean 53 = .ok (.aload_n 3, 1) := dk_45 (dk_at dksX0_lean_2 6 rfl rfl)
theorem dX0_lean_54 : decode cX0_lean 54 = .ok (.invokevirtual 122, 3) := dk_182 0 122 (dk_at dksX0_lean_2 7 rfl rfl)
theorem dX0_lean_57 : decode cX0_lean 57 = .ok (.ireturn, 1) := dk_172 (dk_at dksX0_lean_2 10 rfl rfl)
abbrev cX0_leanFor : ByteArray := prog_1_method_44_code
def yX0_leanFor : MethodName := ⟨RX0, "leanFor", "(II)I"⟩
def dkwX0_leanFor_4 : List UInt8 := [172, 78, 42, 45, 182, 0, 122, 172]
abbrev dktX0_leanFor_4 : List UInt8 := dkwX0_leanFor_4 ++ []
def dkwX0_leanFor_3 : List UInt8 := [167, 0, 17, 21, 5, 62, 42, 180, 0, 60, 180, 0, 241, 27, 46, 54, 4, 132, 5, 1, 167, 255, 196, 29]
abbrev dktX0_leanFor_3 : List UInt8 := dkwX0_leanFor_3 ++ dktX0_leanFor_4
def dkwX0_leanFor_2 : List UInt8 := [42, 180, 0, 60, 28, 182, 0, 203, 42, 180, 0, 60, 180, 0, 241, 27, 46, 21, 4, 163, 0, 6]
abbrev dktX0_leanFor_2 : List UInt8 := dkwX0_leanFor_2 ++ dktX0_leanFor_3
def dkwX0_leanFor_1 : List UInt8 := [2, 54, 4, 3, 54, 5, 21, 5, 16, 9, 163, 0, 59, 42, 182, 0, 237, 180, 0, 253, 27, 21, 5, 79]
abbrev dktX0_leanFor_1 : List UInt8 := dkwX0_leanFor_1 ++ dktX0_leanFor_2
def dkwX0_leanFor_0 : List UInt8 := [27, 184, 0, 102, 153, 0, 14, 28, 184, 0, 247, 153, 0, 7, 4, 167, 0, 4, 3, 184, 0, 114, 3, 62]
abbrev dktX0_leanFor_0 : List UInt8 := dkwX0_leanFor_0 ++ dktX0_leanFor_1
theorem dksX0_leanFor_0 : cX0_leanFor.data.toList.drop 0 = dktX0_leanFor_0 := by decide +kernel
theorem dksX0_leanFor_1 : cX0_leanFor.data.toList.drop 24 = dktX0_leanFor_1 := dk_seg dksX0_leanFor_0 24 rfl rfl
theorem dksX0_leanFor_2 : cX0_leanFor.data.toList.drop 48 = dktX0_leanFor_2 := dk_seg dksX0_leanFor_1 24 rfl rfl
theorem dksX0_leanFor_3 : cX0_leanFor.data.toList.drop 70 = dktX0_leanFor_3 := dk_seg dksX0_leanFor_2 22 rfl rfl
theorem dksX0_leanFor_4 : cX0_leanFor.data.toList.drop 94 = dktX0_leanFor_4 := dk_seg dksX0_leanFor_3 24 rfl rfl
theorem dX0_leanFor_0 : decode cX0_leanFor 0 = .ok (.iload_n 1, 1) := dk_27 (dk_at dksX0_leanFor_0 0 rfl rfl)
theorem dX0_leanFor_1 : decode cX0_leanFor 1 = .ok (.invokestatic 102, 3) := dk_184 0 102 (dk_at dksX0_leanFor_0 1 rfl rfl)
theorem dX0_leanFor_4 : decode cX0_leanFor 4 = .ok (.ifCond .eq 14, 3) := dk_153 0 14 (dk_at dksX0_leanFor_0 4 rfl rfl)
theorem dX0_leanFor_7 : decode cX0_leanFor 7 = .ok (.iload_n 2, 1) := dk_28 (dk_at dksX0_leanFor_0 7 rfl rfl)
theorem dX0_leanFor_8 : decode cX0_leanFor 8 = .ok (.invokestatic 247, 3) := dk_184 0 247 (dk_at dksX0_leanFor_0 8 rfl rfl)
theorem dX0_leanFor_11 : decode cX0_leanFor 11 = .ok (.ifCond .eq 7, 3) := dk_153 0 7 (dk_at dksX0_leanFor_0 11 rfl rfl)
theorem dX0_leanFor_14 : decode cX0_leanFor 14 = .ok (.iconst 1, 1) := dk_4 (dk_at dksX0_leanFor_0 14 rfl rfl)
theorem dX0_leanFor_15 : decode cX0_leanFor 15 = .ok (.goto 4, 3) := dk_167 0 4 (dk_at dksX0_leanFor_0 15 rfl rfl)
theorem dX0_leanFor_18 : decode cX0_leanFor 18 = .ok (.iconst 0, 1) := dk_3 (dk_at dksX0_leanFor_0 18 rfl rfl)
theorem dX0_leanFor_19 : decode cX0_leanFor 19 = .ok (.invokestatic 114, 3) := dk_184 0 114 (dk_at dksX0_leanFor_0 19 rfl rfl)
theorem dX0_leanFor_22 : decode cX0_leanFor 22 = .ok (.iconst 0, 1) := dk_3 (dk_at dksX0_leanFor_0 22 rfl rfl)
theorem dX0_leanFor_23 : decode cX0_leanFor 23 = .ok (.istore_n 3, 1) := dk_62 (dk_at dksX0_leanFor_0 23 rfl rfl)
theorem dX0_leanFor_24 : decode cX0_leanFor 24 = .ok (.iconst (-1), 1) := dk_2 (dk_at dksX0_leanFor_1 0 rfl rfl)
theorem dX0_leanFor_25 : decode cX0_leanFor 25 = .ok (.istore 4, 2) := dk_54 4 (dk_at dksX0_leanFor_1 1 rfl rfl)
theorem dX0_leanFor_27 : decode cX0_leanFor 27 = .ok (.iconst 0, 1) := dk_3 (dk_at dksX0_leanFor_1 3 rfl rfl)
theorem dX0_leanFor_28 : decode cX0_leanFor 28 = .ok (.istore 5, 2) := dk_54 5 (dk_at dksX0_leanFor_1 4 rfl rfl)
theorem dX0_leanFor_30 : decode cX0_leanFor 30 = .ok (.iload 5, 2) := dk_21 5 (dk_at dksX0_leanFor_1 6 rfl rfl)
theorem dX0_leanFor_32 : decode cX0_leanFor 32 = .ok (.bipush 9, 2) := dk_16 9 (dk_at dksX0_leanFor_1 8 rfl rfl)
theorem dX0_leanFor_34 : decode cX0_leanFor 34 = .ok (.if_icmp .gt 59, 3) := dk_163 0 59 (dk_at dksX0_leanFor_1 10 rfl rfl)
theorem dX0_leanFor_37 : decode cX0_leanFor 37 = .ok (.aload_n 0, 1) := dk_42 (dk_at dksX0_leanFor_1 13 rfl rfl)
theorem dX0_leanFor_38 : decode cX0_leanFor 38 = .ok (.invokevirtual 237, 3) := dk_182 0 237 (dk_at dksX0_leanFor_1 14 rfl rfl)
theorem dX0_leanFor_41 : decode cX0_leanFor 41 = .ok (.getfield 253, 3) := dk_180 0 253 (dk_at dksX0_leanFor_1 17 rfl rfl)
theorem dX0_leanFor_44 : decode cX0_leanFor 44 = .ok (.iload_n 1, 1) := dk_27 (dk_at dksX0_leanFor_1 20 rfl rfl)
theorem dX0_leanFor_45 : decode cX0_leanFor 45 = .ok (.iload 5, 2) := dk_21 5 (dk_at dksX0_leanFor_1 21 rfl rfl)
theorem dX0_leanFor_47 : decode cX0_leanFor 47 = .ok (.iastore, 1) := dk_79 (dk_at dksX0_leanFor_1 23 rfl rfl)
theorem dX0_leanFor_48 : decode cX0_leanFor 48 = .ok (.aload_n 0, 1) := dk_42 (dk_at dksX0_leanFor_2 0 rfl rfl)
theorem dX0_leanFor_49 : decode cX0_leanFor 49 = .ok (.getfield 60, 3) := dk_180 0 60 (dk_at dksX0_leanFor_2 1 rfl rfl)
theorem dX0_leanFor_52 : decode cX0_leanFor 52 = .ok (.iload_n 2, 1) := dk_28 (dk_at dksX0_leanFor_2 4 rfl rfl)
theorem dX0_leanFor_53 : decode cX0_leanFor 53 = .ok (.invokevirtual 203, 3) := dk_182 0 203 (dk_at dksX0_leanFor_2 5 rfl rfl)
theorem dX0_leanFor_56 : decode cX0_leanFor 56 = .ok (.aload_n 0, 1) := dk_42 (dk_at dksX0_leanFor_2 8 rfl rfl)
theorem dX0_leanFor_57 : decode cX0_leanFor 57 = .ok (.getfield 60, 3) := dk_180 0 60 (dk_at dksX0_leanFor_2 9 rfl rfl)
theorem dX0_leanFor_60 : decode cX0_leanFor 60 = .ok (.getfield 241, 3) := dk_180 0 241 (dk_at dksX0_leanFor_2 12 rfl rfl)
theorem dX0_leanFor_63 : decode cX0_leanFor 63 = .ok (.iload_n 1, 1) := dk_27 (dk_at dksX0_leanFor_2 15 rfl rfl)
theorem dX0_leanFor_64 : decode cX0_leanFor 64 = .ok (.iaload, 1) := dk_46 (dk_at dksX0_leanFor_2 16 rfl rfl)
theorem dX0_leanFor_65 : decode cX0_leanFor 65 = .ok (.iload 4, 2) := dk_21 4 (dk_at dksX0_leanFor_2 17 rfl rfl)
theorem dX0_leanFor_67 : decode cX0_leanFor 67 = .ok (.if_icmp .gt 6, 3) := dk_163 0 6 (dk_at dksX0_leanFor_2 19 rfl rfl)
theorem dX0_leanFor_70 : decode cX0_leanFor 70 = .ok (.goto 17, 3) := dk_167 0 17 (dk_at dksX0_leanFor_3 0 rfl rfl)
theorem dX0_leanFor_73 : decode cX0_leanFor 73 = .ok (.iload 5, 2) := dk_21 5 (dk_at dksX0_leanFor_3 3 rfl rfl)
theorem dX0_leanFor_75 : decode cX0_leanFor 75 = .ok (.istore_n 3, 1) := dk_62 (dk_at dksX0_leanFor_3 5 rfl rfl)
theorem dX0_leanFor_76 : decode cX0_leanFor 76 = .ok (.aload_n 0, 1) := dk_42 (dk_at dksX0_leanFor_3 6 rfl rfl)
theorem dX0_leanFor_77 : decode cX0_leanFor 77 = .ok (.getfield 60, 3) := dk_180 0 60 (dk_at dksX0_leanFor_3 7 rfl rfl)
theorem dX0_leanFor_80 : decode cX0_leanFor 80 = .ok (.getfield 241, 3) := dk_180 0 241 (dk_at dksX0_leanFor_3 10 rfl rfl)
theorem dX0_leanFor_83 : decode cX0_leanFor 83 = .ok (.iload_n 1, 1) := dk_27 (dk_at dksX0_leanFor_3 13 rfl rfl)
theorem dX0_leanFor_84 : decode cX0_leanFor 84 = .ok (.iaload, 1) := dk_46 (dk_at dksX0_leanFor_3 14 rfl rfl)
theorem dX0_leanFor_85 : decode cX0_leanFor 85 = .ok (.istore 4, 2) := dk_54 4 (dk_at dksX0_leanFor_3 15 rfl rfl)
theorem dX0_leanFor_87 : decode cX0_leanFor 87 = .ok (.iinc 5 1, 3) := dk_132 5 1 (dk_at dksX0_leanFor_3 17 rfl rfl)
theorem dX0_leanFor_90 : decode cX0_leanFor 90 = .ok (.goto (-60), 3) := dk_167 255 196 (dk_at dksX0_leanFor_3 20 rfl rfl)
theorem dX0_leanFor_93 : decode cX0_leanFor 93 = .ok (.iload_n 3, 1) := dk_29 (dk_at dksX0_leanFor_3 23 rfl rfl)
theorem dX0_leanFor_94 : decode cX0_leanFor 94 = .ok (.ireturn, 1) := dk_172 (dk_at dksX0_leanFor_4 0 rfl rfl)
theorem dX0_leanFor_95 : decode cX0_leanFor 95 = .ok (.astore_n 3, 1) := dk_78 (dk_at dksX0_leanFor_4 1 rfl rfl)
theorem dX0_leanFor_96 : decode cX0_leanFor 96 = .ok (.aload_n 0, 1) := dk_42 (dk_at dksX0_leanFor_4 2 rfl rfl)
theorem dX0_leanFor_97 : decode cX0_leanFor 97 = .ok (.aload_n 3, 1) := dk_45 (dk_at dksX0_leanFor_4 3 rfl rfl)
theorem dX0_leanFor_98 : decode cX0_leanFor 98 = .ok (.invokevirtual 122, 3) := dk_182 0 122 (dk_at dksX0_leanFor_4 4 rfl rfl)
theorem dX0_leanFor_101 : decode cX0_leanFor 101 = .ok (.ireturn, 1) := dk_172 (dk_at dksX0_leanFor_4 7 rfl rfl)
abbrev cX0_kind : ByteArray := prog_1_method_45_code
def yX0_kind : MethodName := ⟨RX0, "kind", "(I)I"⟩
def dkwX0_kind_3 : List UInt8 := [172, 77, 42, 44, 182, 0, 122, 172]
abbrev dktX0_kind_3 : List UInt8 := dkwX0_kind_3 ++ []
def dkwX0_kind_2 : List UInt8 := [54, 5, 21, 5, 29, 161, 0, 6, 167, 0, 9, 21, 4, 61, 21, 5, 62, 132, 4, 1, 167, 255, 208, 28]
abbrev dktX0_kind_2 : List UInt8 := dkwX0_kind_2 ++ dktX0_kind_3
def dkwX0_kind_1 : List UInt8 := [162, 0, 47, 42, 180, 0, 60, 27, 21, 4, 182, 0, 165, 42, 180, 0, 60, 27, 182, 0, 94, 182, 0, 154]
abbrev dktX0_kind_1 : List UInt8 := dkwX0_kind_1 ++ dktX0_kind_2
def dkwX0_kind_0 : List UInt8 := [42, 27, 182, 0, 148, 87, 3, 61, 17, 3, 231, 62, 42, 182, 0, 237, 87, 3, 54, 4, 21, 4, 16, 6]
abbrev dktX0_kind_0 : List UInt8 := dkwX0_kind_0 ++ dktX0_kind_1
theorem dksX0_kind_0 : cX0_kind.data.toList.drop 0 = dktX0_kind_0 := by decide +kernel
theorem dksX0_kind_1 : cX0_kind.data.toList.drop 24 = dktX0_kind_1 := dk_seg dksX0_kind_0 24 rfl rfl
theorem dksX0_kind_2 : cX0_kind.data.toList.drop 48 = dktX0_kind_2 := dk_seg dksX0_kind_1 24 rfl rfl
theorem dksX0_kind_3 : cX0_kind.data.toList.drop 72 = dktX0_kind_3 := dk_seg dksX0_kind_2 24 rfl rfl
theorem dX0_kind_0 : decode cX0_kind 0 = .ok (.aload_n 0, 1) := dk_42 (dk_at dksX0_kind_0 0 rfl rfl)
theorem dX0_kind_1 : decode cX0_kind 1 = .ok (.iload_n 1, 1) := dk_27 (dk_at dksX0_kind_0 1 rfl rfl)
theorem dX0_kind_2 : decode cX0_kind 2 = .ok (.invokevirtual 148, 3) := dk_182 0 148 (dk_at dksX0_kind_0 2 rfl rfl)
theorem dX0_kind_5 : decode cX0_kind 5 = .ok (.pop, 1) := dk_87 (dk_at dksX0_kind_0 5 rfl rfl)
theorem dX0_kind_6 : decode cX0_kind 6 = .ok (.iconst 0, 1) := dk_3 (dk_at dksX0_kind_0 6 rfl rfl)
theorem dX0_kind_7 : decode cX0_kind 7 = .ok (.istore_n 2, 1) := dk_61 (dk_at dksX0_kind_0 7 rfl rfl)
theorem dX0_kind_8 : decode cX0_kind 8 = .ok (.sipush 999, 3) := dk_17 3 231 (dk_at dksX0_kind_0 8 rfl rfl)
theorem dX0_kind_11 : decode cX0_kind 11 = .ok (.istore_n 3, 1) := dk_62 (dk_at dksX0_kind_0 11 rfl rfl)
theorem dX0_kind_12 : decode cX0_kind 12 = .ok (.aload_n 0, 1) := dk_42 (dk_at dksX0_kind_0 12 rfl rfl)
theorem dX0_kind_13 : decode cX0_kind 13 = .ok (.invokevirtual 237, 3) := dk_182 0 237 (dk_at dksX0_kind_0 13 rfl rfl)
theorem dX0_kind_16 : decode cX0_kind 16 = .ok (.pop, 1) := dk_87 (dk_at dksX0_kind_0 16 rfl rfl)
theorem dX0_kind_17 : decode cX0_kind 17 = .ok (.iconst 0, 1) := dk_3 (dk_at dksX0_kind_0 17 rfl rfl)
theorem dX0_kind_18 : decode cX0_kind 18 = .ok (.istore 4, 2) := dk_54 4 (dk_at dksX0_kind_0 18 rfl rfl)
theorem dX0_kind_20 : decode cX0_kind 20 = .ok (.iload 4, 2) := dk_21 4 (dk_at dksX0_kind_0 20 rfl rfl)
theorem dX0_kind_22 : decode cX0_kind 22 = .ok (.bipush 6, 2) := dk_16 6 (dk_at dksX0_kind_0 22 rfl rfl)
theorem dX0_kind_24 : decode cX0_kind 24 = .ok (.if_icmp .ge 47, 3) := dk_162 0 47 (dk_at dksX0_kind_1 0 rfl rfl)
theorem dX0_kind_27 : decode cX0_kind 27 = .ok (.aload_n 0, 1) := dk_42 (dk_at dksX0_kind_1 3 rfl rfl)
theorem dX0_kind_28 : decode cX0_kind 28 = .ok (.getfield 60, 3) := dk_180 0 60 (dk_at dksX0_kind_1 4 rfl rfl)
theorem dX0_kind_31 : decode cX0_kind 31 = .ok (.iload_n 1, 1) := dk_27 (dk_at dksX0_kind_1 7 rfl rfl)
theorem dX0_kind_32 : decode cX0_kind 32 = .ok (.iload 4, 2) := dk_21 4 (dk_at dksX0_kind_1 8 rfl rfl)
theorem dX0_kind_34 : decode cX0_kind 34 = .ok (.invokevirtual 165, 3) := dk_182 0 165 (dk_at dksX0_kind_1 10 rfl rfl)
theorem dX0_kind_37 : decode cX0_kind 37 = .ok (.aload_n 0, 1) := dk_42 (dk_at dksX0_kind_1 13 rfl rfl)
theorem dX0_kind_38 : decode cX0_kind 38 = .ok (.getfield 60, 3) := dk_180 0 60 (dk_at dksX0_kind_1 14 rfl rfl)
theorem dX0_kind_41 : decode cX0_kind 41 = .ok (.iload_n 1, 1) := dk_27 (dk_at dksX0_kind_1 17 rfl rfl)
theorem dX0_kind_42 : decode cX0_kind 42 = .ok (.invokevirtual 94, 3) := dk_182 0 94 (dk_at dksX0_kind_1 18 rfl rfl)
theorem dX0_kind_45 : decode cX0_kind 45 = .ok (.invokevirtual 154, 3) := dk_182 0 154 (dk_at dksX0_kind_1 21 rfl rfl)
theorem dX0_kind_48 : decode cX0_kind 48 = .ok (.istore 5, 2) := dk_54 5 (dk_at dksX0_kind_2 0 rfl rfl)
theorem dX0_kind_50 : decode cX0_kind 50 = .ok (.iload 5, 2) := dk_21 5 (dk_at dksX0_kind_2 2 rfl rfl)
theorem dX0_kind_52 : decode cX0_kind 52 = .ok (.iload_n 3, 1) := dk_29 (dk_at dksX0_kind_2 4 rfl rfl)
theorem dX0_kind_53 : decode cX0_kind 53 = .ok (.if_icmp .lt 6, 3) := dk_161 0 6 (dk_at dksX0_kind_2 5 rfl rfl)
theorem dX0_kind_56 : decode cX0_kind 56 = .ok (.goto 9, 3) := dk_167 0 9 (dk_at dksX0_kind_2 8 rfl rfl)
theorem dX0_kind_59 : decode cX0_kind 59 = .ok (.iload 4, 2) := dk_21 4 (dk_at dksX0_kind_2 11 rfl rfl)
theorem dX0_kind_61 : decode cX0_kind 61 = .ok (.istore_n 2, 1) := dk_61 (dk_at dksX0_kind_2 13 rfl rfl)
theorem dX0_kind_62 : decode cX0_kind 62 = .ok (.iload 5, 2) := dk_21 5 (dk_at dksX0_kind_2 14 rfl rfl)
theorem dX0_kind_64 : decode cX0_kind 64 = .ok (.istore_n 3, 1) := dk_62 (dk_at dksX0_kind_2 16 rfl rfl)
theorem dX0_kind_65 : decode cX0_kind 65 = .ok (.iinc 4 1, 3) := dk_132 4 1 (dk_at dksX0_kind_2 17 rfl rfl)
theorem dX0_kind_68 : decode cX0_kind 68 = .ok (.goto (-48), 3) := dk_167 255 208 (dk_at dksX0_kind_2 20 rfl rfl)
theorem dX0_kind_71 : decode cX0_kind 71 = .ok (.iload_n 2, 1) := dk_28 (dk_at dksX0_kind_2 23 rfl rfl)
theorem dX0_kind_72 : decode cX0_kind 72 = .ok (.ireturn, 1) := dk_172 (dk_at dksX0_kind_3 0 rfl rfl)
theorem dX0_kind_73 : decode cX0_kind 73 = .ok (.astore_n 2, 1) := dk_77 (dk_at dksX0_kind_3 1 rfl rfl)
theorem dX0_kind_74 : decode cX0_kind 74 = .ok (.aload_n 0, 1) := dk_42 (dk_at dksX0_kind_3 2 rfl rfl)
theorem dX0_kind_75 : decode cX0_kind 75 = .ok (.aload_n 2, 1) := dk_44 (dk_at dksX0_kind_3 3 rfl rfl)
theorem dX0_kind_76 : decode cX0_kind 76 = .ok (.invokevirtual 122, 3) := dk_182 0 122 (dk_at dksX0_kind_3 4 rfl rfl)
theorem dX0_kind_79 : decode cX0_kind 79 = .ok (.ireturn, 1) := dk_172 (dk_at dksX0_kind_3 7 rfl rfl)
abbrev cX0_host : ByteArray := prog_1_method_46_code
def yX0_host : MethodName := ⟨RX0, "host", "(I)I"⟩
def dkwX0_host_0 : List UInt8 := [42, 180, 0, 50, 42, 27, 182, 0, 148, 182, 1, 0, 184, 1, 4, 172, 77, 42, 44, 182, 0, 122, 172]
abbrev dktX0_host_0 : List UInt8 := dkwX0_host_0 ++ []
theorem dksX0_host_0 : cX0_host.data.toList.drop 0 = dktX0_host_0 := by decide +kernel
theorem dX0_host_0 : decode cX0_host 0 = .ok (.aload_n 0, 1) := dk_42 (dk_at dksX0_host_0 0 rfl rfl)
theorem dX0_host_1 : decode cX0_host 1 = .ok (.getfield 50, 3) := dk_180 0 50 (dk_at dksX0_host_0 1 rfl rfl)
theorem dX0_host_4 : decode cX0_host 4 = .ok (.aload_n 0, 1) := dk_42 (dk_at dksX0_host_0 4 rfl rfl)
theorem dX0_host_5 : decode cX0_host 5 = .ok (.iload_n 1, 1) := dk_27 (dk_at dksX0_host_0 5 rfl rfl)
theorem dX0_host_6 : decode cX0_host 6 = .ok (.invokevirtual 148, 3) := dk_182 0 148 (dk_at dksX0_host_0 6 rfl rfl)
theorem dX0_host_9 : decode cX0_host 9 = .ok (.invokevirtual 256, 3) := dk_182 1 0 (dk_at dksX0_host_0 9 rfl rfl)
theorem dX0_host_12 : decode cX0_host 12 = .ok (.invokestatic 260, 3) := dk_184 1 4 (dk_at dksX0_host_0 12 rfl rfl)
theorem dX0_host_15 : decode cX0_host 15 = .ok (.ireturn, 1) := dk_172 (dk_at dksX0_host_0 15 rfl rfl)
theorem dX0_host_16 : decode cX0_host 16 = .ok (.astore_n 2, 1) := dk_77 (dk_at dksX0_host_0 16 rfl rfl)
theorem dX0_host_17 : decode cX0_host 17 = .ok (.aload_n 0, 1) := dk_42 (dk_at dksX0_host_0 17 rfl rfl)
theorem dX0_host_18 : decode cX0_host 18 = .ok (.aload_n 2, 1) := dk_44 (dk_at dksX0_host_0 18 rfl rfl)
theorem dX0_host_19 : decode cX0_host 19 = .ok (.invokevirtual 122, 3) := dk_182 0 122 (dk_at dksX0_host_0 19 rfl rfl)
theorem dX0_host_22 : decode cX0_host 22 = .ok (.ireturn, 1) := dk_172 (dk_at dksX0_host_0 22 rfl rfl)
abbrev cX0_orNone : ByteArray := prog_1_method_12_code
def yX0_orNone : MethodName := ⟨RX0, "orNone", "(I)I"⟩
def dkwX0_orNone_0 : List UInt8 := [26, 155, 0, 7, 4, 167, 0, 4, 3, 6, 184, 0, 87, 26, 172]
abbrev dktX0_orNone_0 : List UInt8 := dkwX0_orNone_0 ++ []
theorem dksX0_orNone_0 : cX0_orNone.data.toList.drop 0 = dktX0_orNone_0 := by decide +kernel
theorem dX0_orNone_0 : decode cX0_orNone 0 = .ok (.iload_n 0, 1) := dk_26 (dk_at dksX0_orNone_0 0 rfl rfl)
theorem dX0_orNone_1 : decode cX0_orNone 1 = .ok (.ifCond .lt 7, 3) := dk_155 0 7 (dk_at dksX0_orNone_0 1 rfl rfl)
theorem dX0_orNone_4 : decode cX0_orNone 4 = .ok (.iconst 1, 1) := dk_4 (dk_at dksX0_orNone_0 4 rfl rfl)
theorem dX0_orNone_5 : decode cX0_orNone 5 = .ok (.goto 4, 3) := dk_167 0 4 (dk_at dksX0_orNone_0 5 rfl rfl)
theorem dX0_orNone_8 : decode cX0_orNone 8 = .ok (.iconst 0, 1) := dk_3 (dk_at dksX0_orNone_0 8 rfl rfl)
theorem dX0_orNone_9 : decode cX0_orNone 9 = .ok (.iconst 3, 1) := dk_6 (dk_at dksX0_orNone_0 9 rfl rfl)
theorem dX0_orNone_10 : decode cX0_orNone 10 = .ok (.invokestatic 87, 3) := dk_184 0 87 (dk_at dksX0_orNone_0 10 rfl rfl)
theorem dX0_orNone_13 : decode cX0_orNone 13 = .ok (.iload_n 0, 1) := dk_26 (dk_at dksX0_orNone_0 13 rfl rfl)
theorem dX0_orNone_14 : decode cX0_orNone 14 = .ok (.ireturn, 1) := dk_172 (dk_at dksX0_orNone_0 14 rfl rfl)
abbrev cX0_beds : ByteArray := prog_1_method_47_code
def yX0_beds : MethodName := ⟨RX0, "beds", "(II)I"⟩
def dkwX0_beds_3 : List UInt8 := [183, 0, 3, 191, 78, 42, 45, 182, 0, 122, 172]
abbrev dktX0_beds_3 : List UInt8 := dkwX0_beds_3 ++ []
def dkwX0_beds_2 : List UInt8 := [180, 0, 60, 2, 182, 0, 131, 154, 0, 5, 29, 172, 132, 3, 1, 167, 255, 217, 187, 0, 1, 89, 6]
abbrev dktX0_beds_2 : List UInt8 := dkwX0_beds_2 ++ dktX0_beds_3
def dkwX0_beds_1 : List UInt8 := [29, 6, 163, 0, 40, 42, 182, 0, 237, 180, 0, 206, 27, 29, 79, 42, 180, 0, 60, 28, 182, 0, 203, 42]
abbrev dktX0_beds_1 : List UInt8 := dkwX0_beds_1 ++ dktX0_beds_2
def dkwX0_beds_0 : List UInt8 := [27, 184, 0, 102, 153, 0, 14, 28, 184, 0, 247, 153, 0, 7, 4, 167, 0, 4, 3, 184, 0, 114, 3, 62]
abbrev dktX0_beds_0 : List UInt8 := dkwX0_beds_0 ++ dktX0_beds_1
theorem dksX0_beds_0 : cX0_beds.data.toList.drop 0 = dktX0_beds_0 := by decide +kernel
theorem dksX0_beds_1 : cX0_beds.data.toList.drop 24 = dktX0_beds_1 := dk_seg dksX0_beds_0 24 rfl rfl
theorem dksX0_beds_2 : cX0_beds.data.toList.drop 48 = dktX0_beds_2 := dk_seg dksX0_beds_1 24 rfl rfl
theorem dksX0_beds_3 : cX0_beds.data.toList.drop 71 = dktX0_beds_3 := dk_seg dksX0_beds_2 23 rfl rfl
theorem dX0_beds_0 : decode cX0_beds 0 = .ok (.iload_n 1, 1) := dk_27 (dk_at dksX0_beds_0 0 rfl rfl)
theorem dX0_beds_1 : decode cX0_beds 1 = .ok (.invokestatic 102, 3) := dk_184 0 102 (dk_at dksX0_beds_0 1 rfl rfl)
theorem dX0_beds_4 : decode cX0_beds 4 = .ok (.ifCond .eq 14, 3) := dk_153 0 14 (dk_at dksX0_beds_0 4 rfl rfl)
theorem dX0_beds_7 : decode cX0_beds 7 = .ok (.iload_n 2, 1) := dk_28 (dk_at dksX0_beds_0 7 rfl rfl)
theorem dX0_beds_8 : decode cX0_beds 8 = .ok (.invokestatic 247, 3) := dk_184 0 247 (dk_at dksX0_beds_0 8 rfl rfl)
theorem dX0_beds_11 : decode cX0_beds 11 = .ok (.ifCond .eq 7, 3) := dk_153 0 7 (dk_at dksX0_beds_0 11 rfl rfl)
theorem dX0_beds_14 : decode cX0_beds 14 = .ok (.iconst 1, 1) := dk_4 (dk_at dksX0_beds_0 14 rfl rfl)
theorem dX0_beds_15 : decode cX0_beds 15 = .ok (.goto 4, 3) := dk_167 0 4 (dk_at dksX0_beds_0 15 rfl rfl)
theorem dX0_beds_18 : decode cX0_beds 18 = .ok (.iconst 0, 1) := dk_3 (dk_at dksX0_beds_0 18 rfl rfl)
theorem dX0_beds_19 : decode cX0_beds 19 = .ok (.invokestatic 114, 3) := dk_184 0 114 (dk_at dksX0_beds_0 19 rfl rfl)
theorem dX0_beds_22 : decode cX0_beds 22 = .ok (.iconst 0, 1) := dk_3 (dk_at dksX0_beds_0 22 rfl rfl)
theorem dX0_beds_23 : decode cX0_beds 23 = .ok (.istore_n 3, 1) := dk_62 (dk_at dksX0_beds_0 23 rfl rfl)
theorem dX0_beds_24 : decode cX0_beds 24 = .ok (.iload_n 3, 1) := dk_29 (dk_at dksX0_beds_1 0 rfl rfl)
theorem dX0_beds_25 : decode cX0_beds 25 = .ok (.iconst 3, 1) := dk_6 (dk_at dksX0_beds_1 1 rfl rfl)
theorem dX0_beds_26 : decode cX0_beds 26 = .ok (.if_icmp .gt 40, 3) := dk_163 0 40 (dk_at dksX0_beds_1 2 rfl rfl)
theorem dX0_beds_29 : decode cX0_beds 29 = .ok (.aload_n 0, 1) := dk_42 (dk_at dksX0_beds_1 5 rfl rfl)
theorem dX0_beds_30 : decode cX0_beds 30 = .ok (.invokevirtual 237, 3) := dk_182 0 237 (dk_at dksX0_beds_1 6 rfl rfl)
theorem dX0_beds_33 : decode cX0_beds 33 = .ok (.getfield 206, 3) := dk_180 0 206 (dk_at dksX0_beds_1 9 rfl rfl)
theorem dX0_beds_36 : decode cX0_beds 36 = .ok (.iload_n 1, 1) := dk_27 (dk_at dksX0_beds_1 12 rfl rfl)
theorem dX0_beds_37 : decode cX0_beds 37 = .ok (.iload_n 3, 1) := dk_29 (dk_at dksX0_beds_1 13 rfl rfl)
theorem dX0_beds_38 : decode cX0_beds 38 = .ok (.iastore, 1) := dk_79 (dk_at dksX0_beds_1 14 rfl rfl)
theorem dX0_beds_39 : decode cX0_beds 39 = .ok (.aload_n 0, 1) := dk_42 (dk_at dksX0_beds_1 15 rfl rfl)
theorem dX0_beds_40 : decode cX0_beds 40 = .ok (.getfield 60, 3) := dk_180 0 60 (dk_at dksX0_beds_1 16 rfl rfl)
theorem dX0_beds_43 : decode cX0_beds 43 = .ok (.iload_n 2, 1) := dk_28 (dk_at dksX0_beds_1 19 rfl rfl)
theorem dX0_beds_44 : decode cX0_beds 44 = .ok (.invokevirtual 203, 3) := dk_182 0 203 (dk_at dksX0_beds_1 20 rfl rfl)
theorem dX0_beds_47 : decode cX0_beds 47 = .ok (.aload_n 0, 1) := dk_42 (dk_at dksX0_beds_1 23 rfl rfl)
theorem dX0_beds_48 : decode cX0_beds 48 = .ok (.getfield 60, 3) := dk_180 0 60 (dk_at dksX0_beds_2 0 rfl rfl)
theorem dX0_beds_51 : decode cX0_beds 51 = .ok (.iconst (-1), 1) := dk_2 (dk_at dksX0_beds_2 3 rfl rfl)
theorem dX0_beds_52 : decode cX0_beds 52 = .ok (.invokevirtual 131, 3) := dk_182 0 131 (dk_at dksX0_beds_2 4 rfl rfl)
theorem dX0_beds_55 : decode cX0_beds 55 = .ok (.ifCond .ne 5, 3) := dk_154 0 5 (dk_at dksX0_beds_2 7 rfl rfl)
theorem dX0_beds_58 : decode cX0_beds 58 = .ok (.iload_n 3, 1) := dk_29 (dk_at dksX0_beds_2 10 rfl rfl)
theorem dX0_beds_59 : decode cX0_beds 59 = .ok (.ireturn, 1) := dk_172 (dk_at dksX0_beds_2 11 rfl rfl)
theorem dX0_beds_60 : decode cX0_beds 60 = .ok (.iinc 3 1, 3) := dk_132 3 1 (dk_at dksX0_beds_2 12 rfl rfl)
theorem dX0_beds_63 : decode cX0_beds 63 = .ok (.goto (-39), 3) := dk_167 255 217 (dk_at dksX0_beds_2 15 rfl rfl)
theorem dX0_beds_66 : decode cX0_beds 66 = .ok (.new 1, 3) := dk_187 0 1 (dk_at dksX0_beds_2 18 rfl rfl)
theorem dX0_beds_69 : decode cX0_beds 69 = .ok (.dup, 1) := dk_89 (dk_at dksX0_beds_2 21 rfl rfl)
theorem dX0_beds_70 : decode cX0_beds 70 = .ok (.iconst 3, 1) := dk_6 (dk_at dksX0_beds_2 22 rfl rfl)
theorem dX0_beds_71 : decode cX0_beds 71 = .ok (.invokespecial 3, 3) := dk_183 0 3 (dk_at dksX0_beds_3 0 rfl rfl)
theorem dX0_beds_74 : decode cX0_beds 74 = .ok (.athrow, 1) := dk_191 (dk_at dksX0_beds_3 3 rfl rfl)
theorem dX0_beds_75 : decode cX0_beds 75 = .ok (.astore_n 3, 1) := dk_78 (dk_at dksX0_beds_3 4 rfl rfl)
theorem dX0_beds_76 : decode cX0_beds 76 = .ok (.aload_n 0, 1) := dk_42 (dk_at dksX0_beds_3 5 rfl rfl)
theorem dX0_beds_77 : decode cX0_beds 77 = .ok (.aload_n 3, 1) := dk_45 (dk_at dksX0_beds_3 6 rfl rfl)
theorem dX0_beds_78 : decode cX0_beds 78 = .ok (.invokevirtual 122, 3) := dk_182 0 122 (dk_at dksX0_beds_3 7 rfl rfl)
theorem dX0_beds_81 : decode cX0_beds 81 = .ok (.ireturn, 1) := dk_172 (dk_at dksX0_beds_3 10 rfl rfl)
abbrev cX0_feed : ByteArray := prog_1_method_48_code
def yX0_feed : MethodName := ⟨RX0, "feed", "(II)I"⟩
def dkwX0_feed_3 : List UInt8 := [167, 255, 223, 42, 180, 1, 9, 172, 78, 42, 45, 182, 0, 122, 172]
abbrev dktX0_feed_3 : List UInt8 := dkwX0_feed_3 ++ []
def dkwX0_feed_2 : List UInt8 := [180, 1, 9, 27, 16, 8, 29, 104, 122, 145, 84, 42, 89, 180, 1, 9, 4, 96, 181, 1, 9, 132, 3, 255]
abbrev dktX0_feed_2 : List UInt8 := dkwX0_feed_2 ++ dktX0_feed_3
def dkwX0_feed_1 : List UInt8 := [4, 167, 0, 4, 3, 4, 184, 0, 87, 28, 4, 100, 62, 29, 155, 0, 35, 42, 180, 0, 63, 42]
abbrev dktX0_feed_1 : List UInt8 := dkwX0_feed_1 ++ dktX0_feed_2
def dkwX0_feed_0 : List UInt8 := [28, 133, 10, 20, 1, 7, 184, 0, 16, 3, 184, 0, 87, 42, 180, 1, 9, 28, 96, 16, 120, 163, 0, 7]
abbrev dktX0_feed_0 : List UInt8 := dkwX0_feed_0 ++ dktX0_feed_1
theorem dksX0_feed_0 : cX0_feed.data.toList.drop 0 = dktX0_feed_0 := by decide +kernel
theorem dksX0_feed_1 : cX0_feed.data.toList.drop 24 = dktX0_feed_1 := dk_seg dksX0_feed_0 24 rfl rfl
theorem dksX0_feed_2 : cX0_feed.data.toList.drop 46 = dktX0_feed_2 := dk_seg dksX0_feed_1 22 rfl rfl
theorem dksX0_feed_3 : cX0_feed.data.toList.drop 70 = dktX0_feed_3 := dk_seg dksX0_feed_2 24 rfl rfl
theorem dX0_feed_0 : decode cX0_feed 0 = .ok (.iload_n 2, 1) := dk_28 (dk_at dksX0_feed_0 0 rfl rfl)
theorem dX0_feed_1 : decode cX0_feed 1 = .ok (.i2l, 1) := dk_133 (dk_at dksX0_feed_0 1 rfl rfl)
theorem dX0_feed_2 : decode cX0_feed 2 = .ok (.lconst 1, 1) := dk_10 (dk_at dksX0_feed_0 2 rfl rfl)
theorem dX0_feed_3 : decode cX0_feed 3 = .ok (.ldc2_w 263, 3) := dk_20 1 7 (dk_at dksX0_feed_0 3 rfl rfl)
theorem dX0_feed_6 : decode cX0_feed 6 = .ok (.invokestatic 16, 3) := dk_184 0 16 (dk_at dksX0_feed_0 6 rfl rfl)
theorem dX0_feed_9 : decode cX0_feed 9 = .ok (.iconst 0, 1) := dk_3 (dk_at dksX0_feed_0 9 rfl rfl)
theorem dX0_feed_10 : decode cX0_feed 10 = .ok (.invokestatic 87, 3) := dk_184 0 87 (dk_at dksX0_feed_0 10 rfl rfl)
theorem dX0_feed_13 : decode cX0_feed 13 = .ok (.aload_n 0, 1) := dk_42 (dk_at dksX0_feed_0 13 rfl rfl)
theorem dX0_feed_14 : decode cX0_feed 14 = .ok (.getfield 265, 3) := dk_180 1 9 (dk_at dksX0_feed_0 14 rfl rfl)
theorem dX0_feed_17 : decode cX0_feed 17 = .ok (.iload_n 2, 1) := dk_28 (dk_at dksX0_feed_0 17 rfl rfl)
theorem dX0_feed_18 : decode cX0_feed 18 = .ok (.iadd, 1) := dk_96 (dk_at dksX0_feed_0 18 rfl rfl)
theorem dX0_feed_19 : decode cX0_feed 19 = .ok (.bipush 120, 2) := dk_16 120 (dk_at dksX0_feed_0 19 rfl rfl)
theorem dX0_feed_21 : decode cX0_feed 21 = .ok (.if_icmp .gt 7, 3) := dk_163 0 7 (dk_at dksX0_feed_0 21 rfl rfl)
theorem dX0_feed_24 : decode cX0_feed 24 = .ok (.iconst 1, 1) := dk_4 (dk_at dksX0_feed_1 0 rfl rfl)
theorem dX0_feed_25 : decode cX0_feed 25 = .ok (.goto 4, 3) := dk_167 0 4 (dk_at dksX0_feed_1 1 rfl rfl)
theorem dX0_feed_28 : decode cX0_feed 28 = .ok (.iconst 0, 1) := dk_3 (dk_at dksX0_feed_1 4 rfl rfl)
theorem dX0_feed_29 : decode cX0_feed 29 = .ok (.iconst 1, 1) := dk_4 (dk_at dksX0_feed_1 5 rfl rfl)
theorem dX0_feed_30 : decode cX0_feed 30 = .ok (.invokestatic 87, 3) := dk_184 0 87 (dk_at dksX0_feed_1 6 rfl rfl)
theorem dX0_feed_33 : decode cX0_feed 33 = .ok (.iload_n 2, 1) := dk_28 (dk_at dksX0_feed_1 9 rfl rfl)
theorem dX0_feed_34 : decode cX0_feed 34 = .ok (.iconst 1, 1) := dk_4 (dk_at dksX0_feed_1 10 rfl rfl)
theorem dX0_feed_35 : decode cX0_feed 35 = .ok (.isub, 1) := dk_100 (dk_at dksX0_feed_1 11 rfl rfl)
theorem dX0_feed_36 : decode cX0_feed 36 = .ok (.istore_n 3, 1) := dk_62 (dk_at dksX0_feed_1 12 rfl rfl)
theorem dX0_feed_37 : decode cX0_feed 37 = .ok (.iload_n 3, 1) := dk_29 (dk_at dksX0_feed_1 13 rfl rfl)
theorem dX0_feed_38 : decode cX0_feed 38 = .ok (.ifCond .lt 35, 3) := dk_155 0 35 (dk_at dksX0_feed_1 14 rfl rfl)
theorem dX0_feed_41 : decode cX0_feed 41 = .ok (.aload_n 0, 1) := dk_42 (dk_at dksX0_feed_1 17 rfl rfl)
theorem dX0_feed_42 : decode cX0_feed 42 = .ok (.getfield 63, 3) := dk_180 0 63 (dk_at dksX0_feed_1 18 rfl rfl)
theorem dX0_feed_45 : decode cX0_feed 45 = .ok (.aload_n 0, 1) := dk_42 (dk_at dksX0_feed_1 21 rfl rfl)
theorem dX0_feed_46 : decode cX0_feed 46 = .ok (.getfield 265, 3) := dk_180 1 9 (dk_at dksX0_feed_2 0 rfl rfl)
theorem dX0_feed_49 : decode cX0_feed 49 = .ok (.iload_n 1, 1) := dk_27 (dk_at dksX0_feed_2 3 rfl rfl)
theorem dX0_feed_50 : decode cX0_feed 50 = .ok (.bipush 8, 2) := dk_16 8 (dk_at dksX0_feed_2 4 rfl rfl)
theorem dX0_feed_52 : decode cX0_feed 52 = .ok (.iload_n 3, 1) := dk_29 (dk_at dksX0_feed_2 6 rfl rfl)
theorem dX0_feed_53 : decode cX0_feed 53 = .ok (.imul, 1) := dk_104 (dk_at dksX0_feed_2 7 rfl rfl)
theorem dX0_feed_54 : decode cX0_feed 54 = .ok (.ishr, 1) := dk_122 (dk_at dksX0_feed_2 8 rfl rfl)
theorem dX0_feed_55 : decode cX0_feed 55 = .ok (.i2b, 1) := dk_145 (dk_at dksX0_feed_2 9 rfl rfl)
theorem dX0_feed_56 : decode cX0_feed 56 = .ok (.bastore, 1) := dk_84 (dk_at dksX0_feed_2 10 rfl rfl)
theorem dX0_feed_57 : decode cX0_feed 57 = .ok (.aload_n 0, 1) := dk_42 (dk_at dksX0_feed_2 11 rfl rfl)
theorem dX0_feed_58 : decode cX0_feed 58 = .ok (.dup, 1) := dk_89 (dk_at dksX0_feed_2 12 rfl rfl)
theorem dX0_feed_59 : decode cX0_feed 59 = .ok (.getfield 265, 3) := dk_180 1 9 (dk_at dksX0_feed_2 13 rfl rfl)
theorem dX0_feed_62 : decode cX0_feed 62 = .ok (.iconst 1, 1) := dk_4 (dk_at dksX0_feed_2 16 rfl rfl)
theorem dX0_feed_63 : decode cX0_feed 63 = .ok (.iadd, 1) := dk_96 (dk_at dksX0_feed_2 17 rfl rfl)
theorem dX0_feed_64 : decode cX0_feed 64 = .ok (.putfield 265, 3) := dk_181 1 9 (dk_at dksX0_feed_2 18 rfl rfl)
theorem dX0_feed_67 : decode cX0_feed 67 = .ok (.iinc 3 (-1), 3) := dk_132 3 255 (dk_at dksX0_feed_2 21 rfl rfl)
theorem dX0_feed_70 : decode cX0_feed 70 = .ok (.goto (-33), 3) := dk_167 255 223 (dk_at dksX0_feed_3 0 rfl rfl)
theorem dX0_feed_73 : decode cX0_feed 73 = .ok (.aload_n 0, 1) := dk_42 (dk_at dksX0_feed_3 3 rfl rfl)
theorem dX0_feed_74 : decode cX0_feed 74 = .ok (.getfield 265, 3) := dk_180 1 9 (dk_at dksX0_feed_3 4 rfl rfl)
theorem dX0_feed_77 : decode cX0_feed 77 = .ok (.ireturn, 1) := dk_172 (dk_at dksX0_feed_3 7 rfl rfl)
theorem dX0_feed_78 : decode cX0_feed 78 = .ok (.astore_n 3, 1) := dk_78 (dk_at dksX0_feed_3 8 rfl rfl)
theorem dX0_feed_79 : decode cX0_feed 79 = .ok (.aload_n 0, 1) := dk_42 (dk_at dksX0_feed_3 9 rfl rfl)
theorem dX0_feed_80 : decode cX0_feed 80 = .ok (.aload_n 3, 1) := dk_45 (dk_at dksX0_feed_3 10 rfl rfl)
theorem dX0_feed_81 : decode cX0_feed 81 = .ok (.invokevirtual 122, 3) := dk_182 0 122 (dk_at dksX0_feed_3 11 rfl rfl)
theorem dX0_feed_84 : decode cX0_feed 84 = .ok (.ireturn, 1) := dk_172 (dk_at dksX0_feed_3 14 rfl rfl)
abbrev cX0_wipe : ByteArray := prog_1_method_49_code
def yX0_wipe : MethodName := ⟨RX0, "wipe", "()I"⟩
def dkwX0_wipe_0 : List UInt8 := [42, 180, 1, 9, 60, 42, 3, 181, 1, 9, 27, 172]
abbrev dktX0_wipe_0 : List UInt8 := dkwX0_wipe_0 ++ []
theorem dksX0_wipe_0 : cX0_wipe.data.toList.drop 0 = dktX0_wipe_0 := by decide +kernel
theorem dX0_wipe_0 : decode cX0_wipe 0 = .ok (.aload_n 0, 1) := dk_42 (dk_at dksX0_wipe_0 0 rfl rfl)
theorem dX0_wipe_1 : decode cX0_wipe 1 = .ok (.getfield 265, 3) := dk_180 1 9 (dk_at dksX0_wipe_0 1 rfl rfl)
theorem dX0_wipe_4 : decode cX0_wipe 4 = .ok (.istore_n 1, 1) := dk_60 (dk_at dksX0_wipe_0 4 rfl rfl)
theorem dX0_wipe_5 : decode cX0_wipe 5 = .ok (.aload_n 0, 1) := dk_42 (dk_at dksX0_wipe_0 5 rfl rfl)
theorem dX0_wipe_6 : decode cX0_wipe 6 = .ok (.iconst 0, 1) := dk_3 (dk_at dksX0_wipe_0 6 rfl rfl)
theorem dX0_wipe_7 : decode cX0_wipe 7 = .ok (.putfield 265, 3) := dk_181 1 9 (dk_at dksX0_wipe_0 7 rfl rfl)
theorem dX0_wipe_10 : decode cX0_wipe 10 = .ok (.iload_n 1, 1) := dk_27 (dk_at dksX0_wipe_0 10 rfl rfl)
theorem dX0_wipe_11 : decode cX0_wipe 11 = .ok (.ireturn, 1) := dk_172 (dk_at dksX0_wipe_0 11 rfl rfl)
abbrev cX0_town : ByteArray := prog_1_method_50_code
def yX0_town : MethodName := ⟨RX0, "town", "()I"⟩
def dkwX0_town_3 : List UInt8 := [181, 1, 9, 45, 191]
abbrev dktX0_town_3 : List UInt8 := dkwX0_town_3 ++ []
def dkwX0_town_2 : List UInt8 := [3, 181, 1, 9, 28, 172, 76, 2, 43, 180, 1, 22, 100, 61, 42, 3, 181, 1, 9, 28, 172, 78, 42, 3]
abbrev dktX0_town_2 : List UInt8 := dkwX0_town_2 ++ dktX0_town_3
def dkwX0_town_1 : List UInt8 := [180, 0, 57, 183, 1, 14, 182, 1, 17, 60, 42, 180, 0, 50, 42, 180, 0, 57, 182, 0, 98, 27, 61, 42]
abbrev dktX0_town_1 : List UInt8 := dkwX0_town_1 ++ dktX0_town_2
def dkwX0_town_0 : List UInt8 := [42, 180, 0, 57, 42, 180, 0, 50, 182, 0, 98, 187, 1, 12, 89, 42, 180, 0, 63, 42, 180, 1, 9, 42]
abbrev dktX0_town_0 : List UInt8 := dkwX0_town_0 ++ dktX0_town_1
theorem dksX0_town_0 : cX0_town.data.toList.drop 0 = dktX0_town_0 := by decide +kernel
theorem dksX0_town_1 : cX0_town.data.toList.drop 24 = dktX0_town_1 := dk_seg dksX0_town_0 24 rfl rfl
theorem dksX0_town_2 : cX0_town.data.toList.drop 48 = dktX0_town_2 := dk_seg dksX0_town_1 24 rfl rfl
theorem dksX0_town_3 : cX0_town.data.toList.drop 72 = dktX0_town_3 := dk_seg dksX0_town_2 24 rfl rfl
theorem dX0_town_0 : decode cX0_town 0 = .ok (.aload_n 0, 1) := dk_42 (dk_at dksX0_town_0 0 rfl rfl)
theorem dX0_town_1 : decode cX0_town 1 = .ok (.getfield 57, 3) := dk_180 0 57 (dk_at dksX0_town_0 1 rfl rfl)
theorem dX0_town_4 : decode cX0_town 4 = .ok (.aload_n 0, 1) := dk_42 (dk_at dksX0_town_0 4 rfl rfl)
theorem dX0_town_5 : decode cX0_town 5 = .ok (.getfield 50, 3) := dk_180 0 50 (dk_at dksX0_town_0 5 rfl rfl)
theorem dX0_town_8 : decode cX0_town 8 = .ok (.invokevirtual 98, 3) := dk_182 0 98 (dk_at dksX0_town_0 8 rfl rfl)
theorem dX0_town_11 : decode cX0_town 11 = .ok (.new 268, 3) := dk_187 1 12 (dk_at dksX0_town_0 11 rfl rfl)
theorem dX0_town_14 : decode cX0_town 14 = .ok (.dup, 1) := dk_89 (dk_at dksX0_town_0 14 rfl rfl)
theorem dX0_town_15 : decode cX0_town 15 = .ok (.aload_n 0, 1) := dk_42 (dk_at dksX0_town_0 15 rfl rfl)
theorem dX0_town_16 : decode cX0_town 16 = .ok (.getfield 63, 3) := dk_180 0 63 (dk_at dksX0_town_0 16 rfl rfl)
theorem dX0_town_19 : decode cX0_town 19 = .ok (.aload_n 0, 1) := dk_42 (dk_at dksX0_town_0 19 rfl rfl)
theorem dX0_town_20 : decode cX0_town 20 = .ok (.getfield 265, 3) := dk_180 1 9 (dk_at dksX0_town_0 20 rfl rfl)
theorem dX0_town_23 : decode cX0_town 23 = .ok (.aload_n 0, 1) := dk_42 (dk_at dksX0_town_0 23 rfl rfl)
theorem dX0_town_24 : decode cX0_town 24 = .ok (.getfield 57, 3) := dk_180 0 57 (dk_at dksX0_town_1 0 rfl rfl)
theorem dX0_town_27 : decode cX0_town 27 = .ok (.invokespecial 270, 3) := dk_183 1 14 (dk_at dksX0_town_1 3 rfl rfl)
theorem dX0_town_30 : decode cX0_town 30 = .ok (.invokevirtual 273, 3) := dk_182 1 17 (dk_at dksX0_town_1 6 rfl rfl)
theorem dX0_town_33 : decode cX0_town 33 = .ok (.istore_n 1, 1) := dk_60 (dk_at dksX0_town_1 9 rfl rfl)
theorem dX0_town_34 : decode cX0_town 34 = .ok (.aload_n 0, 1) := dk_42 (dk_at dksX0_town_1 10 rfl rfl)
theorem dX0_town_35 : decode cX0_town 35 = .ok (.getfield 50, 3) := dk_180 0 50 (dk_at dksX0_town_1 11 rfl rfl)
theorem dX0_town_38 : decode cX0_town 38 = .ok (.aload_n 0, 1) := dk_42 (dk_at dksX0_town_1 14 rfl rfl)
theorem dX0_town_39 : decode cX0_town 39 = .ok (.getfield 57, 3) := dk_180 0 57 (dk_at dksX0_town_1 15 rfl rfl)
theorem dX0_town_42 : decode cX0_town 42 = .ok (.invokevirtual 98, 3) := dk_182 0 98 (dk_at dksX0_town_1 18 rfl rfl)
theorem dX0_town_45 : decode cX0_town 45 = .ok (.iload_n 1, 1) := dk_27 (dk_at dksX0_town_1 21 rfl rfl)
theorem dX0_town_46 : decode cX0_town 46 = .ok (.istore_n 2, 1) := dk_61 (dk_at dksX0_town_1 22 rfl rfl)
theorem dX0_town_47 : decode cX0_town 47 = .ok (.aload_n 0, 1) := dk_42 (dk_at dksX0_town_1 23 rfl rfl)
theorem dX0_town_48 : decode cX0_town 48 = .ok (.iconst 0, 1) := dk_3 (dk_at dksX0_town_2 0 rfl rfl)
theorem dX0_town_49 : decode cX0_town 49 = .ok (.putfield 265, 3) := dk_181 1 9 (dk_at dksX0_town_2 1 rfl rfl)
theorem dX0_town_52 : decode cX0_town 52 = .ok (.iload_n 2, 1) := dk_28 (dk_at dksX0_town_2 4 rfl rfl)
theorem dX0_town_53 : decode cX0_town 53 = .ok (.ireturn, 1) := dk_172 (dk_at dksX0_town_2 5 rfl rfl)
theorem dX0_town_54 : decode cX0_town 54 = .ok (.astore_n 1, 1) := dk_76 (dk_at dksX0_town_2 6 rfl rfl)
theorem dX0_town_55 : decode cX0_town 55 = .ok (.iconst (-1), 1) := dk_2 (dk_at dksX0_town_2 7 rfl rfl)
theorem dX0_town_56 : decode cX0_town 56 = .ok (.aload_n 1, 1) := dk_43 (dk_at dksX0_town_2 8 rfl rfl)
theorem dX0_town_57 : decode cX0_town 57 = .ok (.getfield 278, 3) := dk_180 1 22 (dk_at dksX0_town_2 9 rfl rfl)
theorem dX0_town_60 : decode cX0_town 60 = .ok (.isub, 1) := dk_100 (dk_at dksX0_town_2 12 rfl rfl)
theorem dX0_town_61 : decode cX0_town 61 = .ok (.istore_n 2, 1) := dk_61 (dk_at dksX0_town_2 13 rfl rfl)
theorem dX0_town_62 : decode cX0_town 62 = .ok (.aload_n 0, 1) := dk_42 (dk_at dksX0_town_2 14 rfl rfl)
theorem dX0_town_63 : decode cX0_town 63 = .ok (.iconst 0, 1) := dk_3 (dk_at dksX0_town_2 15 rfl rfl)
theorem dX0_town_64 : decode cX0_town 64 = .ok (.putfield 265, 3) := dk_181 1 9 (dk_at dksX0_town_2 16 rfl rfl)
theorem dX0_town_67 : decode cX0_town 67 = .ok (.iload_n 2, 1) := dk_28 (dk_at dksX0_town_2 19 rfl rfl)
theorem dX0_town_68 : decode cX0_town 68 = .ok (.ireturn, 1) := dk_172 (dk_at dksX0_town_2 20 rfl rfl)
theorem dX0_town_69 : decode cX0_town 69 = .ok (.astore_n 3, 1) := dk_78 (dk_at dksX0_town_2 21 rfl rfl)
theorem dX0_town_70 : decode cX0_town 70 = .ok (.aload_n 0, 1) := dk_42 (dk_at dksX0_town_2 22 rfl rfl)
theorem dX0_town_71 : decode cX0_town 71 = .ok (.iconst 0, 1) := dk_3 (dk_at dksX0_town_2 23 rfl rfl)
theorem dX0_town_72 : decode cX0_town 72 = .ok (.putfield 265, 3) := dk_181 1 9 (dk_at dksX0_town_3 0 rfl rfl)
theorem dX0_town_75 : decode cX0_town 75 = .ok (.aload_n 3, 1) := dk_45 (dk_at dksX0_town_3 3 rfl rfl)
theorem dX0_town_76 : decode cX0_town 76 = .ok (.athrow, 1) := dk_191 (dk_at dksX0_town_3 4 rfl rfl)
abbrev cX0_lays : ByteArray := prog_1_method_51_code
def yX0_lays : MethodName := ⟨RX0, "lays", "(I)I"⟩
def dkwX0_lays_3 : List UInt8 := [132, 4, 1, 167, 255, 198, 29, 172, 77, 42, 44, 182, 0, 122, 172]
abbrev dktX0_lays_3 : List UInt8 := dkwX0_lays_3 ++ []
def dkwX0_lays_2 : List UInt8 := [167, 0, 23, 42, 180, 0, 50, 180, 0, 253, 21, 4, 44, 21, 4, 184, 1, 36, 136, 79, 132, 3, 1]
abbrev dktX0_lays_2 : List UInt8 := dkwX0_lays_2 ++ dktX0_lays_3
def dkwX0_lays_1 : List UInt8 := [21, 4, 16, 8, 162, 0, 48, 44, 21, 4, 184, 1, 36, 9, 20, 0, 112, 184, 0, 16, 154, 0, 6]
abbrev dktX0_lays_1 : List UInt8 := dkwX0_lays_1 ++ dktX0_lays_2
def dkwX0_lays_0 : List UInt8 := [27, 184, 1, 25, 42, 27, 182, 1, 28, 77, 3, 62, 3, 54, 4, 21, 4, 44, 184, 1, 32, 162, 0, 55]
abbrev dktX0_lays_0 : List UInt8 := dkwX0_lays_0 ++ dktX0_lays_1
theorem dksX0_lays_0 : cX0_lays.data.toList.drop 0 = dktX0_lays_0 := by decide +kernel
theorem dksX0_lays_1 : cX0_lays.data.toList.drop 24 = dktX0_lays_1 := dk_seg dksX0_lays_0 24 rfl rfl
theorem dksX0_lays_2 : cX0_lays.data.toList.drop 47 = dktX0_lays_2 := dk_seg dksX0_lays_1 23 rfl rfl
theorem dksX0_lays_3 : cX0_lays.data.toList.drop 70 = dktX0_lays_3 := dk_seg dksX0_lays_2 23 rfl rfl
theorem dX0_lays_0 : decode cX0_lays 0 = .ok (.iload_n 1, 1) := dk_27 (dk_at dksX0_lays_0 0 rfl rfl)
theorem dX0_lays_1 : decode cX0_lays 1 = .ok (.invokestatic 281, 3) := dk_184 1 25 (dk_at dksX0_lays_0 1 rfl rfl)
theorem dX0_lays_4 : decode cX0_lays 4 = .ok (.aload_n 0, 1) := dk_42 (dk_at dksX0_lays_0 4 rfl rfl)
theorem dX0_lays_5 : decode cX0_lays 5 = .ok (.iload_n 1, 1) := dk_27 (dk_at dksX0_lays_0 5 rfl rfl)
theorem dX0_lays_6 : decode cX0_lays 6 = .ok (.invokevirtual 284, 3) := dk_182 1 28 (dk_at dksX0_lays_0 6 rfl rfl)
theorem dX0_lays_9 : decode cX0_lays 9 = .ok (.astore_n 2, 1) := dk_77 (dk_at dksX0_lays_0 9 rfl rfl)
theorem dX0_lays_10 : decode cX0_lays 10 = .ok (.iconst 0, 1) := dk_3 (dk_at dksX0_lays_0 10 rfl rfl)
theorem dX0_lays_11 : decode cX0_lays 11 = .ok (.istore_n 3, 1) := dk_62 (dk_at dksX0_lays_0 11 rfl rfl)
theorem dX0_lays_12 : decode cX0_lays 12 = .ok (.iconst 0, 1) := dk_3 (dk_at dksX0_lays_0 12 rfl rfl)
theorem dX0_lays_13 : decode cX0_lays 13 = .ok (.istore 4, 2) := dk_54 4 (dk_at dksX0_lays_0 13 rfl rfl)
theorem dX0_lays_15 : decode cX0_lays 15 = .ok (.iload 4, 2) := dk_21 4 (dk_at dksX0_lays_0 15 rfl rfl)
theorem dX0_lays_17 : decode cX0_lays 17 = .ok (.aload_n 2, 1) := dk_44 (dk_at dksX0_lays_0 17 rfl rfl)
theorem dX0_lays_18 : decode cX0_lays 18 = .ok (.invokestatic 288, 3) := dk_184 1 32 (dk_at dksX0_lays_0 18 rfl rfl)
theorem dX0_lays_21 : decode cX0_lays 21 = .ok (.if_icmp .ge 55, 3) := dk_162 0 55 (dk_at dksX0_lays_0 21 rfl rfl)
theorem dX0_lays_24 : decode cX0_lays 24 = .ok (.iload 4, 2) := dk_21 4 (dk_at dksX0_lays_1 0 rfl rfl)
theorem dX0_lays_26 : decode cX0_lays 26 = .ok (.bipush 8, 2) := dk_16 8 (dk_at dksX0_lays_1 2 rfl rfl)
theorem dX0_lays_28 : decode cX0_lays 28 = .ok (.if_icmp .ge 48, 3) := dk_162 0 48 (dk_at dksX0_lays_1 4 rfl rfl)
theorem dX0_lays_31 : decode cX0_lays 31 = .ok (.aload_n 2, 1) := dk_44 (dk_at dksX0_lays_1 7 rfl rfl)
theorem dX0_lays_32 : decode cX0_lays 32 = .ok (.iload 4, 2) := dk_21 4 (dk_at dksX0_lays_1 8 rfl rfl)
theorem dX0_lays_34 : decode cX0_lays 34 = .ok (.invokestatic 292, 3) := dk_184 1 36 (dk_at dksX0_lays_1 10 rfl rfl)
theorem dX0_lays_37 : decode cX0_lays 37 = .ok (.lconst 0, 1) := dk_9 (dk_at dksX0_lays_1 13 rfl rfl)
theorem dX0_lays_38 : decode cX0_lays 38 = .ok (.ldc2_w 112, 3) := dk_20 0 112 (dk_at dksX0_lays_1 14 rfl rfl)
theorem dX0_lays_41 : decode cX0_lays 41 = .ok (.invokestatic 16, 3) := dk_184 0 16 (dk_at dksX0_lays_1 17 rfl rfl)
theorem dX0_lays_44 : decode cX0_lays 44 = .ok (.ifCond .ne 6, 3) := dk_154 0 6 (dk_at dksX0_lays_1 20 rfl rfl)
theorem dX0_lays_47 : decode cX0_lays 47 = .ok (.goto 23, 3) := dk_167 0 23 (dk_at dksX0_lays_2 0 rfl rfl)
theorem dX0_lays_50 : decode cX0_lays 50 = .ok (.aload_n 0, 1) := dk_42 (dk_at dksX0_lays_2 3 rfl rfl)
theorem dX0_lays_51 : decode cX0_lays 51 = .ok (.getfield 50, 3) := dk_180 0 50 (dk_at dksX0_lays_2 4 rfl rfl)
theorem dX0_lays_54 : decode cX0_lays 54 = .ok (.getfield 253, 3) := dk_180 0 253 (dk_at dksX0_lays_2 7 rfl rfl)
theorem dX0_lays_57 : decode cX0_lays 57 = .ok (.iload 4, 2) := dk_21 4 (dk_at dksX0_lays_2 10 rfl rfl)
theorem dX0_lays_59 : decode cX0_lays 59 = .ok (.aload_n 2, 1) := dk_44 (dk_at dksX0_lays_2 12 rfl rfl)
theorem dX0_lays_60 : decode cX0_lays 60 = .ok (.iload 4, 2) := dk_21 4 (dk_at dksX0_lays_2 13 rfl rfl)
theorem dX0_lays_62 : decode cX0_lays 62 = .ok (.invokestatic 292, 3) := dk_184 1 36 (dk_at dksX0_lays_2 15 rfl rfl)
theorem dX0_lays_65 : decode cX0_lays 65 = .ok (.l2i, 1) := dk_136 (dk_at dksX0_lays_2 18 rfl rfl)
theorem dX0_lays_66 : decode cX0_lays 66 = .ok (.iastore, 1) := dk_79 (dk_at dksX0_lays_2 19 rfl rfl)
theorem dX0_lays_67 : decode cX0_lays 67 = .ok (.iinc 3 1, 3) := dk_132 3 1 (dk_at dksX0_lays_2 20 rfl rfl)
theorem dX0_lays_70 : decode cX0_lays 70 = .ok (.iinc 4 1, 3) := dk_132 4 1 (dk_at dksX0_lays_3 0 rfl rfl)
theorem dX0_lays_73 : decode cX0_lays 73 = .ok (.goto (-58), 3) := dk_167 255 198 (dk_at dksX0_lays_3 3 rfl rfl)
theorem dX0_lays_76 : decode cX0_lays 76 = .ok (.iload_n 3, 1) := dk_29 (dk_at dksX0_lays_3 6 rfl rfl)
theorem dX0_lays_77 : decode cX0_lays 77 = .ok (.ireturn, 1) := dk_172 (dk_at dksX0_lays_3 7 rfl rfl)
theorem dX0_lays_78 : decode cX0_lays 78 = .ok (.astore_n 2, 1) := dk_77 (dk_at dksX0_lays_3 8 rfl rfl)
theorem dX0_lays_79 : decode cX0_lays 79 = .ok (.aload_n 0, 1) := dk_42 (dk_at dksX0_lays_3 9 rfl rfl)
theorem dX0_lays_80 : decode cX0_lays 80 = .ok (.aload_n 2, 1) := dk_44 (dk_at dksX0_lays_3 10 rfl rfl)
theorem dX0_lays_81 : decode cX0_lays 81 = .ok (.invokevirtual 122, 3) := dk_182 0 122 (dk_at dksX0_lays_3 11 rfl rfl)
theorem dX0_lays_84 : decode cX0_lays 84 = .ok (.ireturn, 1) := dk_172 (dk_at dksX0_lays_3 14 rfl rfl)
abbrev cX0_sheetAt : ByteArray := prog_1_method_55_code
def yX0_sheetAt : MethodName := ⟨RX0, "sheetAt", "(I)V"⟩
def dkwX0_sheetAt_0 : List UInt8 := [26, 133, 9, 20, 0, 108, 184, 0, 16, 3, 184, 0, 87, 177]
abbrev dktX0_sheetAt_0 : List UInt8 := dkwX0_sheetAt_0 ++ []
theorem dksX0_sheetAt_0 : cX0_sheetAt.data.toList.drop 0 = dktX0_sheetAt_0 := by decide +kernel
theorem dX0_sheetAt_0 : decode cX0_sheetAt 0 = .ok (.iload_n 0, 1) := dk_26 (dk_at dksX0_sheetAt_0 0 rfl rfl)
theorem dX0_sheetAt_1 : decode cX0_sheetAt 1 = .ok (.i2l, 1) := dk_133 (dk_at dksX0_sheetAt_0 1 rfl rfl)
theorem dX0_sheetAt_2 : decode cX0_sheetAt 2 = .ok (.lconst 0, 1) := dk_9 (dk_at dksX0_sheetAt_0 2 rfl rfl)
theorem dX0_sheetAt_3 : decode cX0_sheetAt 3 = .ok (.ldc2_w 108, 3) := dk_20 0 108 (dk_at dksX0_sheetAt_0 3 rfl rfl)
theorem dX0_sheetAt_6 : decode cX0_sheetAt 6 = .ok (.invokestatic 16, 3) := dk_184 0 16 (dk_at dksX0_sheetAt_0 6 rfl rfl)
theorem dX0_sheetAt_9 : decode cX0_sheetAt 9 = .ok (.iconst 0, 1) := dk_3 (dk_at dksX0_sheetAt_0 9 rfl rfl)
theorem dX0_sheetAt_10 : decode cX0_sheetAt 10 = .ok (.invokestatic 87, 3) := dk_184 0 87 (dk_at dksX0_sheetAt_0 10 rfl rfl)
theorem dX0_sheetAt_13 : decode cX0_sheetAt 13 = .ok (.return_, 1) := dk_177 (dk_at dksX0_sheetAt_0 13 rfl rfl)
abbrev cX0_there : ByteArray := prog_1_method_56_code
def yX0_there : MethodName := ⟨RX0, "there", "(I)Ljava/lang/Object;"⟩
def dkwX0_there_1 : List UInt8 := [176]
abbrev dktX0_there_1 : List UInt8 := dkwX0_there_1 ++ []
def dkwX0_there_0 : List UInt8 := [42, 180, 0, 71, 27, 50, 180, 1, 48, 77, 44, 198, 0, 7, 4, 167, 0, 4, 3, 8, 184, 0, 87, 44]
abbrev dktX0_there_0 : List UInt8 := dkwX0_there_0 ++ dktX0_there_1
theorem dksX0_there_0 : cX0_there.data.toList.drop 0 = dktX0_there_0 := by decide +kernel
theorem dksX0_there_1 : cX0_there.data.toList.drop 24 = dktX0_there_1 := dk_seg dksX0_there_0 24 rfl rfl
theorem dX0_there_0 : decode cX0_there 0 = .ok (.aload_n 0, 1) := dk_42 (dk_at dksX0_there_0 0 rfl rfl)
theorem dX0_there_1 : decode cX0_there 1 = .ok (.getfield 71, 3) := dk_180 0 71 (dk_at dksX0_there_0 1 rfl rfl)
theorem dX0_there_4 : decode cX0_there 4 = .ok (.iload_n 1, 1) := dk_27 (dk_at dksX0_there_0 4 rfl rfl)
theorem dX0_there_5 : decode cX0_there 5 = .ok (.aaload, 1) := dk_50 (dk_at dksX0_there_0 5 rfl rfl)
theorem dX0_there_6 : decode cX0_there 6 = .ok (.getfield 304, 3) := dk_180 1 48 (dk_at dksX0_there_0 6 rfl rfl)
theorem dX0_there_9 : decode cX0_there 9 = .ok (.astore_n 2, 1) := dk_77 (dk_at dksX0_there_0 9 rfl rfl)
theorem dX0_there_10 : decode cX0_there 10 = .ok (.aload_n 2, 1) := dk_44 (dk_at dksX0_there_0 10 rfl rfl)
theorem dX0_there_11 : decode cX0_there 11 = .ok (.ifnull 7, 3) := dk_198 0 7 (dk_at dksX0_there_0 11 rfl rfl)
theorem dX0_there_14 : decode cX0_there 14 = .ok (.iconst 1, 1) := dk_4 (dk_at dksX0_there_0 14 rfl rfl)
theorem dX0_there_15 : decode cX0_there 15 = .ok (.goto 4, 3) := dk_167 0 4 (dk_at dksX0_there_0 15 rfl rfl)
theorem dX0_there_18 : decode cX0_there 18 = .ok (.iconst 0, 1) := dk_3 (dk_at dksX0_there_0 18 rfl rfl)
theorem dX0_there_19 : decode cX0_there 19 = .ok (.iconst 5, 1) := dk_8 (dk_at dksX0_there_0 19 rfl rfl)
theorem dX0_there_20 : decode cX0_there 20 = .ok (.invokestatic 87, 3) := dk_184 0 87 (dk_at dksX0_there_0 20 rfl rfl)
theorem dX0_there_23 : decode cX0_there 23 = .ok (.aload_n 2, 1) := dk_44 (dk_at dksX0_there_0 23 rfl rfl)
theorem dX0_there_24 : decode cX0_there 24 = .ok (.areturn, 1) := dk_176 (dk_at dksX0_there_1 0 rfl rfl)
abbrev cX0_length : ByteArray := prog_1_method_58_code
def yX0_length : MethodName := ⟨RX0, "length", "(Ljava/lang/Object;)I"⟩
def dkwX0_length_1 : List UInt8 := [190, 167, 0, 8, 42, 192, 1, 55, 190, 172]
abbrev dktX0_length_1 : List UInt8 := dkwX0_length_1 ++ []
def dkwX0_length_0 : List UInt8 := [42, 193, 1, 52, 153, 0, 9, 42, 192, 1, 52, 190, 172, 42, 193, 1, 53, 153, 0, 11, 42, 192, 1, 53]
abbrev dktX0_length_0 : List UInt8 := dkwX0_length_0 ++ dktX0_length_1
theorem dksX0_length_0 : cX0_length.data.toList.drop 0 = dktX0_length_0 := by decide +kernel
theorem dksX0_length_1 : cX0_length.data.toList.drop 24 = dktX0_length_1 := dk_seg dksX0_length_0 24 rfl rfl
theorem dX0_length_0 : decode cX0_length 0 = .ok (.aload_n 0, 1) := dk_42 (dk_at dksX0_length_0 0 rfl rfl)
theorem dX0_length_1 : decode cX0_length 1 = .ok (.instanceof 308, 3) := dk_193 1 52 (dk_at dksX0_length_0 1 rfl rfl)
theorem dX0_length_4 : decode cX0_length 4 = .ok (.ifCond .eq 9, 3) := dk_153 0 9 (dk_at dksX0_length_0 4 rfl rfl)
theorem dX0_length_7 : decode cX0_length 7 = .ok (.aload_n 0, 1) := dk_42 (dk_at dksX0_length_0 7 rfl rfl)
theorem dX0_length_8 : decode cX0_length 8 = .ok (.checkcast 308, 3) := dk_192 1 52 (dk_at dksX0_length_0 8 rfl rfl)
theorem dX0_length_11 : decode cX0_length 11 = .ok (.arraylength, 1) := dk_190 (dk_at dksX0_length_0 11 rfl rfl)
theorem dX0_length_12 : decode cX0_length 12 = .ok (.ireturn, 1) := dk_172 (dk_at dksX0_length_0 12 rfl rfl)
theorem dX0_length_13 : decode cX0_length 13 = .ok (.aload_n 0, 1) := dk_42 (dk_at dksX0_length_0 13 rfl rfl)
theorem dX0_length_14 : decode cX0_length 14 = .ok (.instanceof 309, 3) := dk_193 1 53 (dk_at dksX0_length_0 14 rfl rfl)
theorem dX0_length_17 : decode cX0_length 17 = .ok (.ifCond .eq 11, 3) := dk_153 0 11 (dk_at dksX0_length_0 17 rfl rfl)
theorem dX0_length_20 : decode cX0_length 20 = .ok (.aload_n 0, 1) := dk_42 (dk_at dksX0_length_0 20 rfl rfl)
theorem dX0_length_21 : decode cX0_length 21 = .ok (.checkcast 309, 3) := dk_192 1 53 (dk_at dksX0_length_0 21 rfl rfl)
theorem dX0_length_24 : decode cX0_length 24 = .ok (.arraylength, 1) := dk_190 (dk_at dksX0_length_1 0 rfl rfl)
theorem dX0_length_25 : decode cX0_length 25 = .ok (.goto 8, 3) := dk_167 0 8 (dk_at dksX0_length_1 1 rfl rfl)
theorem dX0_length_28 : decode cX0_length 28 = .ok (.aload_n 0, 1) := dk_42 (dk_at dksX0_length_1 4 rfl rfl)
theorem dX0_length_29 : decode cX0_length 29 = .ok (.checkcast 311, 3) := dk_192 1 55 (dk_at dksX0_length_1 5 rfl rfl)
theorem dX0_length_32 : decode cX0_length 32 = .ok (.arraylength, 1) := dk_190 (dk_at dksX0_length_1 8 rfl rfl)
theorem dX0_length_33 : decode cX0_length 33 = .ok (.ireturn, 1) := dk_172 (dk_at dksX0_length_1 9 rfl rfl)
abbrev cX0_get : ByteArray := prog_1_method_59_code
def yX0_get : MethodName := ⟨RX0, "get", "(Ljava/lang/Object;I)J"⟩
def dkwX0_get_1 : List UInt8 := [192, 1, 53, 27, 53, 133, 167, 0, 9, 42, 192, 1, 55, 27, 47, 173]
abbrev dktX0_get_1 : List UInt8 := dkwX0_get_1 ++ []
def dkwX0_get_0 : List UInt8 := [42, 193, 1, 52, 153, 0, 11, 42, 192, 1, 52, 27, 51, 133, 173, 42, 193, 1, 53, 153, 0, 13, 42]
abbrev dktX0_get_0 : List UInt8 := dkwX0_get_0 ++ dktX0_get_1
theorem dksX0_get_0 : cX0_get.data.toList.drop 0 = dktX0_get_0 := by decide +kernel
theorem dksX0_get_1 : cX0_get.data.toList.drop 23 = dktX0_get_1 := dk_seg dksX0_get_0 23 rfl rfl
theorem dX0_get_0 : decode cX0_get 0 = .ok (.aload_n 0, 1) := dk_42 (dk_at dksX0_get_0 0 rfl rfl)
theorem dX0_get_1 : decode cX0_get 1 = .ok (.instanceof 308, 3) := dk_193 1 52 (dk_at dksX0_get_0 1 rfl rfl)
theorem dX0_get_4 : decode cX0_get 4 = .ok (.ifCond .eq 11, 3) := dk_153 0 11 (dk_at dksX0_get_0 4 rfl rfl)
theorem dX0_get_7 : decode cX0_get 7 = .ok (.aload_n 0, 1) := dk_42 (dk_at dksX0_get_0 7 rfl rfl)
theorem dX0_get_8 : decode cX0_get 8 = .ok (.checkcast 308, 3) := dk_192 1 52 (dk_at dksX0_get_0 8 rfl rfl)
theorem dX0_get_11 : decode cX0_get 11 = .ok (.iload_n 1, 1) := dk_27 (dk_at dksX0_get_0 11 rfl rfl)
theorem dX0_get_12 : decode cX0_get 12 = .ok (.baload, 1) := dk_51 (dk_at dksX0_get_0 12 rfl rfl)
theorem dX0_get_13 : decode cX0_get 13 = .ok (.i2l, 1) := dk_133 (dk_at dksX0_get_0 13 rfl rfl)
theorem dX0_get_14 : decode cX0_get 14 = .ok (.lreturn, 1) := dk_173 (dk_at dksX0_get_0 14 rfl rfl)
theorem dX0_get_15 : decode cX0_get 15 = .ok (.aload_n 0, 1) := dk_42 (dk_at dksX0_get_0 15 rfl rfl)
theorem dX0_get_16 : decode cX0_get 16 = .ok (.instanceof 309, 3) := dk_193 1 53 (dk_at dksX0_get_0 16 rfl rfl)
theorem dX0_get_19 : decode cX0_get 19 = .ok (.ifCond .eq 13, 3) := dk_153 0 13 (dk_at dksX0_get_0 19 rfl rfl)
theorem dX0_get_22 : decode cX0_get 22 = .ok (.aload_n 0, 1) := dk_42 (dk_at dksX0_get_0 22 rfl rfl)
theorem dX0_get_23 : decode cX0_get 23 = .ok (.checkcast 309, 3) := dk_192 1 53 (dk_at dksX0_get_1 0 rfl rfl)
theorem dX0_get_26 : decode cX0_get 26 = .ok (.iload_n 1, 1) := dk_27 (dk_at dksX0_get_1 3 rfl rfl)
theorem dX0_get_27 : decode cX0_get 27 = .ok (.saload, 1) := dk_53 (dk_at dksX0_get_1 4 rfl rfl)
theorem dX0_get_28 : decode cX0_get 28 = .ok (.i2l, 1) := dk_133 (dk_at dksX0_get_1 5 rfl rfl)
theorem dX0_get_29 : decode cX0_get 29 = .ok (.goto 9, 3) := dk_167 0 9 (dk_at dksX0_get_1 6 rfl rfl)
theorem dX0_get_32 : decode cX0_get 32 = .ok (.aload_n 0, 1) := dk_42 (dk_at dksX0_get_1 9 rfl rfl)
theorem dX0_get_33 : decode cX0_get 33 = .ok (.checkcast 311, 3) := dk_192 1 55 (dk_at dksX0_get_1 10 rfl rfl)
theorem dX0_get_36 : decode cX0_get 36 = .ok (.iload_n 1, 1) := dk_27 (dk_at dksX0_get_1 13 rfl rfl)
theorem dX0_get_37 : decode cX0_get 37 = .ok (.laload, 1) := dk_47 (dk_at dksX0_get_1 14 rfl rfl)
theorem dX0_get_38 : decode cX0_get 38 = .ok (.lreturn, 1) := dk_173 (dk_at dksX0_get_1 15 rfl rfl)
abbrev cX0_book : ByteArray := prog_1_method_52_code
def yX0_book : MethodName := ⟨RX0, "book", "(II)I"⟩
def dkwX0_book_3 : List UInt8 := [182, 0, 122, 172]
abbrev dktX0_book_3 : List UInt8 := dkwX0_book_3 ++ []
def dkwX0_book_2 : List UInt8 := [184, 1, 40, 42, 180, 0, 60, 182, 0, 244, 132, 4, 1, 167, 255, 221, 45, 184, 1, 32, 172, 78, 42, 45]
abbrev dktX0_book_2 : List UInt8 := dkwX0_book_2 ++ dktX0_book_3
def dkwX0_book_1 : List UInt8 := [54, 4, 21, 4, 45, 184, 1, 32, 162, 0, 32, 45, 21, 4, 42, 180, 0, 60, 180, 0, 241, 28, 46, 133]
abbrev dktX0_book_1 : List UInt8 := dkwX0_book_1 ++ dktX0_book_2
def dkwX0_book_0 : List UInt8 := [27, 184, 1, 25, 42, 27, 182, 1, 28, 78, 28, 184, 0, 102, 184, 0, 114, 42, 182, 0, 237, 87, 3]
abbrev dktX0_book_0 : List UInt8 := dkwX0_book_0 ++ dktX0_book_1
theorem dksX0_book_0 : cX0_book.data.toList.drop 0 = dktX0_book_0 := by decide +kernel
theorem dksX0_book_1 : cX0_book.data.toList.drop 23 = dktX0_book_1 := dk_seg dksX0_book_0 23 rfl rfl
theorem dksX0_book_2 : cX0_book.data.toList.drop 47 = dktX0_book_2 := dk_seg dksX0_book_1 24 rfl rfl
theorem dksX0_book_3 : cX0_book.data.toList.drop 71 = dktX0_book_3 := dk_seg dksX0_book_2 24 rfl rfl
theorem dX0_book_0 : decode cX0_book 0 = .ok (.iload_n 1, 1) := dk_27 (dk_at dksX0_book_0 0 rfl rfl)
theorem dX0_book_1 : decode cX0_book 1 = .ok (.invokestatic 281, 3) := dk_184 1 25 (dk_at dksX0_book_0 1 rfl rfl)
theorem dX0_book_4 : decode cX0_book 4 = .ok (.aload_n 0, 1) := dk_42 (dk_at dksX0_book_0 4 rfl rfl)
theorem dX0_book_5 : decode cX0_book 5 = .ok (.iload_n 1, 1) := dk_27 (dk_at dksX0_book_0 5 rfl rfl)
theorem dX0_book_6 : decode cX0_book 6 = .ok (.invokevirtual 284, 3) := dk_182 1 28 (dk_at dksX0_book_0 6 rfl rfl)
theorem dX0_book_9 : decode cX0_book 9 = .ok (.astore_n 3, 1) := dk_78 (dk_at dksX0_book_0 9 rfl rfl)
theorem dX0_book_10 : decode cX0_book 10 = .ok (.iload_n 2, 1) := dk_28 (dk_at dksX0_book_0 10 rfl rfl)
theorem dX0_book_11 : decode cX0_book 11 = .ok (.invokestatic 102, 3) := dk_184 0 102 (dk_at dksX0_book_0 11 rfl rfl)
theorem dX0_book_14 : decode cX0_book 14 = .ok (.invokestatic 114, 3) := dk_184 0 114 (dk_at dksX0_book_0 14 rfl rfl)
theorem dX0_book_17 : decode cX0_book 17 = .ok (.aload_n 0, 1) := dk_42 (dk_at dksX0_book_0 17 rfl rfl)
theorem dX0_book_18 : decode cX0_book 18 = .ok (.invokevirtual 237, 3) := dk_182 0 237 (dk_at dksX0_book_0 18 rfl rfl)
theorem dX0_book_21 : decode cX0_book 21 = .ok (.pop, 1) := dk_87 (dk_at dksX0_book_0 21 rfl rfl)
theorem dX0_book_22 : decode cX0_book 22 = .ok (.iconst 0, 1) := dk_3 (dk_at dksX0_book_0 22 rfl rfl)
theorem dX0_book_23 : decode cX0_book 23 = .ok (.istore 4, 2) := dk_54 4 (dk_at dksX0_book_1 0 rfl rfl)
theorem dX0_book_25 : decode cX0_book 25 = .ok (.iload 4, 2) := dk_21 4 (dk_at dksX0_book_1 2 rfl rfl)
theorem dX0_book_27 : decode cX0_book 27 = .ok (.aload_n 3, 1) := dk_45 (dk_at dksX0_book_1 4 rfl rfl)
theorem dX0_book_28 : decode cX0_book 28 = .ok (.invokestatic 288, 3) := dk_184 1 32 (dk_at dksX0_book_1 5 rfl rfl)
theorem dX0_book_31 : decode cX0_book 31 = .ok (.if_icmp .ge 32, 3) := dk_162 0 32 (dk_at dksX0_book_1 8 rfl rfl)
theorem dX0_book_34 : decode cX0_book 34 = .ok (.aload_n 3, 1) := dk_45 (dk_at dksX0_book_1 11 rfl rfl)
theorem dX0_book_35 : decode cX0_book 35 = .ok (.iload 4, 2) := dk_21 4 (dk_at dksX0_book_1 12 rfl rfl)
theorem dX0_book_37 : decode cX0_book 37 = .ok (.aload_n 0, 1) := dk_42 (dk_at dksX0_book_1 14 rfl rfl)
theorem dX0_book_38 : decode cX0_book 38 = .ok (.getfield 60, 3) := dk_180 0 60 (dk_at dksX0_book_1 15 rfl rfl)
theorem dX0_book_41 : decode cX0_book 41 = .ok (.getfield 241, 3) := dk_180 0 241 (dk_at dksX0_book_1 18 rfl rfl)
theorem dX0_book_44 : decode cX0_book 44 = .ok (.iload_n 2, 1) := dk_28 (dk_at dksX0_book_1 21 rfl rfl)
theorem dX0_book_45 : decode cX0_book 45 = .ok (.iaload, 1) := dk_46 (dk_at dksX0_book_1 22 rfl rfl)
theorem dX0_book_46 : decode cX0_book 46 = .ok (.i2l, 1) := dk_133 (dk_at dksX0_book_1 23 rfl rfl)
theorem dX0_book_47 : decode cX0_book 47 = .ok (.invokestatic 296, 3) := dk_184 1 40 (dk_at dksX0_book_2 0 rfl rfl)
theorem dX0_book_50 : decode cX0_book 50 = .ok (.aload_n 0, 1) := dk_42 (dk_at dksX0_book_2 3 rfl rfl)
theorem dX0_book_51 : decode cX0_book 51 = .ok (.getfield 60, 3) := dk_180 0 60 (dk_at dksX0_book_2 4 rfl rfl)
theorem dX0_book_54 : decode cX0_book 54 = .ok (.invokevirtual 244, 3) := dk_182 0 244 (dk_at dksX0_book_2 7 rfl rfl)
theorem dX0_book_57 : decode cX0_book 57 = .ok (.iinc 4 1, 3) := dk_132 4 1 (dk_at dksX0_book_2 10 rfl rfl)
theorem dX0_book_60 : decode cX0_book 60 = .ok (.goto (-35), 3) := dk_167 255 221 (dk_at dksX0_book_2 13 rfl rfl)
theorem dX0_book_63 : decode cX0_book 63 = .ok (.aload_n 3, 1) := dk_45 (dk_at dksX0_book_2 16 rfl rfl)
theorem dX0_book_64 : decode cX0_book 64 = .ok (.invokestatic 288, 3) := dk_184 1 32 (dk_at dksX0_book_2 17 rfl rfl)
theorem dX0_book_67 : decode cX0_book 67 = .ok (.ireturn, 1) := dk_172 (dk_at dksX0_book_2 20 rfl rfl)
theorem dX0_book_68 : decode cX0_book 68 = .ok (.astore_n 3, 1) := dk_78 (dk_at dksX0_book_2 21 rfl rfl)
theorem dX0_book_69 : decode cX0_book 69 = .ok (.aload_n 0, 1) := dk_42 (dk_at dksX0_book_2 22 rfl rfl)
theorem dX0_book_70 : decode cX0_book 70 = .ok (.aload_n 3, 1) := dk_45 (dk_at dksX0_book_2 23 rfl rfl)
theorem dX0_book_71 : decode cX0_book 71 = .ok (.invokevirtual 122, 3) := dk_182 0 122 (dk_at dksX0_book_3 0 rfl rfl)
theorem dX0_book_74 : decode cX0_book 74 = .ok (.ireturn, 1) := dk_172 (dk_at dksX0_book_3 3 rfl rfl)
abbrev cX0_put : ByteArray := prog_1_method_60_code
def yX0_put : MethodName := ⟨RX0, "put", "(Ljava/lang/Object;IJ)V"⟩
def dkwX0_put_1 : List UInt8 := [153, 0, 15, 42, 192, 1, 53, 27, 32, 136, 147, 86, 167, 0, 10, 42, 192, 1, 55, 27, 32, 80, 177]
abbrev dktX0_put_1 : List UInt8 := dkwX0_put_1 ++ []
def dkwX0_put_0 : List UInt8 := [42, 193, 1, 52, 153, 0, 15, 42, 192, 1, 52, 27, 32, 136, 145, 84, 167, 0, 29, 42, 193, 1, 53]
abbrev dktX0_put_0 : List UInt8 := dkwX0_put_0 ++ dktX0_put_1
theorem dksX0_put_0 : cX0_put.data.toList.drop 0 = dktX0_put_0 := by decide +kernel
theorem dksX0_put_1 : cX0_put.data.toList.drop 23 = dktX0_put_1 := dk_seg dksX0_put_0 23 rfl rfl
theorem dX0_put_0 : decode cX0_put 0 = .ok (.aload_n 0, 1) := dk_42 (dk_at dksX0_put_0 0 rfl rfl)
theorem dX0_put_1 : decode cX0_put 1 = .ok (.instanceof 308, 3) := dk_193 1 52 (dk_at dksX0_put_0 1 rfl rfl)
theorem dX0_put_4 : decode cX0_put 4 = .ok (.ifCond .eq 15, 3) := dk_153 0 15 (dk_at dksX0_put_0 4 rfl rfl)
theorem dX0_put_7 : decode cX0_put 7 = .ok (.aload_n 0, 1) := dk_42 (dk_at dksX0_put_0 7 rfl rfl)
theorem dX0_put_8 : decode cX0_put 8 = .ok (.checkcast 308, 3) := dk_192 1 52 (dk_at dksX0_put_0 8 rfl rfl)
theorem dX0_put_11 : decode cX0_put 11 = .ok (.iload_n 1, 1) := dk_27 (dk_at dksX0_put_0 11 rfl rfl)
theorem dX0_put_12 : decode cX0_put 12 = .ok (.lload_n 2, 1) := dk_32 (dk_at dksX0_put_0 12 rfl rfl)
theorem dX0_put_13 : decode cX0_put 13 = .ok (.l2i, 1) := dk_136 (dk_at dksX0_put_0 13 rfl rfl)
theorem dX0_put_14 : decode cX0_put 14 = .ok (.i2b, 1) := dk_145 (dk_at dksX0_put_0 14 rfl rfl)
theorem dX0_put_15 : decode cX0_put 15 = .ok (.bastore, 1) := dk_84 (dk_at dksX0_put_0 15 rfl rfl)
theorem dX0_put_16 : decode cX0_put 16 = .ok (.goto 29, 3) := dk_167 0 29 (dk_at dksX0_put_0 16 rfl rfl)
theorem dX0_put_19 : decode cX0_put 19 = .ok (.aload_n 0, 1) := dk_42 (dk_at dksX0_put_0 19 rfl rfl)
theorem dX0_put_20 : decode cX0_put 20 = .ok (.instanceof 309, 3) := dk_193 1 53 (dk_at dksX0_put_0 20 rfl rfl)
theorem dX0_put_23 : decode cX0_put 23 = .ok (.ifCond .eq 15, 3) := dk_153 0 15 (dk_at dksX0_put_1 0 rfl rfl)
theorem dX0_put_26 : decode cX0_put 26 = .ok (.aload_n 0, 1) := dk_42 (dk_at dksX0_put_1 3 rfl rfl)
theorem dX0_put_27 : decode cX0_put 27 = .ok (.checkcast 309, 3) := dk_192 1 53 (dk_at dksX0_put_1 4 rfl rfl)
theorem dX0_put_30 : decode cX0_put 30 = .ok (.iload_n 1, 1) := dk_27 (dk_at dksX0_put_1 7 rfl rfl)
theorem dX0_put_31 : decode cX0_put 31 = .ok (.lload_n 2, 1) := dk_32 (dk_at dksX0_put_1 8 rfl rfl)
theorem dX0_put_32 : decode cX0_put 32 = .ok (.l2i, 1) := dk_136 (dk_at dksX0_put_1 9 rfl rfl)
theorem dX0_put_33 : decode cX0_put 33 = .ok (.i2s, 1) := dk_147 (dk_at dksX0_put_1 10 rfl rfl)
theorem dX0_put_34 : decode cX0_put 34 = .ok (.sastore, 1) := dk_86 (dk_at dksX0_put_1 11 rfl rfl)
theorem dX0_put_35 : decode cX0_put 35 = .ok (.goto 10, 3) := dk_167 0 10 (dk_at dksX0_put_1 12 rfl rfl)
theorem dX0_put_38 : decode cX0_put 38 = .ok (.aload_n 0, 1) := dk_42 (dk_at dksX0_put_1 15 rfl rfl)
theorem dX0_put_39 : decode cX0_put 39 = .ok (.checkcast 311, 3) := dk_192 1 55 (dk_at dksX0_put_1 16 rfl rfl)
theorem dX0_put_42 : decode cX0_put 42 = .ok (.iload_n 1, 1) := dk_27 (dk_at dksX0_put_1 19 rfl rfl)
theorem dX0_put_43 : decode cX0_put 43 = .ok (.lload_n 2, 1) := dk_32 (dk_at dksX0_put_1 20 rfl rfl)
theorem dX0_put_44 : decode cX0_put 44 = .ok (.lastore, 1) := dk_80 (dk_at dksX0_put_1 21 rfl rfl)
theorem dX0_put_45 : decode cX0_put 45 = .ok (.return_, 1) := dk_177 (dk_at dksX0_put_1 22 rfl rfl)
abbrev cX0_read : ByteArray := prog_1_method_54_code
def yX0_read : MethodName := ⟨RX0, "read", "(II)I"⟩
def dkwX0_read_4 : List UInt8 := [132, 6, 1, 167, 255, 198, 132, 5, 1, 167, 255, 177, 21, 4, 172, 78, 42, 45, 182, 0, 122, 172]
abbrev dktX0_read_4 : List UInt8 := dkwX0_read_4 ++ []
def dkwX0_read_3 : List UInt8 := [21, 6, 182, 0, 165, 21, 4, 42, 45, 28, 182, 1, 44, 153, 0, 7, 4, 167, 0, 4, 3, 96, 54, 4]
abbrev dktX0_read_3 : List UInt8 := dkwX0_read_3 ++ dktX0_read_4
def dkwX0_read_2 : List UInt8 := [180, 0, 50, 21, 5, 182, 0, 94, 180, 0, 126, 6, 46, 28, 160, 0, 39, 42, 182, 0, 237, 21, 5]
abbrev dktX0_read_2 : List UInt8 := dkwX0_read_2 ++ dktX0_read_3
def dkwX0_read_1 : List UInt8 := [21, 5, 42, 180, 0, 50, 180, 0, 91, 162, 0, 73, 3, 54, 6, 21, 6, 16, 6, 162, 0, 57, 42]
abbrev dktX0_read_1 : List UInt8 := dkwX0_read_1 ++ dktX0_read_2
def dkwX0_read_0 : List UInt8 := [27, 184, 1, 25, 42, 27, 182, 1, 28, 78, 28, 184, 0, 102, 184, 0, 114, 3, 54, 4, 3, 54, 5]
abbrev dktX0_read_0 : List UInt8 := dkwX0_read_0 ++ dktX0_read_1
theorem dksX0_read_0 : cX0_read.data.toList.drop 0 = dktX0_read_0 := by decide +kernel
theorem dksX0_read_1 : cX0_read.data.toList.drop 23 = dktX0_read_1 := dk_seg dksX0_read_0 23 rfl rfl
theorem dksX0_read_2 : cX0_read.data.toList.drop 46 = dktX0_read_2 := dk_seg dksX0_read_1 23 rfl rfl
theorem dksX0_read_3 : cX0_read.data.toList.drop 69 = dktX0_read_3 := dk_seg dksX0_read_2 23 rfl rfl
theorem dksX0_read_4 : cX0_read.data.toList.drop 93 = dktX0_read_4 := dk_seg dksX0_read_3 24 rfl rfl
theorem dX0_read_0 : decode cX0_read 0 = .ok (.iload_n 1, 1) := dk_27 (dk_at dksX0_read_0 0 rfl rfl)
theorem dX0_read_1 : decode cX0_read 1 = .ok (.invokestatic 281, 3) := dk_184 1 25 (dk_at dksX0_read_0 1 rfl rfl)
theorem dX0_read_4 : decode cX0_read 4 = .ok (.aload_n 0, 1) := dk_42 (dk_at dksX0_read_0 4 rfl rfl)
theorem dX0_read_5 : decode cX0_read 5 = .ok (.iload_n 1, 1) := dk_27 (dk_at dksX0_read_0 5 rfl rfl)
theorem dX0_read_6 : decode cX0_read 6 = .ok (.invokevirtual 284, 3) := dk_182 1 28 (dk_at dksX0_read_0 6 rfl rfl)
theorem dX0_read_9 : decode cX0_read 9 = .ok (.astore_n 3, 1) := dk_78 (dk_at dksX0_read_0 9 rfl rfl)
theorem dX0_read_10 : decode cX0_read 10 = .ok (.iload_n 2, 1) := dk_28 (dk_at dksX0_read_0 10 rfl rfl)
theorem dX0_read_11 : decode cX0_read 11 = .ok (.invokestatic 102, 3) := dk_184 0 102 (dk_at dksX0_read_0 11 rfl rfl)
theorem dX0_read_14 : decode cX0_read 14 = .ok (.invokestatic 114, 3) := dk_184 0 114 (dk_at dksX0_read_0 14 rfl rfl)
theorem dX0_read_17 : decode cX0_read 17 = .ok (.iconst 0, 1) := dk_3 (dk_at dksX0_read_0 17 rfl rfl)
theorem dX0_read_18 : decode cX0_read 18 = .ok (.istore 4, 2) := dk_54 4 (dk_at dksX0_read_0 18 rfl rfl)
theorem dX0_read_20 : decode cX0_read 20 = .ok (.iconst 0, 1) := dk_3 (dk_at dksX0_read_0 20 rfl rfl)
theorem dX0_read_21 : decode cX0_read 21 = .ok (.istore 5, 2) := dk_54 5 (dk_at dksX0_read_0 21 rfl rfl)
theorem dX0_read_23 : decode cX0_read 23 = .ok (.iload 5, 2) := dk_21 5 (dk_at dksX0_read_1 0 rfl rfl)
theorem dX0_read_25 : decode cX0_read 25 = .ok (.aload_n 0, 1) := dk_42 (dk_at dksX0_read_1 2 rfl rfl)
theorem dX0_read_26 : decode cX0_read 26 = .ok (.getfield 50, 3) := dk_180 0 50 (dk_at dksX0_read_1 3 rfl rfl)
theorem dX0_read_29 : decode cX0_read 29 = .ok (.getfield 91, 3) := dk_180 0 91 (dk_at dksX0_read_1 6 rfl rfl)
theorem dX0_read_32 : decode cX0_read 32 = .ok (.if_icmp .ge 73, 3) := dk_162 0 73 (dk_at dksX0_read_1 9 rfl rfl)
theorem dX0_read_35 : decode cX0_read 35 = .ok (.iconst 0, 1) := dk_3 (dk_at dksX0_read_1 12 rfl rfl)
theorem dX0_read_36 : decode cX0_read 36 = .ok (.istore 6, 2) := dk_54 6 (dk_at dksX0_read_1 13 rfl rfl)
theorem dX0_read_38 : decode cX0_read 38 = .ok (.iload 6, 2) := dk_21 6 (dk_at dksX0_read_1 15 rfl rfl)
theorem dX0_read_40 : decode cX0_read 40 = .ok (.bipush 6, 2) := dk_16 6 (dk_at dksX0_read_1 17 rfl rfl)
theorem dX0_read_42 : decode cX0_read 42 = .ok (.if_icmp .ge 57, 3) := dk_162 0 57 (dk_at dksX0_read_1 19 rfl rfl)
theorem dX0_read_45 : decode cX0_read 45 = .ok (.aload_n 0, 1) := dk_42 (dk_at dksX0_read_1 22 rfl rfl)
theorem dX0_read_46 : decode cX0_read 46 = .ok (.getfield 50, 3) := dk_180 0 50 (dk_at dksX0_read_2 0 rfl rfl)
theorem dX0_read_49 : decode cX0_read 49 = .ok (.iload 5, 2) := dk_21 5 (dk_at dksX0_read_2 3 rfl rfl)
theorem dX0_read_51 : decode cX0_read 51 = .ok (.invokevirtual 94, 3) := dk_182 0 94 (dk_at dksX0_read_2 5 rfl rfl)
theorem dX0_read_54 : decode cX0_read 54 = .ok (.getfield 126, 3) := dk_180 0 126 (dk_at dksX0_read_2 8 rfl rfl)
theorem dX0_read_57 : decode cX0_read 57 = .ok (.iconst 3, 1) := dk_6 (dk_at dksX0_read_2 11 rfl rfl)
theorem dX0_read_58 : decode cX0_read 58 = .ok (.iaload, 1) := dk_46 (dk_at dksX0_read_2 12 rfl rfl)
theorem dX0_read_59 : decode cX0_read 59 = .ok (.iload_n 2, 1) := dk_28 (dk_at dksX0_read_2 13 rfl rfl)
theorem dX0_read_60 : decode cX0_read 60 = .ok (.if_icmp .ne 39, 3) := dk_160 0 39 (dk_at dksX0_read_2 14 rfl rfl)
theorem dX0_read_63 : decode cX0_read 63 = .ok (.aload_n 0, 1) := dk_42 (dk_at dksX0_read_2 17 rfl rfl)
theorem dX0_read_64 : decode cX0_read 64 = .ok (.invokevirtual 237, 3) := dk_182 0 237 (dk_at dksX0_read_2 18 rfl rfl)
theorem dX0_read_67 : decode cX0_read 67 = .ok (.iload 5, 2) := dk_21 5 (dk_at dksX0_read_2 21 rfl rfl)
theorem dX0_read_69 : decode cX0_read 69 = .ok (.iload 6, 2) := dk_21 6 (dk_at dksX0_read_3 0 rfl rfl)
theorem dX0_read_71 : decode cX0_read 71 = .ok (.invokevirtual 165, 3) := dk_182 0 165 (dk_at dksX0_read_3 2 rfl rfl)
theorem dX0_read_74 : decode cX0_read 74 = .ok (.iload 4, 2) := dk_21 4 (dk_at dksX0_read_3 5 rfl rfl)
theorem dX0_read_76 : decode cX0_read 76 = .ok (.aload_n 0, 1) := dk_42 (dk_at dksX0_read_3 7 rfl rfl)
theorem dX0_read_77 : decode cX0_read 77 = .ok (.aload_n 3, 1) := dk_45 (dk_at dksX0_read_3 8 rfl rfl)
theorem dX0_read_78 : decode cX0_read 78 = .ok (.iload_n 2, 1) := dk_28 (dk_at dksX0_read_3 9 rfl rfl)
theorem dX0_read_79 : decode cX0_read 79 = .ok (.invokevirtual 300, 3) := dk_182 1 44 (dk_at dksX0_read_3 10 rfl rfl)
theorem dX0_read_82 : decode cX0_read 82 = .ok (.ifCond .eq 7, 3) := dk_153 0 7 (dk_at dksX0_read_3 13 rfl rfl)
theorem dX0_read_85 : decode cX0_read 85 = .ok (.iconst 1, 1) := dk_4 (dk_at dksX0_read_3 16 rfl rfl)
theorem dX0_read_86 : decode cX0_read 86 = .ok (.goto 4, 3) := dk_167 0 4 (dk_at dksX0_read_3 17 rfl rfl)
theorem dX0_read_89 : decode cX0_read 89 = .ok (.iconst 0, 1) := dk_3 (dk_at dksX0_read_3 20 rfl rfl)
theorem dX0_read_90 : decode cX0_read 90 = .ok (.iadd, 1) := dk_96 (dk_at dksX0_read_3 21 rfl rfl)
theorem dX0_read_91 : decode cX0_read 91 = .ok (.istore 4, 2) := dk_54 4 (dk_at dksX0_read_3 22 rfl rfl)
theorem dX0_read_93 : decode cX0_read 93 = .ok (.iinc 6 1, 3) := dk_132 6 1 (dk_at dksX0_read_4 0 rfl rfl)
theorem dX0_read_96 : decode cX0_read 96 = .ok (.goto (-58), 3) := dk_167 255 198 (dk_at dksX0_read_4 3 rfl rfl)
theorem dX0_read_99 : decode cX0_read 99 = .ok (.iinc 5 1, 3) := dk_132 5 1 (dk_at dksX0_read_4 6 rfl rfl)
theorem dX0_read_102 : decode cX0_read 102 = .ok (.goto (-79), 3) := dk_167 255 177 (dk_at dksX0_read_4 9 rfl rfl)
theorem dX0_read_105 : decode cX0_read 105 = .ok (.iload 4, 2) := dk_21 4 (dk_at dksX0_read_4 12 rfl rfl)
theorem dX0_read_107 : decode cX0_read 107 = .ok (.ireturn, 1) := dk_172 (dk_at dksX0_read_4 14 rfl rfl)
theorem dX0_read_108 : decode cX0_read 108 = .ok (.astore_n 3, 1) := dk_78 (dk_at dksX0_read_4 15 rfl rfl)
theorem dX0_read_109 : decode cX0_read 109 = .ok (.aload_n 0, 1) := dk_42 (dk_at dksX0_read_4 16 rfl rfl)
theorem dX0_read_110 : decode cX0_read 110 = .ok (.aload_n 3, 1) := dk_45 (dk_at dksX0_read_4 17 rfl rfl)
theorem dX0_read_111 : decode cX0_read 111 = .ok (.invokevirtual 122, 3) := dk_182 0 122 (dk_at dksX0_read_4 18 rfl rfl)
theorem dX0_read_114 : decode cX0_read 114 = .ok (.ireturn, 1) := dk_172 (dk_at dksX0_read_4 21 rfl rfl)
abbrev cX0_isJust : ByteArray := prog_1_method_53_code
def yX0_isJust : MethodName := ⟨RX0, "isJust", "(Ljava/lang/Object;I)Z"⟩
def dkwX0_isJust_1 : List UInt8 := [184, 1, 36, 148, 153, 0, 5, 3, 172, 42, 180, 0, 60, 182, 0, 244, 132, 3, 1, 167, 255, 217, 4, 172]
abbrev dktX0_isJust_1 : List UInt8 := dkwX0_isJust_1 ++ []
def dkwX0_isJust_0 : List UInt8 := [3, 62, 29, 43, 184, 1, 32, 162, 0, 37, 42, 180, 0, 60, 180, 0, 241, 28, 46, 133, 43, 29]
abbrev dktX0_isJust_0 : List UInt8 := dkwX0_isJust_0 ++ dktX0_isJust_1
theorem dksX0_isJust_0 : cX0_isJust.data.toList.drop 0 = dktX0_isJust_0 := by decide +kernel
theorem dksX0_isJust_1 : cX0_isJust.data.toList.drop 22 = dktX0_isJust_1 := dk_seg dksX0_isJust_0 22 rfl rfl
theorem dX0_isJust_0 : decode cX0_isJust 0 = .ok (.iconst 0, 1) := dk_3 (dk_at dksX0_isJust_0 0 rfl rfl)
theorem dX0_isJust_1 : decode cX0_isJust 1 = .ok (.istore_n 3, 1) := dk_62 (dk_at dksX0_isJust_0 1 rfl rfl)
theorem dX0_isJust_2 : decode cX0_isJust 2 = .ok (.iload_n 3, 1) := dk_29 (dk_at dksX0_isJust_0 2 rfl rfl)
theorem dX0_isJust_3 : decode cX0_isJust 3 = .ok (.aload_n 1, 1) := dk_43 (dk_at dksX0_isJust_0 3 rfl rfl)
theorem dX0_isJust_4 : decode cX0_isJust 4 = .ok (.invokestatic 288, 3) := dk_184 1 32 (dk_at dksX0_isJust_0 4 rfl rfl)
theorem dX0_isJust_7 : decode cX0_isJust 7 = .ok (.if_icmp .ge 37, 3) := dk_162 0 37 (dk_at dksX0_isJust_0 7 rfl rfl)
theorem dX0_isJust_10 : decode cX0_isJust 10 = .ok (.aload_n 0, 1) := dk_42 (dk_at dksX0_isJust_0 10 rfl rfl)
theorem dX0_isJust_11 : decode cX0_isJust 11 = .ok (.getfield 60, 3) := dk_180 0 60 (dk_at dksX0_isJust_0 11 rfl rfl)
theorem dX0_isJust_14 : decode cX0_isJust 14 = .ok (.getfield 241, 3) := dk_180 0 241 (dk_at dksX0_isJust_0 14 rfl rfl)
theorem dX0_isJust_17 : decode cX0_isJust 17 = .ok (.iload_n 2, 1) := dk_28 (dk_at dksX0_isJust_0 17 rfl rfl)
theorem dX0_isJust_18 : decode cX0_isJust 18 = .ok (.iaload, 1) := dk_46 (dk_at dksX0_isJust_0 18 rfl rfl)
theorem dX0_isJust_19 : decode cX0_isJust 19 = .ok (.i2l, 1) := dk_133 (dk_at dksX0_isJust_0 19 rfl rfl)
theorem dX0_isJust_20 : decode cX0_isJust 20 = .ok (.aload_n 1, 1) := dk_43 (dk_at dksX0_isJust_0 20 rfl rfl)
theorem dX0_isJust_21 : decode cX0_isJust 21 = .ok (.iload_n 3, 1) := dk_29 (dk_at dksX0_isJust_0 21 rfl rfl)
theorem dX0_isJust_22 : decode cX0_isJust 22 = .ok (.invokestatic 292, 3) := dk_184 1 36 (dk_at dksX0_isJust_1 0 rfl rfl)
theorem dX0_isJust_25 : decode cX0_isJust 25 = .ok (.lcmp, 1) := dk_148 (dk_at dksX0_isJust_1 3 rfl rfl)
theorem dX0_isJust_26 : decode cX0_isJust 26 = .ok (.ifCond .eq 5, 3) := dk_153 0 5 (dk_at dksX0_isJust_1 4 rfl rfl)
theorem dX0_isJust_29 : decode cX0_isJust 29 = .ok (.iconst 0, 1) := dk_3 (dk_at dksX0_isJust_1 7 rfl rfl)
theorem dX0_isJust_30 : decode cX0_isJust 30 = .ok (.ireturn, 1) := dk_172 (dk_at dksX0_isJust_1 8 rfl rfl)
theorem dX0_isJust_31 : decode cX0_isJust 31 = .ok (.aload_n 0, 1) := dk_42 (dk_at dksX0_isJust_1 9 rfl rfl)
theorem dX0_isJust_32 : decode cX0_isJust 32 = .ok (.getfield 60, 3) := dk_180 0 60 (dk_at dksX0_isJust_1 10 rfl rfl)
theorem dX0_isJust_35 : decode cX0_isJust 35 = .ok (.invokevirtual 244, 3) := dk_182 0 244 (dk_at dksX0_isJust_1 13 rfl rfl)
theorem dX0_isJust_38 : decode cX0_isJust 38 = .ok (.iinc 3 1, 3) := dk_132 3 1 (dk_at dksX0_isJust_1 16 rfl rfl)
theorem dX0_isJust_41 : decode cX0_isJust 41 = .ok (.goto (-39), 3) := dk_167 255 217 (dk_at dksX0_isJust_1 19 rfl rfl)
theorem dX0_isJust_44 : decode cX0_isJust 44 = .ok (.iconst 1, 1) := dk_4 (dk_at dksX0_isJust_1 22 rfl rfl)
theorem dX0_isJust_45 : decode cX0_isJust 45 = .ok (.ireturn, 1) := dk_172 (dk_at dksX0_isJust_1 23 rfl rfl)
abbrev cX0_sheet : ByteArray := prog_1_method_62_code
def yX0_sheet : MethodName := ⟨RX0, "sheet", "(III)I"⟩
def dkwX0_sheet_4 : List UInt8 := [182, 0, 122, 172]
abbrev dktX0_sheet_4 : List UInt8 := dkwX0_sheet_4 ++ []
def dkwX0_sheet_3 : List UInt8 := [28, 29, 184, 1, 57, 181, 1, 48, 28, 154, 0, 7, 3, 167, 0, 4, 29, 172, 58, 4, 42, 25, 4]
abbrev dktX0_sheet_3 : List UInt8 := dkwX0_sheet_3 ++ dktX0_sheet_4
def dkwX0_sheet_2 : List UInt8 := [184, 0, 87, 29, 16, 40, 163, 0, 7, 4, 167, 0, 4, 3, 3, 184, 0, 87, 42, 180, 0, 71, 27, 50]
abbrev dktX0_sheet_2 : List UInt8 := dkwX0_sheet_2 ++ dktX0_sheet_3
def dkwX0_sheet_1 : List UInt8 := [160, 0, 7, 4, 167, 0, 4, 3, 3, 184, 0, 87, 29, 155, 0, 7, 4, 167, 0, 4, 3, 16, 6]
abbrev dktX0_sheet_1 : List UInt8 := dkwX0_sheet_1 ++ dktX0_sheet_2
def dkwX0_sheet_0 : List UInt8 := [27, 184, 1, 25, 28, 153, 0, 21, 28, 16, 8, 159, 0, 15, 28, 16, 16, 159, 0, 9, 28, 16, 64]
abbrev dktX0_sheet_0 : List UInt8 := dkwX0_sheet_0 ++ dktX0_sheet_1
theorem dksX0_sheet_0 : cX0_sheet.data.toList.drop 0 = dktX0_sheet_0 := by decide +kernel
theorem dksX0_sheet_1 : cX0_sheet.data.toList.drop 23 = dktX0_sheet_1 := dk_seg dksX0_sheet_0 23 rfl rfl
theorem dksX0_sheet_2 : cX0_sheet.data.toList.drop 46 = dktX0_sheet_2 := dk_seg dksX0_sheet_1 23 rfl rfl
theorem dksX0_sheet_3 : cX0_sheet.data.toList.drop 70 = dktX0_sheet_3 := dk_seg dksX0_sheet_2 24 rfl rfl
theorem dksX0_sheet_4 : cX0_sheet.data.toList.drop 93 = dktX0_sheet_4 := dk_seg dksX0_sheet_3 23 rfl rfl
theorem dX0_sheet_0 : decode cX0_sheet 0 = .ok (.iload_n 1, 1) := dk_27 (dk_at dksX0_sheet_0 0 rfl rfl)
theorem dX0_sheet_1 : decode cX0_sheet 1 = .ok (.invokestatic 281, 3) := dk_184 1 25 (dk_at dksX0_sheet_0 1 rfl rfl)
theorem dX0_sheet_4 : decode cX0_sheet 4 = .ok (.iload_n 2, 1) := dk_28 (dk_at dksX0_sheet_0 4 rfl rfl)
theorem dX0_sheet_5 : decode cX0_sheet 5 = .ok (.ifCond .eq 21, 3) := dk_153 0 21 (dk_at dksX0_sheet_0 5 rfl rfl)
theorem dX0_sheet_8 : decode cX0_sheet 8 = .ok (.iload_n 2, 1) := dk_28 (dk_at dksX0_sheet_0 8 rfl rfl)
theorem dX0_sheet_9 : decode cX0_sheet 9 = .ok (.bipush 8, 2) := dk_16 8 (dk_at dksX0_sheet_0 9 rfl rfl)
theorem dX0_sheet_11 : decode cX0_sheet 11 = .ok (.if_icmp .eq 15, 3) := dk_159 0 15 (dk_at dksX0_sheet_0 11 rfl rfl)
theorem dX0_sheet_14 : decode cX0_sheet 14 = .ok (.iload_n 2, 1) := dk_28 (dk_at dksX0_sheet_0 14 rfl rfl)
theorem dX0_sheet_15 : decode cX0_sheet 15 = .ok (.bipush 16, 2) := dk_16 16 (dk_at dksX0_sheet_0 15 rfl rfl)
theorem dX0_sheet_17 : decode cX0_sheet 17 = .ok (.if_icmp .eq 9, 3) := dk_159 0 9 (dk_at dksX0_sheet_0 17 rfl rfl)
theorem dX0_sheet_20 : decode cX0_sheet 20 = .ok (.iload_n 2, 1) := dk_28 (dk_at dksX0_sheet_0 20 rfl rfl)
theorem dX0_sheet_21 : decode cX0_sheet 21 = .ok (.bipush 64, 2) := dk_16 64 (dk_at dksX0_sheet_0 21 rfl rfl)
theorem dX0_sheet_23 : decode cX0_sheet 23 = .ok (.if_icmp .ne 7, 3) := dk_160 0 7 (dk_at dksX0_sheet_1 0 rfl rfl)
theorem dX0_sheet_26 : decode cX0_sheet 26 = .ok (.iconst 1, 1) := dk_4 (dk_at dksX0_sheet_1 3 rfl rfl)
theorem dX0_sheet_27 : decode cX0_sheet 27 = .ok (.goto 4, 3) := dk_167 0 4 (dk_at dksX0_sheet_1 4 rfl rfl)
theorem dX0_sheet_30 : decode cX0_sheet 30 = .ok (.iconst 0, 1) := dk_3 (dk_at dksX0_sheet_1 7 rfl rfl)
theorem dX0_sheet_31 : decode cX0_sheet 31 = .ok (.iconst 0, 1) := dk_3 (dk_at dksX0_sheet_1 8 rfl rfl)
theorem dX0_sheet_32 : decode cX0_sheet 32 = .ok (.invokestatic 87, 3) := dk_184 0 87 (dk_at dksX0_sheet_1 9 rfl rfl)
theorem dX0_sheet_35 : decode cX0_sheet 35 = .ok (.iload_n 3, 1) := dk_29 (dk_at dksX0_sheet_1 12 rfl rfl)
theorem dX0_sheet_36 : decode cX0_sheet 36 = .ok (.ifCond .lt 7, 3) := dk_155 0 7 (dk_at dksX0_sheet_1 13 rfl rfl)
theorem dX0_sheet_39 : decode cX0_sheet 39 = .ok (.iconst 1, 1) := dk_4 (dk_at dksX0_sheet_1 16 rfl rfl)
theorem dX0_sheet_40 : decode cX0_sheet 40 = .ok (.goto 4, 3) := dk_167 0 4 (dk_at dksX0_sheet_1 17 rfl rfl)
theorem dX0_sheet_43 : decode cX0_sheet 43 = .ok (.iconst 0, 1) := dk_3 (dk_at dksX0_sheet_1 20 rfl rfl)
theorem dX0_sheet_44 : decode cX0_sheet 44 = .ok (.bipush 6, 2) := dk_16 6 (dk_at dksX0_sheet_1 21 rfl rfl)
theorem dX0_sheet_46 : decode cX0_sheet 46 = .ok (.invokestatic 87, 3) := dk_184 0 87 (dk_at dksX0_sheet_2 0 rfl rfl)
theorem dX0_sheet_49 : decode cX0_sheet 49 = .ok (.iload_n 3, 1) := dk_29 (dk_at dksX0_sheet_2 3 rfl rfl)
theorem dX0_sheet_50 : decode cX0_sheet 50 = .ok (.bipush 40, 2) := dk_16 40 (dk_at dksX0_sheet_2 4 rfl rfl)
theorem dX0_sheet_52 : decode cX0_sheet 52 = .ok (.if_icmp .gt 7, 3) := dk_163 0 7 (dk_at dksX0_sheet_2 6 rfl rfl)
theorem dX0_sheet_55 : decode cX0_sheet 55 = .ok (.iconst 1, 1) := dk_4 (dk_at dksX0_sheet_2 9 rfl rfl)
theorem dX0_sheet_56 : decode cX0_sheet 56 = .ok (.goto 4, 3) := dk_167 0 4 (dk_at dksX0_sheet_2 10 rfl rfl)
theorem dX0_sheet_59 : decode cX0_sheet 59 = .ok (.iconst 0, 1) := dk_3 (dk_at dksX0_sheet_2 13 rfl rfl)
theorem dX0_sheet_60 : decode cX0_sheet 60 = .ok (.iconst 0, 1) := dk_3 (dk_at dksX0_sheet_2 14 rfl rfl)
theorem dX0_sheet_61 : decode cX0_sheet 61 = .ok (.invokestatic 87, 3) := dk_184 0 87 (dk_at dksX0_sheet_2 15 rfl rfl)
theorem dX0_sheet_64 : decode cX0_sheet 64 = .ok (.aload_n 0, 1) := dk_42 (dk_at dksX0_sheet_2 18 rfl rfl)
theorem dX0_sheet_65 : decode cX0_sheet 65 = .ok (.getfield 71, 3) := dk_180 0 71 (dk_at dksX0_sheet_2 19 rfl rfl)
theorem dX0_sheet_68 : decode cX0_sheet 68 = .ok (.iload_n 1, 1) := dk_27 (dk_at dksX0_sheet_2 22 rfl rfl)
theorem dX0_sheet_69 : decode cX0_sheet 69 = .ok (.aaload, 1) := dk_50 (dk_at dksX0_sheet_2 23 rfl rfl)
theorem dX0_sheet_70 : decode cX0_sheet 70 = .ok (.iload_n 2, 1) := dk_28 (dk_at dksX0_sheet_3 0 rfl rfl)
theorem dX0_sheet_71 : decode cX0_sheet 71 = .ok (.iload_n 3, 1) := dk_29 (dk_at dksX0_sheet_3 1 rfl rfl)
theorem dX0_sheet_72 : decode cX0_sheet 72 = .ok (.invokestatic 313, 3) := dk_184 1 57 (dk_at dksX0_sheet_3 2 rfl rfl)
theorem dX0_sheet_75 : decode cX0_sheet 75 = .ok (.putfield 304, 3) := dk_181 1 48 (dk_at dksX0_sheet_3 5 rfl rfl)
theorem dX0_sheet_78 : decode cX0_sheet 78 = .ok (.iload_n 2, 1) := dk_28 (dk_at dksX0_sheet_3 8 rfl rfl)
theorem dX0_sheet_79 : decode cX0_sheet 79 = .ok (.ifCond .ne 7, 3) := dk_154 0 7 (dk_at dksX0_sheet_3 9 rfl rfl)
theorem dX0_sheet_82 : decode cX0_sheet 82 = .ok (.iconst 0, 1) := dk_3 (dk_at dksX0_sheet_3 12 rfl rfl)
theorem dX0_sheet_83 : decode cX0_sheet 83 = .ok (.goto 4, 3) := dk_167 0 4 (dk_at dksX0_sheet_3 13 rfl rfl)
theorem dX0_sheet_86 : decode cX0_sheet 86 = .ok (.iload_n 3, 1) := dk_29 (dk_at dksX0_sheet_3 16 rfl rfl)
theorem dX0_sheet_87 : decode cX0_sheet 87 = .ok (.ireturn, 1) := dk_172 (dk_at dksX0_sheet_3 17 rfl rfl)
theorem dX0_sheet_88 : decode cX0_sheet 88 = .ok (.astore 4, 2) := dk_58 4 (dk_at dksX0_sheet_3 18 rfl rfl)
theorem dX0_sheet_90 : decode cX0_sheet 90 = .ok (.aload_n 0, 1) := dk_42 (dk_at dksX0_sheet_3 20 rfl rfl)
theorem dX0_sheet_91 : decode cX0_sheet 91 = .ok (.aload 4, 2) := dk_25 4 (dk_at dksX0_sheet_3 21 rfl rfl)
theorem dX0_sheet_93 : decode cX0_sheet 93 = .ok (.invokevirtual 122, 3) := dk_182 0 122 (dk_at dksX0_sheet_4 0 rfl rfl)
theorem dX0_sheet_96 : decode cX0_sheet 96 = .ok (.ireturn, 1) := dk_172 (dk_at dksX0_sheet_4 3 rfl rfl)
abbrev cX0_made : ByteArray := prog_1_method_61_code
def yX0_made : MethodName := ⟨RX0, "made", "(II)Ljava/lang/Object;"⟩
def dkwX0_made_2 : List UInt8 := [27, 188, 8, 176, 27, 188, 9, 176, 27, 188, 11, 176, 1, 176]
abbrev dktX0_made_2 : List UInt8 := dkwX0_made_2 ++ []
def dkwX0_made_1 : List UInt8 := [171, 0, 0, 0, 0, 0, 47, 0, 0, 0, 3, 0, 0, 0, 8, 0, 0, 0, 35, 0, 0, 0, 16, 0, 0, 0, 39, 0, 0, 0, 64, 0, 0, 0, 43]
abbrev dktX0_made_1 : List UInt8 := dkwX0_made_1 ++ dktX0_made_2
def dkwX0_made_0 : List UInt8 := [26]
abbrev dktX0_made_0 : List UInt8 := dkwX0_made_0 ++ dktX0_made_1
theorem dksX0_made_0 : cX0_made.data.toList.drop 0 = dktX0_made_0 := by decide +kernel
theorem dksX0_made_1 : cX0_made.data.toList.drop 1 = dktX0_made_1 := dk_seg dksX0_made_0 1 rfl rfl
theorem dksX0_made_2 : cX0_made.data.toList.drop 36 = dktX0_made_2 := dk_seg dksX0_made_1 35 rfl rfl
theorem dX0_made_0 : decode cX0_made 0 = .ok (.iload_n 0, 1) := dk_26 (dk_at dksX0_made_0 0 rfl rfl)
theorem dX0_made_1 : decode cX0_made 1 = .ok (.lookupswitch 47 #[(8, 35), (16, 39), (64, 43)], 35) := by decide +kernel
theorem dX0_made_36 : decode cX0_made 36 = .ok (.iload_n 1, 1) := dk_27 (dk_at dksX0_made_2 0 rfl rfl)
theorem dX0_made_37 : decode cX0_made 37 = .ok (.newarray .byte, 2) := dk_188_8 (dk_at dksX0_made_2 1 rfl rfl)
theorem dX0_made_39 : decode cX0_made 39 = .ok (.areturn, 1) := dk_176 (dk_at dksX0_made_2 3 rfl rfl)
theorem dX0_made_40 : decode cX0_made 40 = .ok (.iload_n 1, 1) := dk_27 (dk_at dksX0_made_2 4 rfl rfl)
theorem dX0_made_41 : decode cX0_made 41 = .ok (.newarray .short, 2) := dk_188_9 (dk_at dksX0_made_2 5 rfl rfl)
theorem dX0_made_43 : decode cX0_made 43 = .ok (.areturn, 1) := dk_176 (dk_at dksX0_made_2 7 rfl rfl)
theorem dX0_made_44 : decode cX0_made 44 = .ok (.iload_n 1, 1) := dk_27 (dk_at dksX0_made_2 8 rfl rfl)
theorem dX0_made_45 : decode cX0_made 45 = .ok (.newarray .long, 2) := dk_188_11 (dk_at dksX0_made_2 9 rfl rfl)
theorem dX0_made_47 : decode cX0_made 47 = .ok (.areturn, 1) := dk_176 (dk_at dksX0_made_2 11 rfl rfl)
theorem dX0_made_48 : decode cX0_made 48 = .ok (.aconst_null, 1) := dk_1 (dk_at dksX0_made_2 12 rfl rfl)
theorem dX0_made_49 : decode cX0_made 49 = .ok (.areturn, 1) := dk_176 (dk_at dksX0_made_2 13 rfl rfl)
abbrev cX0_write : ByteArray := prog_1_method_64_code
def yX0_write : MethodName := ⟨RX0, "write", "(IIJ)J"⟩
def dkwX0_write_1 : List UInt8 := [22, 6, 173, 58, 5, 42, 25, 5, 182, 0, 122, 133, 173]
abbrev dktX0_write_1 : List UInt8 := dkwX0_write_1 ++ []
def dkwX0_write_0 : List UInt8 := [42, 27, 28, 182, 1, 61, 58, 5, 25, 5, 28, 184, 1, 36, 55, 6, 25, 5, 28, 33, 184, 1, 40]
abbrev dktX0_write_0 : List UInt8 := dkwX0_write_0 ++ dktX0_write_1
theorem dksX0_write_0 : cX0_write.data.toList.drop 0 = dktX0_write_0 := by decide +kernel
theorem dksX0_write_1 : cX0_write.data.toList.drop 23 = dktX0_write_1 := dk_seg dksX0_write_0 23 rfl rfl
theorem dX0_write_0 : decode cX0_write 0 = .ok (.aload_n 0, 1) := dk_42 (dk_at dksX0_write_0 0 rfl rfl)
theorem dX0_write_1 : decode cX0_write 1 = .ok (.iload_n 1, 1) := dk_27 (dk_at dksX0_write_0 1 rfl rfl)
theorem dX0_write_2 : decode cX0_write 2 = .ok (.iload_n 2, 1) := dk_28 (dk_at dksX0_write_0 2 rfl rfl)
theorem dX0_write_3 : decode cX0_write 3 = .ok (.invokevirtual 317, 3) := dk_182 1 61 (dk_at dksX0_write_0 3 rfl rfl)
theorem dX0_write_6 : decode cX0_write 6 = .ok (.astore 5, 2) := dk_58 5 (dk_at dksX0_write_0 6 rfl rfl)
theorem dX0_write_8 : decode cX0_write 8 = .ok (.aload 5, 2) := dk_25 5 (dk_at dksX0_write_0 8 rfl rfl)
theorem dX0_write_10 : decode cX0_write 10 = .ok (.iload_n 2, 1) := dk_28 (dk_at dksX0_write_0 10 rfl rfl)
theorem dX0_write_11 : decode cX0_write 11 = .ok (.invokestatic 292, 3) := dk_184 1 36 (dk_at dksX0_write_0 11 rfl rfl)
theorem dX0_write_14 : decode cX0_write 14 = .ok (.lstore 6, 2) := dk_55 6 (dk_at dksX0_write_0 14 rfl rfl)
theorem dX0_write_16 : decode cX0_write 16 = .ok (.aload 5, 2) := dk_25 5 (dk_at dksX0_write_0 16 rfl rfl)
theorem dX0_write_18 : decode cX0_write 18 = .ok (.iload_n 2, 1) := dk_28 (dk_at dksX0_write_0 18 rfl rfl)
theorem dX0_write_19 : decode cX0_write 19 = .ok (.lload_n 3, 1) := dk_33 (dk_at dksX0_write_0 19 rfl rfl)
theorem dX0_write_20 : decode cX0_write 20 = .ok (.invokestatic 296, 3) := dk_184 1 40 (dk_at dksX0_write_0 20 rfl rfl)
theorem dX0_write_23 : decode cX0_write 23 = .ok (.lload 6, 2) := dk_22 6 (dk_at dksX0_write_1 0 rfl rfl)
theorem dX0_write_25 : decode cX0_write 25 = .ok (.lreturn, 1) := dk_173 (dk_at dksX0_write_1 2 rfl rfl)
theorem dX0_write_26 : decode cX0_write 26 = .ok (.astore 5, 2) := dk_58 5 (dk_at dksX0_write_1 3 rfl rfl)
theorem dX0_write_28 : decode cX0_write 28 = .ok (.aload_n 0, 1) := dk_42 (dk_at dksX0_write_1 5 rfl rfl)
theorem dX0_write_29 : decode cX0_write 29 = .ok (.aload 5, 2) := dk_25 5 (dk_at dksX0_write_1 6 rfl rfl)
theorem dX0_write_31 : decode cX0_write 31 = .ok (.invokevirtual 122, 3) := dk_182 0 122 (dk_at dksX0_write_1 8 rfl rfl)
theorem dX0_write_34 : decode cX0_write 34 = .ok (.i2l, 1) := dk_133 (dk_at dksX0_write_1 11 rfl rfl)
theorem dX0_write_35 : decode cX0_write 35 = .ok (.lreturn, 1) := dk_173 (dk_at dksX0_write_1 12 rfl rfl)
abbrev cX0_numberAt : ByteArray := prog_1_method_63_code
def yX0_numberAt : MethodName := ⟨RX0, "numberAt", "(II)Ljava/lang/Object;"⟩
def dkwX0_numberAt_1 : List UInt8 := [184, 0, 87, 45, 176]
abbrev dktX0_numberAt_1 : List UInt8 := dkwX0_numberAt_1 ++ []
def dkwX0_numberAt_0 : List UInt8 := [27, 184, 1, 25, 42, 27, 182, 1, 28, 78, 28, 133, 9, 45, 184, 1, 32, 4, 100, 133, 184, 0, 16, 3]
abbrev dktX0_numberAt_0 : List UInt8 := dkwX0_numberAt_0 ++ dktX0_numberAt_1
theorem dksX0_numberAt_0 : cX0_numberAt.data.toList.drop 0 = dktX0_numberAt_0 := by decide +kernel
theorem dksX0_numberAt_1 : cX0_numberAt.data.toList.drop 24 = dktX0_numberAt_1 := dk_seg dksX0_numberAt_0 24 rfl rfl
theorem dX0_numberAt_0 : decode cX0_numberAt 0 = .ok (.iload_n 1, 1) := dk_27 (dk_at dksX0_numberAt_0 0 rfl rfl)
theorem dX0_numberAt_1 : decode cX0_numberAt 1 = .ok (.invokestatic 281, 3) := dk_184 1 25 (dk_at dksX0_numberAt_0 1 rfl rfl)
theorem dX0_numberAt_4 : decode cX0_numberAt 4 = .ok (.aload_n 0, 1) := dk_42 (dk_at dksX0_numberAt_0 4 rfl rfl)
theorem dX0_numberAt_5 : decode cX0_numberAt 5 = .ok (.iload_n 1, 1) := dk_27 (dk_at dksX0_numberAt_0 5 rfl rfl)
theorem dX0_numberAt_6 : decode cX0_numberAt 6 = .ok (.invokevirtual 284, 3) := dk_182 1 28 (dk_at dksX0_numberAt_0 6 rfl rfl)
theorem dX0_numberAt_9 : decode cX0_numberAt 9 = .ok (.astore_n 3, 1) := dk_78 (dk_at dksX0_numberAt_0 9 rfl rfl)
theorem dX0_numberAt_10 : decode cX0_numberAt 10 = .ok (.iload_n 2, 1) := dk_28 (dk_at dksX0_numberAt_0 10 rfl rfl)
theorem dX0_numberAt_11 : decode cX0_numberAt 11 = .ok (.i2l, 1) := dk_133 (dk_at dksX0_numberAt_0 11 rfl rfl)
theorem dX0_numberAt_12 : decode cX0_numberAt 12 = .ok (.lconst 0, 1) := dk_9 (dk_at dksX0_numberAt_0 12 rfl rfl)
theorem dX0_numberAt_13 : decode cX0_numberAt 13 = .ok (.aload_n 3, 1) := dk_45 (dk_at dksX0_numberAt_0 13 rfl rfl)
theorem dX0_numberAt_14 : decode cX0_numberAt 14 = .ok (.invokestatic 288, 3) := dk_184 1 32 (dk_at dksX0_numberAt_0 14 rfl rfl)
theorem dX0_numberAt_17 : decode cX0_numberAt 17 = .ok (.iconst 1, 1) := dk_4 (dk_at dksX0_numberAt_0 17 rfl rfl)
theorem dX0_numberAt_18 : decode cX0_numberAt 18 = .ok (.isub, 1) := dk_100 (dk_at dksX0_numberAt_0 18 rfl rfl)
theorem dX0_numberAt_19 : decode cX0_numberAt 19 = .ok (.i2l, 1) := dk_133 (dk_at dksX0_numberAt_0 19 rfl rfl)
theorem dX0_numberAt_20 : decode cX0_numberAt 20 = .ok (.invokestatic 16, 3) := dk_184 0 16 (dk_at dksX0_numberAt_0 20 rfl rfl)
theorem dX0_numberAt_23 : decode cX0_numberAt 23 = .ok (.iconst 0, 1) := dk_3 (dk_at dksX0_numberAt_0 23 rfl rfl)
theorem dX0_numberAt_24 : decode cX0_numberAt 24 = .ok (.invokestatic 87, 3) := dk_184 0 87 (dk_at dksX0_numberAt_1 0 rfl rfl)
theorem dX0_numberAt_27 : decode cX0_numberAt 27 = .ok (.aload_n 3, 1) := dk_45 (dk_at dksX0_numberAt_1 3 rfl rfl)
theorem dX0_numberAt_28 : decode cX0_numberAt 28 = .ok (.areturn, 1) := dk_176 (dk_at dksX0_numberAt_1 4 rfl rfl)
abbrev cX0_copy : ByteArray := prog_1_method_65_code
def yX0_copy : MethodName := ⟨RX0, "copy", "(IIIII)I"⟩
def dkwX0_copy_5 : List UInt8 := [184, 1, 67, 21, 5, 172, 58, 6, 42, 25, 6, 182, 0, 122, 172]
abbrev dktX0_copy_5 : List UInt8 := dkwX0_copy_5 ++ []
def dkwX0_copy_4 : List UInt8 := [148, 157, 0, 7, 4, 167, 0, 4, 3, 3, 184, 0, 87, 25, 6, 28, 25, 7, 21, 4, 21, 5]
abbrev dktX0_copy_4 : List UInt8 := dkwX0_copy_4 ++ dktX0_copy_5
def dkwX0_copy_3 : List UInt8 := [97, 25, 6, 184, 1, 32, 133, 148, 157, 0, 24, 21, 4, 133, 21, 5, 133, 97, 25, 7, 184, 1, 32, 133]
abbrev dktX0_copy_3 : List UInt8 := dkwX0_copy_3 ++ dktX0_copy_4
def dkwX0_copy_2 : List UInt8 := [21, 4, 155, 0, 12, 21, 5, 155, 0, 7, 4, 167, 0, 4, 3, 3, 184, 0, 87, 28, 133, 21, 5, 133]
abbrev dktX0_copy_2 : List UInt8 := dkwX0_copy_2 ++ dktX0_copy_3
def dkwX0_copy_1 : List UInt8 := [184, 1, 64, 25, 7, 184, 1, 64, 160, 0, 7, 4, 167, 0, 4, 3, 5, 184, 0, 87, 28, 155, 0, 17]
abbrev dktX0_copy_1 : List UInt8 := dkwX0_copy_1 ++ dktX0_copy_2
def dkwX0_copy_0 : List UInt8 := [27, 184, 1, 25, 29, 184, 1, 25, 42, 27, 182, 1, 28, 58, 6, 42, 29, 182, 1, 28, 58, 7, 25, 6]
abbrev dktX0_copy_0 : List UInt8 := dkwX0_copy_0 ++ dktX0_copy_1
theorem dksX0_copy_0 : cX0_copy.data.toList.drop 0 = dktX0_copy_0 := by decide +kernel
theorem dksX0_copy_1 : cX0_copy.data.toList.drop 24 = dktX0_copy_1 := dk_seg dksX0_copy_0 24 rfl rfl
theorem dksX0_copy_2 : cX0_copy.data.toList.drop 48 = dktX0_copy_2 := dk_seg dksX0_copy_1 24 rfl rfl
theorem dksX0_copy_3 : cX0_copy.data.toList.drop 72 = dktX0_copy_3 := dk_seg dksX0_copy_2 24 rfl rfl
theorem dksX0_copy_4 : cX0_copy.data.toList.drop 96 = dktX0_copy_4 := dk_seg dksX0_copy_3 24 rfl rfl
theorem dksX0_copy_5 : cX0_copy.data.toList.drop 118 = dktX0_copy_5 := dk_seg dksX0_copy_4 22 rfl rfl
theorem dX0_copy_0 : decode cX0_copy 0 = .ok (.iload_n 1, 1) := dk_27 (dk_at dksX0_copy_0 0 rfl rfl)
theorem dX0_copy_1 : decode cX0_copy 1 = .ok (.invokestatic 281, 3) := dk_184 1 25 (dk_at dksX0_copy_0 1 rfl rfl)
theorem dX0_copy_4 : decode cX0_copy 4 = .ok (.iload_n 3, 1) := dk_29 (dk_at dksX0_copy_0 4 rfl rfl)
theorem dX0_copy_5 : decode cX0_copy 5 = .ok (.invokestatic 281, 3) := dk_184 1 25 (dk_at dksX0_copy_0 5 rfl rfl)
theorem dX0_copy_8 : decode cX0_copy 8 = .ok (.aload_n 0, 1) := dk_42 (dk_at dksX0_copy_0 8 rfl rfl)
theorem dX0_copy_9 : decode cX0_copy 9 = .ok (.iload_n 1, 1) := dk_27 (dk_at dksX0_copy_0 9 rfl rfl)
theorem dX0_copy_10 : decode cX0_copy 10 = .ok (.invokevirtual 284, 3) := dk_182 1 28 (dk_at dksX0_copy_0 10 rfl rfl)
theorem dX0_copy_13 : decode cX0_copy 13 = .ok (.astore 6, 2) := dk_58 6 (dk_at dksX0_copy_0 13 rfl rfl)
theorem dX0_copy_15 : decode cX0_copy 15 = .ok (.aload_n 0, 1) := dk_42 (dk_at dksX0_copy_0 15 rfl rfl)
theorem dX0_copy_16 : decode cX0_copy 16 = .ok (.iload_n 3, 1) := dk_29 (dk_at dksX0_copy_0 16 rfl rfl)
theorem dX0_copy_17 : decode cX0_copy 17 = .ok (.invokevirtual 284, 3) := dk_182 1 28 (dk_at dksX0_copy_0 17 rfl rfl)
theorem dX0_copy_20 : decode cX0_copy 20 = .ok (.astore 7, 2) := dk_58 7 (dk_at dksX0_copy_0 20 rfl rfl)
theorem dX0_copy_22 : decode cX0_copy 22 = .ok (.aload 6, 2) := dk_25 6 (dk_at dksX0_copy_0 22 rfl rfl)
theorem dX0_copy_24 : decode cX0_copy 24 = .ok (.invokestatic 320, 3) := dk_184 1 64 (dk_at dksX0_copy_1 0 rfl rfl)
theorem dX0_copy_27 : decode cX0_copy 27 = .ok (.aload 7, 2) := dk_25 7 (dk_at dksX0_copy_1 3 rfl rfl)
theorem dX0_copy_29 : decode cX0_copy 29 = .ok (.invokestatic 320, 3) := dk_184 1 64 (dk_at dksX0_copy_1 5 rfl rfl)
theorem dX0_copy_32 : decode cX0_copy 32 = .ok (.if_icmp .ne 7, 3) := dk_160 0 7 (dk_at dksX0_copy_1 8 rfl rfl)
theorem dX0_copy_35 : decode cX0_copy 35 = .ok (.iconst 1, 1) := dk_4 (dk_at dksX0_copy_1 11 rfl rfl)
theorem dX0_copy_36 : decode cX0_copy 36 = .ok (.goto 4, 3) := dk_167 0 4 (dk_at dksX0_copy_1 12 rfl rfl)
theorem dX0_copy_39 : decode cX0_copy 39 = .ok (.iconst 0, 1) := dk_3 (dk_at dksX0_copy_1 15 rfl rfl)
theorem dX0_copy_40 : decode cX0_copy 40 = .ok (.iconst 2, 1) := dk_5 (dk_at dksX0_copy_1 16 rfl rfl)
theorem dX0_copy_41 : decode cX0_copy 41 = .ok (.invokestatic 87, 3) := dk_184 0 87 (dk_at dksX0_copy_1 17 rfl rfl)
theorem dX0_copy_44 : decode cX0_copy 44 = .ok (.iload_n 2, 1) := dk_28 (dk_at dksX0_copy_1 20 rfl rfl)
theorem dX0_copy_45 : decode cX0_copy 45 = .ok (.ifCond .lt 17, 3) := dk_155 0 17 (dk_at dksX0_copy_1 21 rfl rfl)
theorem dX0_copy_48 : decode cX0_copy 48 = .ok (.iload 4, 2) := dk_21 4 (dk_at dksX0_copy_2 0 rfl rfl)
theorem dX0_copy_50 : decode cX0_copy 50 = .ok (.ifCond .lt 12, 3) := dk_155 0 12 (dk_at dksX0_copy_2 2 rfl rfl)
theorem dX0_copy_53 : decode cX0_copy 53 = .ok (.iload 5, 2) := dk_21 5 (dk_at dksX0_copy_2 5 rfl rfl)
theorem dX0_copy_55 : decode cX0_copy 55 = .ok (.ifCond .lt 7, 3) := dk_155 0 7 (dk_at dksX0_copy_2 7 rfl rfl)
theorem dX0_copy_58 : decode cX0_copy 58 = .ok (.iconst 1, 1) := dk_4 (dk_at dksX0_copy_2 10 rfl rfl)
theorem dX0_copy_59 : decode cX0_copy 59 = .ok (.goto 4, 3) := dk_167 0 4 (dk_at dksX0_copy_2 11 rfl rfl)
theorem dX0_copy_62 : decode cX0_copy 62 = .ok (.iconst 0, 1) := dk_3 (dk_at dksX0_copy_2 14 rfl rfl)
theorem dX0_copy_63 : decode cX0_copy 63 = .ok (.iconst 0, 1) := dk_3 (dk_at dksX0_copy_2 15 rfl rfl)
theorem dX0_copy_64 : decode cX0_copy 64 = .ok (.invokestatic 87, 3) := dk_184 0 87 (dk_at dksX0_copy_2 16 rfl rfl)
theorem dX0_copy_67 : decode cX0_copy 67 = .ok (.iload_n 2, 1) := dk_28 (dk_at dksX0_copy_2 19 rfl rfl)
theorem dX0_copy_68 : decode cX0_copy 68 = .ok (.i2l, 1) := dk_133 (dk_at dksX0_copy_2 20 rfl rfl)
theorem dX0_copy_69 : decode cX0_copy 69 = .ok (.iload 5, 2) := dk_21 5 (dk_at dksX0_copy_2 21 rfl rfl)
theorem dX0_copy_71 : decode cX0_copy 71 = .ok (.i2l, 1) := dk_133 (dk_at dksX0_copy_2 23 rfl rfl)
theorem dX0_copy_72 : decode cX0_copy 72 = .ok (.ladd, 1) := dk_97 (dk_at dksX0_copy_3 0 rfl rfl)
theorem dX0_copy_73 : decode cX0_copy 73 = .ok (.aload 6, 2) := dk_25 6 (dk_at dksX0_copy_3 1 rfl rfl)
theorem dX0_copy_75 : decode cX0_copy 75 = .ok (.invokestatic 288, 3) := dk_184 1 32 (dk_at dksX0_copy_3 3 rfl rfl)
theorem dX0_copy_78 : decode cX0_copy 78 = .ok (.i2l, 1) := dk_133 (dk_at dksX0_copy_3 6 rfl rfl)
theorem dX0_copy_79 : decode cX0_copy 79 = .ok (.lcmp, 1) := dk_148 (dk_at dksX0_copy_3 7 rfl rfl)
theorem dX0_copy_80 : decode cX0_copy 80 = .ok (.ifCond .gt 24, 3) := dk_157 0 24 (dk_at dksX0_copy_3 8 rfl rfl)
theorem dX0_copy_83 : decode cX0_copy 83 = .ok (.iload 4, 2) := dk_21 4 (dk_at dksX0_copy_3 11 rfl rfl)
theorem dX0_copy_85 : decode cX0_copy 85 = .ok (.i2l, 1) := dk_133 (dk_at dksX0_copy_3 13 rfl rfl)
theorem dX0_copy_86 : decode cX0_copy 86 = .ok (.iload 5, 2) := dk_21 5 (dk_at dksX0_copy_3 14 rfl rfl)
theorem dX0_copy_88 : decode cX0_copy 88 = .ok (.i2l, 1) := dk_133 (dk_at dksX0_copy_3 16 rfl rfl)
theorem dX0_copy_89 : decode cX0_copy 89 = .ok (.ladd, 1) := dk_97 (dk_at dksX0_copy_3 17 rfl rfl)
theorem dX0_copy_90 : decode cX0_copy 90 = .ok (.aload 7, 2) := dk_25 7 (dk_at dksX0_copy_3 18 rfl rfl)
theorem dX0_copy_92 : decode cX0_copy 92 = .ok (.invokestatic 288, 3) := dk_184 1 32 (dk_at dksX0_copy_3 20 rfl rfl)
theorem dX0_copy_95 : decode cX0_copy 95 = .ok (.i2l, 1) := dk_133 (dk_at dksX0_copy_3 23 rfl rfl)
theorem dX0_copy_96 : decode cX0_copy 96 = .ok (.lcmp, 1) := dk_148 (dk_at dksX0_copy_4 0 rfl rfl)
theorem dX0_copy_97 : decode cX0_copy 97 = .ok (.ifCond .gt 7, 3) := dk_157 0 7 (dk_at dksX0_copy_4 1 rfl rfl)
theorem dX0_copy_100 : decode cX0_copy 100 = .ok (.iconst 1, 1) := dk_4 (dk_at dksX0_copy_4 4 rfl rfl)
theorem dX0_copy_101 : decode cX0_copy 101 = .ok (.goto 4, 3) := dk_167 0 4 (dk_at dksX0_copy_4 5 rfl rfl)
theorem dX0_copy_104 : decode cX0_copy 104 = .ok (.iconst 0, 1) := dk_3 (dk_at dksX0_copy_4 8 rfl rfl)
theorem dX0_copy_105 : decode cX0_copy 105 = .ok (.iconst 0, 1) := dk_3 (dk_at dksX0_copy_4 9 rfl rfl)
theorem dX0_copy_106 : decode cX0_copy 106 = .ok (.invokestatic 87, 3) := dk_184 0 87 (dk_at dksX0_copy_4 10 rfl rfl)
theorem dX0_copy_109 : decode cX0_copy 109 = .ok (.aload 6, 2) := dk_25 6 (dk_at dksX0_copy_4 13 rfl rfl)
theorem dX0_copy_111 : decode cX0_copy 111 = .ok (.iload_n 2, 1) := dk_28 (dk_at dksX0_copy_4 15 rfl rfl)
theorem dX0_copy_112 : decode cX0_copy 112 = .ok (.aload 7, 2) := dk_25 7 (dk_at dksX0_copy_4 16 rfl rfl)
theorem dX0_copy_114 : decode cX0_copy 114 = .ok (.iload 4, 2) := dk_21 4 (dk_at dksX0_copy_4 18 rfl rfl)
theorem dX0_copy_116 : decode cX0_copy 116 = .ok (.iload 5, 2) := dk_21 5 (dk_at dksX0_copy_4 20 rfl rfl)
theorem dX0_copy_118 : decode cX0_copy 118 = .ok (.invokestatic 323, 3) := dk_184 1 67 (dk_at dksX0_copy_5 0 rfl rfl)
theorem dX0_copy_121 : decode cX0_copy 121 = .ok (.iload 5, 2) := dk_21 5 (dk_at dksX0_copy_5 3 rfl rfl)
theorem dX0_copy_123 : decode cX0_copy 123 = .ok (.ireturn, 1) := dk_172 (dk_at dksX0_copy_5 5 rfl rfl)
theorem dX0_copy_124 : decode cX0_copy 124 = .ok (.astore 6, 2) := dk_58 6 (dk_at dksX0_copy_5 6 rfl rfl)
theorem dX0_copy_126 : decode cX0_copy 126 = .ok (.aload_n 0, 1) := dk_42 (dk_at dksX0_copy_5 8 rfl rfl)
theorem dX0_copy_127 : decode cX0_copy 127 = .ok (.aload 6, 2) := dk_25 6 (dk_at dksX0_copy_5 9 rfl rfl)
theorem dX0_copy_129 : decode cX0_copy 129 = .ok (.invokevirtual 122, 3) := dk_182 0 122 (dk_at dksX0_copy_5 11 rfl rfl)
theorem dX0_copy_132 : decode cX0_copy 132 = .ok (.ireturn, 1) := dk_172 (dk_at dksX0_copy_5 14 rfl rfl)
abbrev cX0_wide : ByteArray := prog_1_method_57_code
def yX0_wide : MethodName := ⟨RX0, "wide", "(Ljava/lang/Object;)I"⟩
def dkwX0_wide_1 : List UInt8 := [16, 64, 172]
abbrev dktX0_wide_1 : List UInt8 := dkwX0_wide_1 ++ []
def dkwX0_wide_0 : List UInt8 := [42, 193, 1, 52, 153, 0, 8, 16, 8, 167, 0, 17, 42, 193, 1, 53, 153, 0, 8, 16, 16, 167, 0, 5]
abbrev dktX0_wide_0 : List UInt8 := dkwX0_wide_0 ++ dktX0_wide_1
theorem dksX0_wide_0 : cX0_wide.data.toList.drop 0 = dktX0_wide_0 := by decide +kernel
theorem dksX0_wide_1 : cX0_wide.data.toList.drop 24 = dktX0_wide_1 := dk_seg dksX0_wide_0 24 rfl rfl
theorem dX0_wide_0 : decode cX0_wide 0 = .ok (.aload_n 0, 1) := dk_42 (dk_at dksX0_wide_0 0 rfl rfl)
theorem dX0_wide_1 : decode cX0_wide 1 = .ok (.instanceof 308, 3) := dk_193 1 52 (dk_at dksX0_wide_0 1 rfl rfl)
theorem dX0_wide_4 : decode cX0_wide 4 = .ok (.ifCond .eq 8, 3) := dk_153 0 8 (dk_at dksX0_wide_0 4 rfl rfl)
theorem dX0_wide_7 : decode cX0_wide 7 = .ok (.bipush 8, 2) := dk_16 8 (dk_at dksX0_wide_0 7 rfl rfl)
theorem dX0_wide_9 : decode cX0_wide 9 = .ok (.goto 17, 3) := dk_167 0 17 (dk_at dksX0_wide_0 9 rfl rfl)
theorem dX0_wide_12 : decode cX0_wide 12 = .ok (.aload_n 0, 1) := dk_42 (dk_at dksX0_wide_0 12 rfl rfl)
theorem dX0_wide_13 : decode cX0_wide 13 = .ok (.instanceof 309, 3) := dk_193 1 53 (dk_at dksX0_wide_0 13 rfl rfl)
theorem dX0_wide_16 : decode cX0_wide 16 = .ok (.ifCond .eq 8, 3) := dk_153 0 8 (dk_at dksX0_wide_0 16 rfl rfl)
theorem dX0_wide_19 : decode cX0_wide 19 = .ok (.bipush 16, 2) := dk_16 16 (dk_at dksX0_wide_0 19 rfl rfl)
theorem dX0_wide_21 : decode cX0_wide 21 = .ok (.goto 5, 3) := dk_167 0 5 (dk_at dksX0_wide_0 21 rfl rfl)
theorem dX0_wide_24 : decode cX0_wide 24 = .ok (.bipush 64, 2) := dk_16 64 (dk_at dksX0_wide_1 0 rfl rfl)
theorem dX0_wide_26 : decode cX0_wide 26 = .ok (.ireturn, 1) := dk_172 (dk_at dksX0_wide_1 2 rfl rfl)
abbrev cX0_image : ByteArray := prog_1_method_66_code
def yX0_image : MethodName := ⟨RX0, "image", "()I"⟩
def dkwX0_image_0 : List UInt8 := [42, 180, 0, 54, 42, 180, 0, 50, 182, 0, 98, 42, 4, 181, 1, 73, 4, 172]
abbrev dktX0_image_0 : List UInt8 := dkwX0_image_0 ++ []
theorem dksX0_image_0 : cX0_image.data.toList.drop 0 = dktX0_image_0 := by decide +kernel
theorem dX0_image_0 : decode cX0_image 0 = .ok (.aload_n 0, 1) := dk_42 (dk_at dksX0_image_0 0 rfl rfl)
theorem dX0_image_1 : decode cX0_image 1 = .ok (.getfield 54, 3) := dk_180 0 54 (dk_at dksX0_image_0 1 rfl rfl)
theorem dX0_image_4 : decode cX0_image 4 = .ok (.aload_n 0, 1) := dk_42 (dk_at dksX0_image_0 4 rfl rfl)
theorem dX0_image_5 : decode cX0_image 5 = .ok (.getfield 50, 3) := dk_180 0 50 (dk_at dksX0_image_0 5 rfl rfl)
theorem dX0_image_8 : decode cX0_image 8 = .ok (.invokevirtual 98, 3) := dk_182 0 98 (dk_at dksX0_image_0 8 rfl rfl)
theorem dX0_image_11 : decode cX0_image 11 = .ok (.aload_n 0, 1) := dk_42 (dk_at dksX0_image_0 11 rfl rfl)
theorem dX0_image_12 : decode cX0_image 12 = .ok (.iconst 1, 1) := dk_4 (dk_at dksX0_image_0 12 rfl rfl)
theorem dX0_image_13 : decode cX0_image 13 = .ok (.putfield 329, 3) := dk_181 1 73 (dk_at dksX0_image_0 13 rfl rfl)
theorem dX0_image_16 : decode cX0_image 16 = .ok (.iconst 1, 1) := dk_4 (dk_at dksX0_image_0 16 rfl rfl)
theorem dX0_image_17 : decode cX0_image 17 = .ok (.ireturn, 1) := dk_172 (dk_at dksX0_image_0 17 rfl rfl)
abbrev cX0_undo : ByteArray := prog_1_method_67_code
def yX0_undo : MethodName := ⟨RX0, "undo", "()I"⟩
def dkwX0_undo_1 : List UInt8 := [180, 0, 91, 172, 76, 42, 43, 182, 0, 122, 172]
abbrev dktX0_undo_1 : List UInt8 := dkwX0_undo_1 ++ []
def dkwX0_undo_0 : List UInt8 := [42, 180, 1, 73, 6, 184, 0, 87, 42, 180, 0, 50, 42, 180, 0, 54, 182, 0, 98, 42, 180, 0, 50]
abbrev dktX0_undo_0 : List UInt8 := dkwX0_undo_0 ++ dktX0_undo_1
theorem dksX0_undo_0 : cX0_undo.data.toList.drop 0 = dktX0_undo_0 := by decide +kernel
theorem dksX0_undo_1 : cX0_undo.data.toList.drop 23 = dktX0_undo_1 := dk_seg dksX0_undo_0 23 rfl rfl
theorem dX0_undo_0 : decode cX0_undo 0 = .ok (.aload_n 0, 1) := dk_42 (dk_at dksX0_undo_0 0 rfl rfl)
theorem dX0_undo_1 : decode cX0_undo 1 = .ok (.getfield 329, 3) := dk_180 1 73 (dk_at dksX0_undo_0 1 rfl rfl)
theorem dX0_undo_4 : decode cX0_undo 4 = .ok (.iconst 3, 1) := dk_6 (dk_at dksX0_undo_0 4 rfl rfl)
theorem dX0_undo_5 : decode cX0_undo 5 = .ok (.invokestatic 87, 3) := dk_184 0 87 (dk_at dksX0_undo_0 5 rfl rfl)
theorem dX0_undo_8 : decode cX0_undo 8 = .ok (.aload_n 0, 1) := dk_42 (dk_at dksX0_undo_0 8 rfl rfl)
theorem dX0_undo_9 : decode cX0_undo 9 = .ok (.getfield 50, 3) := dk_180 0 50 (dk_at dksX0_undo_0 9 rfl rfl)
theorem dX0_undo_12 : decode cX0_undo 12 = .ok (.aload_n 0, 1) := dk_42 (dk_at dksX0_undo_0 12 rfl rfl)
theorem dX0_undo_13 : decode cX0_undo 13 = .ok (.getfield 54, 3) := dk_180 0 54 (dk_at dksX0_undo_0 13 rfl rfl)
theorem dX0_undo_16 : decode cX0_undo 16 = .ok (.invokevirtual 98, 3) := dk_182 0 98 (dk_at dksX0_undo_0 16 rfl rfl)
theorem dX0_undo_19 : decode cX0_undo 19 = .ok (.aload_n 0, 1) := dk_42 (dk_at dksX0_undo_0 19 rfl rfl)
theorem dX0_undo_20 : decode cX0_undo 20 = .ok (.getfield 50, 3) := dk_180 0 50 (dk_at dksX0_undo_0 20 rfl rfl)
theorem dX0_undo_23 : decode cX0_undo 23 = .ok (.getfield 91, 3) := dk_180 0 91 (dk_at dksX0_undo_1 0 rfl rfl)
theorem dX0_undo_26 : decode cX0_undo 26 = .ok (.ireturn, 1) := dk_172 (dk_at dksX0_undo_1 3 rfl rfl)
theorem dX0_undo_27 : decode cX0_undo 27 = .ok (.astore_n 1, 1) := dk_76 (dk_at dksX0_undo_1 4 rfl rfl)
theorem dX0_undo_28 : decode cX0_undo 28 = .ok (.aload_n 0, 1) := dk_42 (dk_at dksX0_undo_1 5 rfl rfl)
theorem dX0_undo_29 : decode cX0_undo 29 = .ok (.aload_n 1, 1) := dk_43 (dk_at dksX0_undo_1 6 rfl rfl)
theorem dX0_undo_30 : decode cX0_undo 30 = .ok (.invokevirtual 122, 3) := dk_182 0 122 (dk_at dksX0_undo_1 7 rfl rfl)
theorem dX0_undo_33 : decode cX0_undo 33 = .ok (.ireturn, 1) := dk_172 (dk_at dksX0_undo_1 10 rfl rfl)
abbrev cX0_tear : ByteArray := prog_1_method_68_code
def yX0_tear : MethodName := ⟨RX0, "tear", "()I"⟩
def dkwX0_tear_0 : List UInt8 := [42, 180, 1, 73, 153, 0, 7, 4, 167, 0, 4, 3, 60, 42, 3, 181, 1, 73, 27, 172]
abbrev dktX0_tear_0 : List UInt8 := dkwX0_tear_0 ++ []
theorem dksX0_tear_0 : cX0_tear.data.toList.drop 0 = dktX0_tear_0 := by decide +kernel
theorem dX0_tear_0 : decode cX0_tear 0 = .ok (.aload_n 0, 1) := dk_42 (dk_at dksX0_tear_0 0 rfl rfl)
theorem dX0_tear_1 : decode cX0_tear 1 = .ok (.getfield 329, 3) := dk_180 1 73 (dk_at dksX0_tear_0 1 rfl rfl)
theorem dX0_tear_4 : decode cX0_tear 4 = .ok (.ifCond .eq 7, 3) := dk_153 0 7 (dk_at dksX0_tear_0 4 rfl rfl)
theorem dX0_tear_7 : decode cX0_tear 7 = .ok (.iconst 1, 1) := dk_4 (dk_at dksX0_tear_0 7 rfl rfl)
theorem dX0_tear_8 : decode cX0_tear 8 = .ok (.goto 4, 3) := dk_167 0 4 (dk_at dksX0_tear_0 8 rfl rfl)
theorem dX0_tear_11 : decode cX0_tear 11 = .ok (.iconst 0, 1) := dk_3 (dk_at dksX0_tear_0 11 rfl rfl)
theorem dX0_tear_12 : decode cX0_tear 12 = .ok (.istore_n 1, 1) := dk_60 (dk_at dksX0_tear_0 12 rfl rfl)
theorem dX0_tear_13 : decode cX0_tear 13 = .ok (.aload_n 0, 1) := dk_42 (dk_at dksX0_tear_0 13 rfl rfl)
theorem dX0_tear_14 : decode cX0_tear 14 = .ok (.iconst 0, 1) := dk_3 (dk_at dksX0_tear_0 14 rfl rfl)
theorem dX0_tear_15 : decode cX0_tear 15 = .ok (.putfield 329, 3) := dk_181 1 73 (dk_at dksX0_tear_0 15 rfl rfl)
theorem dX0_tear_18 : decode cX0_tear 18 = .ok (.iload_n 1, 1) := dk_27 (dk_at dksX0_tear_0 18 rfl rfl)
theorem dX0_tear_19 : decode cX0_tear 19 = .ok (.ireturn, 1) := dk_172 (dk_at dksX0_tear_0 19 rfl rfl)
abbrev cX0_count : ByteArray := prog_1_method_70_code
def yX0_count : MethodName := ⟨RX0, "count", "(I)I"⟩
def dkwX0_count_3 : List UInt8 := [42, 44, 182, 0, 122, 172]
abbrev dktX0_count_3 : List UInt8 := dkwX0_count_3 ++ []
def dkwX0_count_2 : List UInt8 := [180, 0, 91, 42, 180, 0, 50, 2, 182, 0, 131, 184, 0, 209, 100, 167, 0, 7, 42, 182, 1, 77, 172, 77]
abbrev dktX0_count_2 : List UInt8 := dkwX0_count_2 ++ dktX0_count_3
def dkwX0_count_1 : List UInt8 := [167, 0, 46, 27, 4, 160, 0, 10, 42, 180, 1, 9, 167, 0, 34, 27, 5, 160, 0, 25, 42, 180, 0, 50]
abbrev dktX0_count_1 : List UInt8 := dkwX0_count_1 ++ dktX0_count_2
def dkwX0_count_0 : List UInt8 := [27, 133, 9, 20, 0, 108, 184, 0, 16, 3, 184, 0, 87, 27, 154, 0, 13, 42, 180, 0, 50, 180, 0, 91]
abbrev dktX0_count_0 : List UInt8 := dkwX0_count_0 ++ dktX0_count_1
theorem dksX0_count_0 : cX0_count.data.toList.drop 0 = dktX0_count_0 := by decide +kernel
theorem dksX0_count_1 : cX0_count.data.toList.drop 24 = dktX0_count_1 := dk_seg dksX0_count_0 24 rfl rfl
theorem dksX0_count_2 : cX0_count.data.toList.drop 48 = dktX0_count_2 := dk_seg dksX0_count_1 24 rfl rfl
theorem dksX0_count_3 : cX0_count.data.toList.drop 72 = dktX0_count_3 := dk_seg dksX0_count_2 24 rfl rfl
theorem dX0_count_0 : decode cX0_count 0 = .ok (.iload_n 1, 1) := dk_27 (dk_at dksX0_count_0 0 rfl rfl)
theorem dX0_count_1 : decode cX0_count 1 = .ok (.i2l, 1) := dk_133 (dk_at dksX0_count_0 1 rfl rfl)
theorem dX0_count_2 : decode cX0_count 2 = .ok (.lconst 0, 1) := dk_9 (dk_at dksX0_count_0 2 rfl rfl)
theorem dX0_count_3 : decode cX0_count 3 = .ok (.ldc2_w 108, 3) := dk_20 0 108 (dk_at dksX0_count_0 3 rfl rfl)
theorem dX0_count_6 : decode cX0_count 6 = .ok (.invokestatic 16, 3) := dk_184 0 16 (dk_at dksX0_count_0 6 rfl rfl)
theorem dX0_count_9 : decode cX0_count 9 = .ok (.iconst 0, 1) := dk_3 (dk_at dksX0_count_0 9 rfl rfl)
theorem dX0_count_10 : decode cX0_count 10 = .ok (.invokestatic 87, 3) := dk_184 0 87 (dk_at dksX0_count_0 10 rfl rfl)
theorem dX0_count_13 : decode cX0_count 13 = .ok (.iload_n 1, 1) := dk_27 (dk_at dksX0_count_0 13 rfl rfl)
theorem dX0_count_14 : decode cX0_count 14 = .ok (.ifCond .ne 13, 3) := dk_154 0 13 (dk_at dksX0_count_0 14 rfl rfl)
theorem dX0_count_17 : decode cX0_count 17 = .ok (.aload_n 0, 1) := dk_42 (dk_at dksX0_count_0 17 rfl rfl)
theorem dX0_count_18 : decode cX0_count 18 = .ok (.getfield 50, 3) := dk_180 0 50 (dk_at dksX0_count_0 18 rfl rfl)
theorem dX0_count_21 : decode cX0_count 21 = .ok (.getfield 91, 3) := dk_180 0 91 (dk_at dksX0_count_0 21 rfl rfl)
theorem dX0_count_24 : decode cX0_count 24 = .ok (.goto 46, 3) := dk_167 0 46 (dk_at dksX0_count_1 0 rfl rfl)
theorem dX0_count_27 : decode cX0_count 27 = .ok (.iload_n 1, 1) := dk_27 (dk_at dksX0_count_1 3 rfl rfl)
theorem dX0_count_28 : decode cX0_count 28 = .ok (.iconst 1, 1) := dk_4 (dk_at dksX0_count_1 4 rfl rfl)
theorem dX0_count_29 : decode cX0_count 29 = .ok (.if_icmp .ne 10, 3) := dk_160 0 10 (dk_at dksX0_count_1 5 rfl rfl)
theorem dX0_count_32 : decode cX0_count 32 = .ok (.aload_n 0, 1) := dk_42 (dk_at dksX0_count_1 8 rfl rfl)
theorem dX0_count_33 : decode cX0_count 33 = .ok (.getfield 265, 3) := dk_180 1 9 (dk_at dksX0_count_1 9 rfl rfl)
theorem dX0_count_36 : decode cX0_count 36 = .ok (.goto 34, 3) := dk_167 0 34 (dk_at dksX0_count_1 12 rfl rfl)
theorem dX0_count_39 : decode cX0_count 39 = .ok (.iload_n 1, 1) := dk_27 (dk_at dksX0_count_1 15 rfl rfl)
theorem dX0_count_40 : decode cX0_count 40 = .ok (.iconst 2, 1) := dk_5 (dk_at dksX0_count_1 16 rfl rfl)
theorem dX0_count_41 : decode cX0_count 41 = .ok (.if_icmp .ne 25, 3) := dk_160 0 25 (dk_at dksX0_count_1 17 rfl rfl)
theorem dX0_count_44 : decode cX0_count 44 = .ok (.aload_n 0, 1) := dk_42 (dk_at dksX0_count_1 20 rfl rfl)
theorem dX0_count_45 : decode cX0_count 45 = .ok (.getfield 50, 3) := dk_180 0 50 (dk_at dksX0_count_1 21 rfl rfl)
theorem dX0_count_48 : decode cX0_count 48 = .ok (.getfield 91, 3) := dk_180 0 91 (dk_at dksX0_count_2 0 rfl rfl)
theorem dX0_count_51 : decode cX0_count 51 = .ok (.aload_n 0, 1) := dk_42 (dk_at dksX0_count_2 3 rfl rfl)
theorem dX0_count_52 : decode cX0_count 52 = .ok (.getfield 50, 3) := dk_180 0 50 (dk_at dksX0_count_2 4 rfl rfl)
theorem dX0_count_55 : decode cX0_count 55 = .ok (.iconst (-1), 1) := dk_2 (dk_at dksX0_count_2 7 rfl rfl)
theorem dX0_count_56 : decode cX0_count 56 = .ok (.invokevirtual 131, 3) := dk_182 0 131 (dk_at dksX0_count_2 8 rfl rfl)
theorem dX0_count_59 : decode cX0_count 59 = .ok (.invokestatic 209, 3) := dk_184 0 209 (dk_at dksX0_count_2 11 rfl rfl)
theorem dX0_count_62 : decode cX0_count 62 = .ok (.isub, 1) := dk_100 (dk_at dksX0_count_2 14 rfl rfl)
theorem dX0_count_63 : decode cX0_count 63 = .ok (.goto 7, 3) := dk_167 0 7 (dk_at dksX0_count_2 15 rfl rfl)
theorem dX0_count_66 : decode cX0_count 66 = .ok (.aload_n 0, 1) := dk_42 (dk_at dksX0_count_2 18 rfl rfl)
theorem dX0_count_67 : decode cX0_count 67 = .ok (.invokevirtual 333, 3) := dk_182 1 77 (dk_at dksX0_count_2 19 rfl rfl)
theorem dX0_count_70 : decode cX0_count 70 = .ok (.ireturn, 1) := dk_172 (dk_at dksX0_count_2 22 rfl rfl)
theorem dX0_count_71 : decode cX0_count 71 = .ok (.astore_n 2, 1) := dk_77 (dk_at dksX0_count_2 23 rfl rfl)
theorem dX0_count_72 : decode cX0_count 72 = .ok (.aload_n 0, 1) := dk_42 (dk_at dksX0_count_3 0 rfl rfl)
theorem dX0_count_73 : decode cX0_count 73 = .ok (.aload_n 2, 1) := dk_44 (dk_at dksX0_count_3 1 rfl rfl)
theorem dX0_count_74 : decode cX0_count 74 = .ok (.invokevirtual 122, 3) := dk_182 0 122 (dk_at dksX0_count_3 2 rfl rfl)
theorem dX0_count_77 : decode cX0_count 77 = .ok (.ireturn, 1) := dk_172 (dk_at dksX0_count_3 5 rfl rfl)
abbrev cX0_allBeds : ByteArray := prog_1_method_69_code
def yX0_allBeds : MethodName := ⟨RX0, "allBeds", "()I"⟩
def dkwX0_allBeds_1 : List UInt8 := [132, 2, 1, 167, 255, 235, 27, 172]
abbrev dktX0_allBeds_1 : List UInt8 := dkwX0_allBeds_1 ++ []
def dkwX0_allBeds_0 : List UInt8 := [3, 60, 3, 61, 28, 16, 8, 162, 0, 21, 27, 42, 180, 0, 50, 180, 0, 206, 28, 46, 96, 60]
abbrev dktX0_allBeds_0 : List UInt8 := dkwX0_allBeds_0 ++ dktX0_allBeds_1
theorem dksX0_allBeds_0 : cX0_allBeds.data.toList.drop 0 = dktX0_allBeds_0 := by decide +kernel
theorem dksX0_allBeds_1 : cX0_allBeds.data.toList.drop 22 = dktX0_allBeds_1 := dk_seg dksX0_allBeds_0 22 rfl rfl
theorem dX0_allBeds_0 : decode cX0_allBeds 0 = .ok (.iconst 0, 1) := dk_3 (dk_at dksX0_allBeds_0 0 rfl rfl)
theorem dX0_allBeds_1 : decode cX0_allBeds 1 = .ok (.istore_n 1, 1) := dk_60 (dk_at dksX0_allBeds_0 1 rfl rfl)
theorem dX0_allBeds_2 : decode cX0_allBeds 2 = .ok (.iconst 0, 1) := dk_3 (dk_at dksX0_allBeds_0 2 rfl rfl)
theorem dX0_allBeds_3 : decode cX0_allBeds 3 = .ok (.istore_n 2, 1) := dk_61 (dk_at dksX0_allBeds_0 3 rfl rfl)
theorem dX0_allBeds_4 : decode cX0_allBeds 4 = .ok (.iload_n 2, 1) := dk_28 (dk_at dksX0_allBeds_0 4 rfl rfl)
theorem dX0_allBeds_5 : decode cX0_allBeds 5 = .ok (.bipush 8, 2) := dk_16 8 (dk_at dksX0_allBeds_0 5 rfl rfl)
theorem dX0_allBeds_7 : decode cX0_allBeds 7 = .ok (.if_icmp .ge 21, 3) := dk_162 0 21 (dk_at dksX0_allBeds_0 7 rfl rfl)
theorem dX0_allBeds_10 : decode cX0_allBeds 10 = .ok (.iload_n 1, 1) := dk_27 (dk_at dksX0_allBeds_0 10 rfl rfl)
theorem dX0_allBeds_11 : decode cX0_allBeds 11 = .ok (.aload_n 0, 1) := dk_42 (dk_at dksX0_allBeds_0 11 rfl rfl)
theorem dX0_allBeds_12 : decode cX0_allBeds 12 = .ok (.getfield 50, 3) := dk_180 0 50 (dk_at dksX0_allBeds_0 12 rfl rfl)
theorem dX0_allBeds_15 : decode cX0_allBeds 15 = .ok (.getfield 206, 3) := dk_180 0 206 (dk_at dksX0_allBeds_0 15 rfl rfl)
theorem dX0_allBeds_18 : decode cX0_allBeds 18 = .ok (.iload_n 2, 1) := dk_28 (dk_at dksX0_allBeds_0 18 rfl rfl)
theorem dX0_allBeds_19 : decode cX0_allBeds 19 = .ok (.iaload, 1) := dk_46 (dk_at dksX0_allBeds_0 19 rfl rfl)
theorem dX0_allBeds_20 : decode cX0_allBeds 20 = .ok (.iadd, 1) := dk_96 (dk_at dksX0_allBeds_0 20 rfl rfl)
theorem dX0_allBeds_21 : decode cX0_allBeds 21 = .ok (.istore_n 1, 1) := dk_60 (dk_at dksX0_allBeds_0 21 rfl rfl)
theorem dX0_allBeds_22 : decode cX0_allBeds 22 = .ok (.iinc 2 1, 3) := dk_132 2 1 (dk_at dksX0_allBeds_1 0 rfl rfl)
theorem dX0_allBeds_25 : decode cX0_allBeds 25 = .ok (.goto (-21), 3) := dk_167 255 235 (dk_at dksX0_allBeds_1 3 rfl rfl)
theorem dX0_allBeds_28 : decode cX0_allBeds 28 = .ok (.iload_n 1, 1) := dk_27 (dk_at dksX0_allBeds_1 6 rfl rfl)
theorem dX0_allBeds_29 : decode cX0_allBeds 29 = .ok (.ireturn, 1) := dk_172 (dk_at dksX0_allBeds_1 7 rfl rfl)
abbrev cX0_status : ByteArray := prog_1_method_71_code
def yX0_status : MethodName := ⟨RX0, "status", "(I)I"⟩
def dkwX0_status_2 : List UInt8 := [167, 255, 238, 28, 172, 77, 42, 44, 182, 0, 122, 172]
abbrev dktX0_status_2 : List UInt8 := dkwX0_status_2 ++ []
def dkwX0_status_1 : List UInt8 := [46, 172, 3, 61, 3, 62, 29, 16, 7, 162, 0, 18, 28, 42, 180, 0, 75, 29, 46, 96, 61, 132, 3, 1]
abbrev dktX0_status_1 : List UInt8 := dkwX0_status_1 ++ dktX0_status_2
def dkwX0_status_0 : List UInt8 := [27, 133, 20, 1, 80, 20, 0, 220, 184, 0, 16, 3, 184, 0, 87, 27, 155, 0, 10, 42, 180, 0, 75, 27]
abbrev dktX0_status_0 : List UInt8 := dkwX0_status_0 ++ dktX0_status_1
theorem dksX0_status_0 : cX0_status.data.toList.drop 0 = dktX0_status_0 := by decide +kernel
theorem dksX0_status_1 : cX0_status.data.toList.drop 24 = dktX0_status_1 := dk_seg dksX0_status_0 24 rfl rfl
theorem dksX0_status_2 : cX0_status.data.toList.drop 48 = dktX0_status_2 := dk_seg dksX0_status_1 24 rfl rfl
theorem dX0_status_0 : decode cX0_status 0 = .ok (.iload_n 1, 1) := dk_27 (dk_at dksX0_status_0 0 rfl rfl)
theorem dX0_status_1 : decode cX0_status 1 = .ok (.i2l, 1) := dk_133 (dk_at dksX0_status_0 1 rfl rfl)
theorem dX0_status_2 : decode cX0_status 2 = .ok (.ldc2_w 336, 3) := dk_20 1 80 (dk_at dksX0_status_0 2 rfl rfl)
theorem dX0_status_5 : decode cX0_status 5 = .ok (.ldc2_w 220, 3) := dk_20 0 220 (dk_at dksX0_status_0 5 rfl rfl)
theorem dX0_status_8 : decode cX0_status 8 = .ok (.invokestatic 16, 3) := dk_184 0 16 (dk_at dksX0_status_0 8 rfl rfl)
theorem dX0_status_11 : decode cX0_status 11 = .ok (.iconst 0, 1) := dk_3 (dk_at dksX0_status_0 11 rfl rfl)
theorem dX0_status_12 : decode cX0_status 12 = .ok (.invokestatic 87, 3) := dk_184 0 87 (dk_at dksX0_status_0 12 rfl rfl)
theorem dX0_status_15 : decode cX0_status 15 = .ok (.iload_n 1, 1) := dk_27 (dk_at dksX0_status_0 15 rfl rfl)
theorem dX0_status_16 : decode cX0_status 16 = .ok (.ifCond .lt 10, 3) := dk_155 0 10 (dk_at dksX0_status_0 16 rfl rfl)
theorem dX0_status_19 : decode cX0_status 19 = .ok (.aload_n 0, 1) := dk_42 (dk_at dksX0_status_0 19 rfl rfl)
theorem dX0_status_20 : decode cX0_status 20 = .ok (.getfield 75, 3) := dk_180 0 75 (dk_at dksX0_status_0 20 rfl rfl)
theorem dX0_status_23 : decode cX0_status 23 = .ok (.iload_n 1, 1) := dk_27 (dk_at dksX0_status_0 23 rfl rfl)
theorem dX0_status_24 : decode cX0_status 24 = .ok (.iaload, 1) := dk_46 (dk_at dksX0_status_1 0 rfl rfl)
theorem dX0_status_25 : decode cX0_status 25 = .ok (.ireturn, 1) := dk_172 (dk_at dksX0_status_1 1 rfl rfl)
theorem dX0_status_26 : decode cX0_status 26 = .ok (.iconst 0, 1) := dk_3 (dk_at dksX0_status_1 2 rfl rfl)
theorem dX0_status_27 : decode cX0_status 27 = .ok (.istore_n 2, 1) := dk_61 (dk_at dksX0_status_1 3 rfl rfl)
theorem dX0_status_28 : decode cX0_status 28 = .ok (.iconst 0, 1) := dk_3 (dk_at dksX0_status_1 4 rfl rfl)
theorem dX0_status_29 : decode cX0_status 29 = .ok (.istore_n 3, 1) := dk_62 (dk_at dksX0_status_1 5 rfl rfl)
theorem dX0_status_30 : decode cX0_status 30 = .ok (.iload_n 3, 1) := dk_29 (dk_at dksX0_status_1 6 rfl rfl)
theorem dX0_status_31 : decode cX0_status 31 = .ok (.bipush 7, 2) := dk_16 7 (dk_at dksX0_status_1 7 rfl rfl)
theorem dX0_status_33 : decode cX0_status 33 = .ok (.if_icmp .ge 18, 3) := dk_162 0 18 (dk_at dksX0_status_1 9 rfl rfl)
theorem dX0_status_36 : decode cX0_status 36 = .ok (.iload_n 2, 1) := dk_28 (dk_at dksX0_status_1 12 rfl rfl)
theorem dX0_status_37 : decode cX0_status 37 = .ok (.aload_n 0, 1) := dk_42 (dk_at dksX0_status_1 13 rfl rfl)
theorem dX0_status_38 : decode cX0_status 38 = .ok (.getfield 75, 3) := dk_180 0 75 (dk_at dksX0_status_1 14 rfl rfl)
theorem dX0_status_41 : decode cX0_status 41 = .ok (.iload_n 3, 1) := dk_29 (dk_at dksX0_status_1 17 rfl rfl)
theorem dX0_status_42 : decode cX0_status 42 = .ok (.iaload, 1) := dk_46 (dk_at dksX0_status_1 18 rfl rfl)
theorem dX0_status_43 : decode cX0_status 43 = .ok (.iadd, 1) := dk_96 (dk_at dksX0_status_1 19 rfl rfl)
theorem dX0_status_44 : decode cX0_status 44 = .ok (.istore_n 2, 1) := dk_61 (dk_at dksX0_status_1 20 rfl rfl)
theorem dX0_status_45 : decode cX0_status 45 = .ok (.iinc 3 1, 3) := dk_132 3 1 (dk_at dksX0_status_1 21 rfl rfl)
theorem dX0_status_48 : decode cX0_status 48 = .ok (.goto (-18), 3) := dk_167 255 238 (dk_at dksX0_status_2 0 rfl rfl)
theorem dX0_status_51 : decode cX0_status 51 = .ok (.iload_n 2, 1) := dk_28 (dk_at dksX0_status_2 3 rfl rfl)
theorem dX0_status_52 : decode cX0_status 52 = .ok (.ireturn, 1) := dk_172 (dk_at dksX0_status_2 4 rfl rfl)
theorem dX0_status_53 : decode cX0_status 53 = .ok (.astore_n 2, 1) := dk_77 (dk_at dksX0_status_2 5 rfl rfl)
theorem dX0_status_54 : decode cX0_status 54 = .ok (.aload_n 0, 1) := dk_42 (dk_at dksX0_status_2 6 rfl rfl)
theorem dX0_status_55 : decode cX0_status 55 = .ok (.aload_n 2, 1) := dk_44 (dk_at dksX0_status_2 7 rfl rfl)
theorem dX0_status_56 : decode cX0_status 56 = .ok (.invokevirtual 122, 3) := dk_182 0 122 (dk_at dksX0_status_2 8 rfl rfl)
theorem dX0_status_59 : decode cX0_status 59 = .ok (.ireturn, 1) := dk_172 (dk_at dksX0_status_2 11 rfl rfl)
theorem q83 : (Jvm.Cond.initialized "RumourBeds") ∈ lw_all := lw_g (lw_at lw_m1 1 rfl) rfl
theorem q106 : (Jvm.Cond.instantiable "RumourBeds" (9 : Nat)) ∈ lw_all := lw_g (lw_at lw_m1 24 rfl) rfl
theorem q108 : (Jvm.Cond.instanceMethod ({ cls := "RumourBeds", name := "<init>", desc := "()V" } : Jvm.MethodName)) ∈ lw_all := lw_g (lw_at lw_m1 26 rfl) rfl
theorem q109 : (Jvm.Cond.code ({ cls := "RumourBeds", name := "<init>", desc := "()V" } : Jvm.MethodName) prog_1_method_10_code (1 : Nat) (Option.none : Option Jvm.ClassFile.FieldType)) ∈ lw_all := lw_g (lw_at lw_m1 27 rfl) rfl
theorem q110 : (Jvm.Cond.methodLink "RumourBeds" (44 : Nat) ({ cls := "java/lang/Object", name := "<init>", desc := "()V" } : Jvm.MethodName)) ∈ lw_all := lw_g (lw_at lw_m1 28 rfl) rfl
theorem q113 : (Jvm.Cond.classLink "RumourBeds" (47 : Nat) "RumourBeds$Town") ∈ lw_all := lw_g (lw_at lw_m1 31 rfl) rfl
theorem q115 : (Jvm.Cond.methodLink "RumourBeds" (49 : Nat) ({ cls := "RumourBeds$Town", name := "<init>", desc := "()V" } : Jvm.MethodName)) ∈ lw_all := lw_g (lw_at lw_m1 33 rfl) rfl
theorem q120 : (Jvm.Cond.static ({ cls := "RumourBeds", name := "slots", desc := "(I)[LRumourBeds$Slot;" } : Jvm.MethodName)) ∈ lw_all := lw_g (lw_at lw_m1 38 rfl) rfl
theorem q121 : (Jvm.Cond.code ({ cls := "RumourBeds", name := "slots", desc := "(I)[LRumourBeds$Slot;" } : Jvm.MethodName) prog_1_method_4_code (3 : Nat) (Option.some (Jvm.ClassFile.FieldType.array (Jvm.ClassFile.FieldType.object "RumourBeds$Slot")))) ∈ lw_all := lw_g (lw_at lw_m1 39 rfl) rfl
theorem q122 : (Jvm.Cond.classLink "RumourBeds" (7 : Nat) "RumourBeds$Slot") ∈ lw_all := lw_g (lw_at lw_m1 40 rfl) rfl
theorem q125 : (Jvm.Cond.methodLinkNest "RumourBeds" (9 : Nat) ({ cls := "RumourBeds$Slot", name := "<init>", desc := "()V" } : Jvm.MethodName) "RumourBeds") ∈ lw_tbl := lw_at lw_m1 43 rfl
theorem q130 : (Jvm.Cond.fieldLink "RumourBeds" (304 : Nat) "RumourBeds$Slot" "held" "Ljava/lang/Object;") ∈ lw_all := lw_g (lw_at lw_m1 48 rfl) rfl
theorem q136 : (Jvm.Cond.fieldLink "RumourBeds" (200 : Nat) "RumourBeds$Town" "day" "I") ∈ lw_all := lw_g (lw_at lw_m1 54 rfl) rfl
theorem q138 : (Jvm.Cond.fieldLink "RumourBeds" (197 : Nat) "RumourBeds$Town" "true0" "I") ∈ lw_all := lw_g (lw_at lw_m1 56 rfl) rfl
theorem q141 : (Jvm.Cond.fieldLink "RumourBeds" (91 : Nat) "RumourBeds$Town" "rumours" "I") ∈ lw_all := lw_g (lw_at lw_m1 59 rfl) rfl
theorem q144 : (Jvm.Cond.fieldLink "RumourBeds" (206 : Nat) "RumourBeds$Town" "beds" "[I") ∈ lw_all := lw_g (lw_at lw_m1 62 rfl) rfl
theorem q147 : (Jvm.Cond.fieldLink "RumourBeds" (241 : Nat) "RumourBeds$Town" "larder" "[I") ∈ lw_all := lw_g (lw_at lw_m1 65 rfl) rfl
theorem q150 : (Jvm.Cond.fieldLink "RumourBeds" (253 : Nat) "RumourBeds$Town" "leans" "[I") ∈ lw_all := lw_g (lw_at lw_m1 68 rfl) rfl
theorem q170 : (Jvm.Cond.methodLink "RumourBeds" (67 : Nat) ({ cls := "RumourBeds", name := "slots", desc := "(I)[LRumourBeds$Slot;" } : Jvm.MethodName)) ∈ lw_all := lw_g (lw_at lw_m1 88 rfl) rfl
theorem q171 : (Jvm.Cond.fieldLink "RumourBeds" (50 : Nat) "RumourBeds" "town" "LRumourBeds$Town;") ∈ lw_all := lw_g (lw_at lw_m1 89 rfl) rfl
theorem q172 : (Jvm.Cond.fieldLink "RumourBeds" (54 : Nat) "RumourBeds" "kept" "LRumourBeds$Town;") ∈ lw_all := lw_g (lw_at lw_m1 90 rfl) rfl
theorem q173 : (Jvm.Cond.fieldLink "RumourBeds" (57 : Nat) "RumourBeds" "draft" "LRumourBeds$Town;") ∈ lw_all := lw_g (lw_at lw_m1 91 rfl) rfl
theorem q174 : (Jvm.Cond.fieldLink "RumourBeds" (60 : Nat) "RumourBeds" "trial" "LRumourBeds$Town;") ∈ lw_all := lw_g (lw_at lw_m1 92 rfl) rfl
theorem q175 : (Jvm.Cond.fieldLink "RumourBeds" (329 : Nat) "RumourBeds" "isKept" "Z") ∈ lw_all := lw_g (lw_at lw_m1 93 rfl) rfl
theorem q176 : (Jvm.Cond.fieldLink "RumourBeds" (63 : Nat) "RumourBeds" "tape" "[B") ∈ lw_all := lw_g (lw_at lw_m1 94 rfl) rfl
theorem q177 : (Jvm.Cond.fieldLink "RumourBeds" (265 : Nat) "RumourBeds" "taped" "I") ∈ lw_all := lw_g (lw_at lw_m1 95 rfl) rfl
theorem q178 : (Jvm.Cond.fieldLink "RumourBeds" (71 : Nat) "RumourBeds" "sheets" "[LRumourBeds$Slot;") ∈ lw_all := lw_g (lw_at lw_m1 96 rfl) rfl
theorem q179 : (Jvm.Cond.fieldLink "RumourBeds" (75 : Nat) "RumourBeds" "found" "[I") ∈ lw_all := lw_g (lw_at lw_m1 97 rfl) rfl
theorem q180 : (Jvm.Cond.laysFinal "RumourBeds" "RumourBeds" "town" "LRumourBeds$Town;") ∈ lw_all := lw_g (lw_at lw_m1 98 rfl) rfl
theorem q181 : (Jvm.Cond.soleField "RumourBeds" "town") ∈ lw_all := lw_g (lw_at lw_m1 99 rfl) rfl
theorem q182 : (Jvm.Cond.laysFinal "RumourBeds" "RumourBeds" "kept" "LRumourBeds$Town;") ∈ lw_all := lw_g (lw_at lw_m1 100 rfl) rfl
theorem q183 : (Jvm.Cond.soleField "RumourBeds" "kept") ∈ lw_all := lw_g (lw_at lw_m1 101 rfl) rfl
theorem q184 : (Jvm.Cond.laysFinal "RumourBeds" "RumourBeds" "draft" "LRumourBeds$Town;") ∈ lw_all := lw_g (lw_at lw_m1 102 rfl) rfl
theorem q185 : (Jvm.Cond.soleField "RumourBeds" "draft") ∈ lw_all := lw_g (lw_at lw_m1 103 rfl) rfl
theorem q186 : (Jvm.Cond.laysFinal "RumourBeds" "RumourBeds" "trial" "LRumourBeds$Town;") ∈ lw_all := lw_g (lw_at lw_m1 104 rfl) rfl
theorem q187 : (Jvm.Cond.soleField "RumourBeds" "trial") ∈ lw_all := lw_g (lw_at lw_m1 105 rfl) rfl
theorem q188 : (Jvm.Cond.lays "RumourBeds" "RumourBeds" "isKept" "Z") ∈ lw_all := lw_g (lw_at lw_m1 106 rfl) rfl
theorem q189 : (Jvm.Cond.soleField "RumourBeds" "isKept") ∈ lw_all := lw_g (lw_at lw_m1 107 rfl) rfl
theorem q190 : (Jvm.Cond.laysFinal "RumourBeds" "RumourBeds" "tape" "[B") ∈ lw_all := lw_g (lw_at lw_m1 108 rfl) rfl
theorem q191 : (Jvm.Cond.soleField "RumourBeds" "tape") ∈ lw_all := lw_g (lw_at lw_m1 109 rfl) rfl
theorem q192 : (Jvm.Cond.lays "RumourBeds" "RumourBeds" "taped" "I") ∈ lw_all := lw_g (lw_at lw_m1 110 rfl) rfl
theorem q193 : (Jvm.Cond.soleField "RumourBeds" "taped") ∈ lw_all := lw_g (lw_at lw_m1 111 rfl) rfl
theorem q194 : (Jvm.Cond.laysFinal "RumourBeds" "RumourBeds" "sheets" "[LRumourBeds$Slot;") ∈ lw_all := lw_g (lw_at lw_m1 112 rfl) rfl
theorem q195 : (Jvm.Cond.soleField "RumourBeds" "sheets") ∈ lw_all := lw_g (lw_at lw_m1 113 rfl) rfl
theorem q196 : (Jvm.Cond.laysFinal "RumourBeds" "RumourBeds" "found" "[I") ∈ lw_all := lw_g (lw_at lw_m1 114 rfl) rfl
theorem q197 : (Jvm.Cond.soleField "RumourBeds" "found") ∈ lw_all := lw_g (lw_at lw_m1 115 rfl) rfl
theorem q198 : (Jvm.Cond.superclass "RumourBeds" "java/lang/Object") ∈ lw_all := lw_g (lw_at lw_m1 116 rfl) rfl
theorem q201 : (Jvm.Cond.instanceMethod ({ cls := "RumourBeds", name := "house", desc := "(III)I" } : Jvm.MethodName)) ∈ lw_all := lw_g (lw_at lw_m1 119 rfl) rfl
theorem q202 : (Jvm.Cond.selects "RumourBeds" ({ cls := "RumourBeds", name := "house", desc := "(III)I" } : Jvm.MethodName) ({ cls := "RumourBeds", name := "house", desc := "(III)I" } : Jvm.MethodName)) ∈ lw_all := lw_g (lw_at lw_m1 120 rfl) rfl
theorem q203 : (Jvm.Cond.codeWith ({ cls := "RumourBeds", name := "house", desc := "(III)I" } : Jvm.MethodName) prog_1_method_16_code (5 : Nat) (Option.some Jvm.ClassFile.FieldType.int) [((0 : Nat), (85 : Nat), (86 : Nat), (1 : Nat))]) ∈ lw_all := lw_g (lw_at lw_m1 121 rfl) rfl
theorem q204 : (Jvm.Cond.classLink "RumourBeds" (1 : Nat) "RumourBeds$Finding") ∈ lw_all := lw_g (lw_at lw_m1 122 rfl) rfl
theorem q205 : (Jvm.Cond.methodLink "RumourBeds" (102 : Nat) ({ cls := "RumourBeds", name := "isHouse", desc := "(I)Z" } : Jvm.MethodName)) ∈ lw_all := lw_g (lw_at lw_m1 123 rfl) rfl
theorem q206 : (Jvm.Cond.static ({ cls := "RumourBeds", name := "isHouse", desc := "(I)Z" } : Jvm.MethodName)) ∈ lw_all := lw_g (lw_at lw_m1 124 rfl) rfl
theorem q207 : (Jvm.Cond.code ({ cls := "RumourBeds", name := "isHouse", desc := "(I)Z" } : Jvm.MethodName) prog_1_method_5_code (1 : Nat) (Option.some Jvm.ClassFile.FieldType.boolean)) ∈ lw_all := lw_g (lw_at lw_m1 125 rfl) rfl
theorem q208 : (Jvm.Cond.constantLong "RumourBeds" (14 : Nat) (7 : Int64)) ∈ lw_all := lw_g (lw_at lw_m1 126 rfl) rfl
theorem q209 : (Jvm.Cond.methodLink "RumourBeds" (16 : Nat) ({ cls := "RumourBeds", name := "in", desc := "(JJJ)Z" } : Jvm.MethodName)) ∈ lw_all := lw_g (lw_at lw_m1 127 rfl) rfl
theorem q210 : (Jvm.Cond.static ({ cls := "RumourBeds", name := "in", desc := "(JJJ)Z" } : Jvm.MethodName)) ∈ lw_all := lw_g (lw_at lw_m1 128 rfl) rfl
theorem q211 : (Jvm.Cond.code ({ cls := "RumourBeds", name := "in", desc := "(JJJ)Z" } : Jvm.MethodName) prog_1_method_2_code (6 : Nat) (Option.some Jvm.ClassFile.FieldType.boolean)) ∈ lw_all := lw_g (lw_at lw_m1 129 rfl) rfl
theorem q212 : (Jvm.Cond.constantLong "RumourBeds" (106 : Nat) (2 : Int64)) ∈ lw_all := lw_g (lw_at lw_m1 130 rfl) rfl
theorem q213 : (Jvm.Cond.constantLong "RumourBeds" (108 : Nat) (3 : Int64)) ∈ lw_all := lw_g (lw_at lw_m1 131 rfl) rfl
theorem q214 : (Jvm.Cond.constantLong "RumourBeds" (110 : Nat) (999 : Int64)) ∈ lw_all := lw_g (lw_at lw_m1 132 rfl) rfl
theorem q215 : (Jvm.Cond.constantLong "RumourBeds" (112 : Nat) (9 : Int64)) ∈ lw_all := lw_g (lw_at lw_m1 133 rfl) rfl
theorem q216 : (Jvm.Cond.methodLink "RumourBeds" (114 : Nat) ({ cls := "RumourBeds", name := "isTold", desc := "(Z)V" } : Jvm.MethodName)) ∈ lw_all := lw_g (lw_at lw_m1 134 rfl) rfl
theorem q217 : (Jvm.Cond.static ({ cls := "RumourBeds", name := "isTold", desc := "(Z)V" } : Jvm.MethodName)) ∈ lw_all := lw_g (lw_at lw_m1 135 rfl) rfl
theorem q218 : (Jvm.Cond.code ({ cls := "RumourBeds", name := "isTold", desc := "(Z)V" } : Jvm.MethodName) prog_1_method_14_code (1 : Nat) (Option.none : Option Jvm.ClassFile.FieldType)) ∈ lw_all := lw_g (lw_at lw_m1 136 rfl) rfl
theorem q219 : (Jvm.Cond.methodLink "RumourBeds" (87 : Nat) ({ cls := "RumourBeds", name := "need", desc := "(ZI)V" } : Jvm.MethodName)) ∈ lw_all := lw_g (lw_at lw_m1 137 rfl) rfl
theorem q220 : (Jvm.Cond.static ({ cls := "RumourBeds", name := "need", desc := "(ZI)V" } : Jvm.MethodName)) ∈ lw_all := lw_g (lw_at lw_m1 138 rfl) rfl
theorem q221 : (Jvm.Cond.code ({ cls := "RumourBeds", name := "need", desc := "(ZI)V" } : Jvm.MethodName) prog_1_method_1_code (2 : Nat) (Option.none : Option Jvm.ClassFile.FieldType)) ∈ lw_all := lw_g (lw_at lw_m1 139 rfl) rfl
theorem q259 : (Jvm.Cond.methodLink "RumourBeds" (3 : Nat) ({ cls := "RumourBeds$Finding", name := "<init>", desc := "(I)V" } : Jvm.MethodName)) ∈ lw_all := lw_g (lw_at lw_m1 177 rfl) rfl
theorem q269 : (Jvm.Cond.fieldLink "RumourBeds" (79 : Nat) "RumourBeds$Finding" "which" "I") ∈ lw_all := lw_g (lw_at lw_m1 187 rfl) rfl
theorem q285 : (Jvm.Cond.methodLink "RumourBeds" (118 : Nat) ({ cls := "RumourBeds$Town", name := "rowOf", desc := "(I)[I" } : Jvm.MethodName)) ∈ lw_all := lw_g (lw_at lw_m1 203 rfl) rfl
theorem q289 : (Jvm.Cond.methodLink "RumourBeds" (122 : Nat) ({ cls := "RumourBeds", name := "finds", desc := "(LRumourBeds$Finding;)I" } : Jvm.MethodName)) ∈ lw_all := lw_g (lw_at lw_m1 207 rfl) rfl
theorem q290 : (Jvm.Cond.privateMethod ({ cls := "RumourBeds", name := "finds", desc := "(LRumourBeds$Finding;)I" } : Jvm.MethodName)) ∈ lw_tbl := lw_at lw_m1 208 rfl
theorem q291 : (Jvm.Cond.instanceMethod ({ cls := "RumourBeds", name := "finds", desc := "(LRumourBeds$Finding;)I" } : Jvm.MethodName)) ∈ lw_all := lw_g (lw_at lw_m1 209 rfl) rfl
theorem q292 : (Jvm.Cond.code ({ cls := "RumourBeds", name := "finds", desc := "(LRumourBeds$Finding;)I" } : Jvm.MethodName) prog_1_method_11_code (2 : Nat) (Option.some Jvm.ClassFile.FieldType.int)) ∈ lw_all := lw_g (lw_at lw_m1 210 rfl) rfl
theorem q293 : (Jvm.Cond.methodLink "RumourBeds" (83 : Nat) ({ cls := "RumourBeds$Finding", name := "answer", desc := "()I" } : Jvm.MethodName)) ∈ lw_all := lw_g (lw_at lw_m1 211 rfl) rfl
theorem q299 : (Jvm.Cond.instanceMethod ({ cls := "RumourBeds", name := "houseOf", desc := "(II)I" } : Jvm.MethodName)) ∈ lw_all := lw_g (lw_at lw_m1 217 rfl) rfl
theorem q300 : (Jvm.Cond.selects "RumourBeds" ({ cls := "RumourBeds", name := "houseOf", desc := "(II)I" } : Jvm.MethodName) ({ cls := "RumourBeds", name := "houseOf", desc := "(II)I" } : Jvm.MethodName)) ∈ lw_all := lw_g (lw_at lw_m1 218 rfl) rfl
theorem q301 : (Jvm.Cond.codeWith ({ cls := "RumourBeds", name := "houseOf", desc := "(II)I" } : Jvm.MethodName) prog_1_method_18_code (4 : Nat) (Option.some Jvm.ClassFile.FieldType.int) [((0 : Nat), (64 : Nat), (91 : Nat), (1 : Nat)), ((65 : Nat), (70 : Nat), (91 : Nat), (1 : Nat)), ((71 : Nat), (79 : Nat), (91 : Nat), (1 : Nat)), ((80 : Nat), (90 : Nat), (91 : Nat), (1 : Nat))]) ∈ lw_all := lw_g (lw_at lw_m1 219 rfl) rfl
theorem q302 : (Jvm.Cond.constantLong "RumourBeds" (129 : Nat) (5 : Int64)) ∈ lw_all := lw_g (lw_at lw_m1 220 rfl) rfl
theorem q303 : (Jvm.Cond.methodLink "RumourBeds" (131 : Nat) ({ cls := "RumourBeds$Town", name := "inside", desc := "(I)I" } : Jvm.MethodName)) ∈ lw_all := lw_g (lw_at lw_m1 221 rfl) rfl
theorem q312 : (Jvm.Cond.methodLink "RumourBeds" (135 : Nat) ({ cls := "RumourBeds", name := "eventsIn", desc := "(I)I" } : Jvm.MethodName)) ∈ lw_all := lw_g (lw_at lw_m1 230 rfl) rfl
theorem q313 : (Jvm.Cond.privateMethod ({ cls := "RumourBeds", name := "eventsIn", desc := "(I)I" } : Jvm.MethodName)) ∈ lw_tbl := lw_at lw_m1 231 rfl
theorem q314 : (Jvm.Cond.instanceMethod ({ cls := "RumourBeds", name := "eventsIn", desc := "(I)I" } : Jvm.MethodName)) ∈ lw_all := lw_g (lw_at lw_m1 232 rfl) rfl
theorem q315 : (Jvm.Cond.code ({ cls := "RumourBeds", name := "eventsIn", desc := "(I)I" } : Jvm.MethodName) prog_1_method_17_code (4 : Nat) (Option.some Jvm.ClassFile.FieldType.int)) ∈ lw_all := lw_g (lw_at lw_m1 233 rfl) rfl
theorem q316 : (Jvm.Cond.methodLink "RumourBeds" (94 : Nat) ({ cls := "RumourBeds$Town", name := "rumour", desc := "(I)LRumourBeds$Rumour;" } : Jvm.MethodName)) ∈ lw_all := lw_g (lw_at lw_m1 234 rfl) rfl
theorem q317 : (Jvm.Cond.methodLink "RumourBeds" (138 : Nat) ({ cls := "RumourBeds$Town", name := "eaten", desc := "(I)I" } : Jvm.MethodName)) ∈ lw_all := lw_g (lw_at lw_m1 235 rfl) rfl
theorem q353 : (Jvm.Cond.instanceMethod ({ cls := "RumourBeds", name := "rumour", desc := "(II)I" } : Jvm.MethodName)) ∈ lw_all := lw_g (lw_at lw_m2 31 rfl) rfl
theorem q354 : (Jvm.Cond.selects "RumourBeds" ({ cls := "RumourBeds", name := "rumour", desc := "(II)I" } : Jvm.MethodName) ({ cls := "RumourBeds", name := "rumour", desc := "(II)I" } : Jvm.MethodName)) ∈ lw_all := lw_g (lw_at lw_m2 32 rfl) rfl
theorem q355 : (Jvm.Cond.codeWith ({ cls := "RumourBeds", name := "rumour", desc := "(II)I" } : Jvm.MethodName) prog_1_method_19_code (4 : Nat) (Option.some Jvm.ClassFile.FieldType.int) [((0 : Nat), (69 : Nat), (70 : Nat), (1 : Nat))]) ∈ lw_all := lw_g (lw_at lw_m2 33 rfl) rfl
theorem q356 : (Jvm.Cond.methodLink "RumourBeds" (141 : Nat) ({ cls := "RumourBeds", name := "isEvent", desc := "(I)Z" } : Jvm.MethodName)) ∈ lw_all := lw_g (lw_at lw_m2 34 rfl) rfl
theorem q357 : (Jvm.Cond.static ({ cls := "RumourBeds", name := "isEvent", desc := "(I)Z" } : Jvm.MethodName)) ∈ lw_all := lw_g (lw_at lw_m2 35 rfl) rfl
theorem q358 : (Jvm.Cond.code ({ cls := "RumourBeds", name := "isEvent", desc := "(I)Z" } : Jvm.MethodName) prog_1_method_6_code (1 : Nat) (Option.some Jvm.ClassFile.FieldType.boolean)) ∈ lw_all := lw_g (lw_at lw_m2 36 rfl) rfl
theorem q359 : (Jvm.Cond.constantLong "RumourBeds" (20 : Nat) (15 : Int64)) ∈ lw_all := lw_g (lw_at lw_m2 37 rfl) rfl
theorem q360 : (Jvm.Cond.methodLink "RumourBeds" (144 : Nat) ({ cls := "RumourBeds$Town", name := "comes", desc := "(III)LRumourBeds$Rumour;" } : Jvm.MethodName)) ∈ lw_all := lw_g (lw_at lw_m2 38 rfl) rfl
theorem q369 : (Jvm.Cond.static ({ cls := "RumourBeds", name := "rumourFor", desc := "(I)LRumourBeds$Rumour;" } : Jvm.MethodName)) ∈ lw_all := lw_g (lw_at lw_m2 47 rfl) rfl
theorem q370 : (Jvm.Cond.code ({ cls := "RumourBeds", name := "rumourFor", desc := "(I)LRumourBeds$Rumour;" } : Jvm.MethodName) prog_1_method_9_code (1 : Nat) (Option.some (Jvm.ClassFile.FieldType.object "RumourBeds$Rumour"))) ∈ lw_all := lw_g (lw_at lw_m2 48 rfl) rfl
theorem q371 : (Jvm.Cond.classLink "RumourBeds" (26 : Nat) "RumourBeds$Rumour") ∈ lw_all := lw_g (lw_at lw_m2 49 rfl) rfl
theorem q373 : (Jvm.Cond.methodLinkNest "RumourBeds" (28 : Nat) ({ cls := "RumourBeds$Rumour", name := "<init>", desc := "()V" } : Jvm.MethodName) "RumourBeds") ∈ lw_tbl := lw_at lw_m2 51 rfl
theorem q384 : (Jvm.Cond.fieldLink "RumourBeds" (126 : Nat) "RumourBeds$Rumour" "part" "[I") ∈ lw_all := lw_g (lw_at lw_m2 62 rfl) rfl
theorem q388 : (Jvm.Cond.classLink "RumourBeds" (29 : Nat) "RumourBeds$Big") ∈ lw_all := lw_g (lw_at lw_m2 66 rfl) rfl
theorem q390 : (Jvm.Cond.methodLinkNest "RumourBeds" (31 : Nat) ({ cls := "RumourBeds$Big", name := "<init>", desc := "()V" } : Jvm.MethodName) "RumourBeds") ∈ lw_tbl := lw_at lw_m2 68 rfl
theorem q395 : (Jvm.Cond.classLink "RumourBeds" (32 : Nat) "RumourBeds$Dull") ∈ lw_all := lw_g (lw_at lw_m2 73 rfl) rfl
theorem q397 : (Jvm.Cond.methodLinkNest "RumourBeds" (34 : Nat) ({ cls := "RumourBeds$Dull", name := "<init>", desc := "()V" } : Jvm.MethodName) "RumourBeds") ∈ lw_tbl := lw_at lw_m2 75 rfl
theorem q403 : (Jvm.Cond.classLink "RumourBeds" (35 : Nat) "RumourBeds$Shy") ∈ lw_all := lw_g (lw_at lw_m2 81 rfl) rfl
theorem q405 : (Jvm.Cond.methodLinkNest "RumourBeds" (37 : Nat) ({ cls := "RumourBeds$Shy", name := "<init>", desc := "()V" } : Jvm.MethodName) "RumourBeds") ∈ lw_tbl := lw_at lw_m2 83 rfl
theorem q410 : (Jvm.Cond.classLink "RumourBeds" (38 : Nat) "RumourBeds$Royal") ∈ lw_all := lw_g (lw_at lw_m2 88 rfl) rfl
theorem q412 : (Jvm.Cond.methodLinkNest "RumourBeds" (40 : Nat) ({ cls := "RumourBeds$Royal", name := "<init>", desc := "()V" } : Jvm.MethodName) "RumourBeds") ∈ lw_tbl := lw_at lw_m2 90 rfl
theorem q417 : (Jvm.Cond.classLink "RumourBeds" (41 : Nat) "RumourBeds$Wells") ∈ lw_all := lw_g (lw_at lw_m2 95 rfl) rfl
theorem q419 : (Jvm.Cond.methodLinkNest "RumourBeds" (43 : Nat) ({ cls := "RumourBeds$Wells", name := "<init>", desc := "()V" } : Jvm.MethodName) "RumourBeds") ∈ lw_tbl := lw_at lw_m2 97 rfl
theorem q425 : (Jvm.Cond.instanceMethod ({ cls := "RumourBeds", name := "of", desc := "(II)I" } : Jvm.MethodName)) ∈ lw_all := lw_g (lw_at lw_m2 103 rfl) rfl
theorem q426 : (Jvm.Cond.selects "RumourBeds" ({ cls := "RumourBeds", name := "of", desc := "(II)I" } : Jvm.MethodName) ({ cls := "RumourBeds", name := "of", desc := "(II)I" } : Jvm.MethodName)) ∈ lw_all := lw_g (lw_at lw_m2 104 rfl) rfl
theorem q427 : (Jvm.Cond.codeWith ({ cls := "RumourBeds", name := "of", desc := "(II)I" } : Jvm.MethodName) prog_1_method_20_code (4 : Nat) (Option.some Jvm.ClassFile.FieldType.int) [((0 : Nat), (35 : Nat), (77 : Nat), (1 : Nat)), ((36 : Nat), (76 : Nat), (77 : Nat), (1 : Nat))]) ∈ lw_all := lw_g (lw_at lw_m2 105 rfl) rfl
theorem q428 : (Jvm.Cond.methodLink "RumourBeds" (148 : Nat) ({ cls := "RumourBeds", name := "rumourAt", desc := "(I)LRumourBeds$Rumour;" } : Jvm.MethodName)) ∈ lw_all := lw_g (lw_at lw_m2 106 rfl) rfl
theorem q429 : (Jvm.Cond.privateMethod ({ cls := "RumourBeds", name := "rumourAt", desc := "(I)LRumourBeds$Rumour;" } : Jvm.MethodName)) ∈ lw_tbl := lw_at lw_m2 107 rfl
theorem q430 : (Jvm.Cond.instanceMethod ({ cls := "RumourBeds", name := "rumourAt", desc := "(I)LRumourBeds$Rumour;" } : Jvm.MethodName)) ∈ lw_all := lw_g (lw_at lw_m2 108 rfl) rfl
theorem q431 : (Jvm.Cond.code ({ cls := "RumourBeds", name := "rumourAt", desc := "(I)LRumourBeds$Rumour;" } : Jvm.MethodName) prog_1_method_13_code (2 : Nat) (Option.some (Jvm.ClassFile.FieldType.object "RumourBeds$Rumour"))) ∈ lw_all := lw_g (lw_at lw_m2 109 rfl) rfl
theorem q432 : (Jvm.Cond.methodLink "RumourBeds" (151 : Nat) ({ cls := "RumourBeds$Rumour", name := "kind", desc := "()I" } : Jvm.MethodName)) ∈ lw_all := lw_g (lw_at lw_m2 110 rfl) rfl
theorem q457 : (Jvm.Cond.methodLink "RumourBeds" (154 : Nat) ({ cls := "RumourBeds$Rumour", name := "eats", desc := "()I" } : Jvm.MethodName)) ∈ lw_all := lw_g (lw_at lw_m2 135 rfl) rfl
theorem q480 : (Jvm.Cond.methodLink "RumourBeds" (160 : Nat) ({ cls := "RumourBeds$Rumour", name := "grows", desc := "()I" } : Jvm.MethodName)) ∈ lw_all := lw_g (lw_at lw_m2 158 rfl) rfl
theorem q499 : (Jvm.Cond.instanceMethod ({ cls := "RumourBeds", name := "set", desc := "(III)I" } : Jvm.MethodName)) ∈ lw_all := lw_g (lw_at lw_m2 177 rfl) rfl
theorem q500 : (Jvm.Cond.selects "RumourBeds" ({ cls := "RumourBeds", name := "set", desc := "(III)I" } : Jvm.MethodName) ({ cls := "RumourBeds", name := "set", desc := "(III)I" } : Jvm.MethodName)) ∈ lw_all := lw_g (lw_at lw_m2 178 rfl) rfl
theorem q501 : (Jvm.Cond.codeWith ({ cls := "RumourBeds", name := "set", desc := "(III)I" } : Jvm.MethodName) prog_1_method_21_code (6 : Nat) (Option.some Jvm.ClassFile.FieldType.int) [((0 : Nat), (84 : Nat), (85 : Nat), (1 : Nat))]) ∈ lw_all := lw_g (lw_at lw_m2 179 rfl) rfl
theorem q502 : (Jvm.Cond.constantLong "RumourBeds" (163 : Nat) (99 : Int64)) ∈ lw_all := lw_g (lw_at lw_m2 180 rfl) rfl
theorem q504 : (Jvm.Cond.instanceMethod ({ cls := "RumourBeds", name := "turn", desc := "(II)I" } : Jvm.MethodName)) ∈ lw_all := lw_g (lw_at lw_m2 182 rfl) rfl
theorem q505 : (Jvm.Cond.selects "RumourBeds" ({ cls := "RumourBeds", name := "turn", desc := "(II)I" } : Jvm.MethodName) ({ cls := "RumourBeds", name := "turn", desc := "(II)I" } : Jvm.MethodName)) ∈ lw_all := lw_g (lw_at lw_m2 183 rfl) rfl
theorem q506 : (Jvm.Cond.codeWith ({ cls := "RumourBeds", name := "turn", desc := "(II)I" } : Jvm.MethodName) prog_1_method_22_code (4 : Nat) (Option.some Jvm.ClassFile.FieldType.int) [((0 : Nat), (31 : Nat), (32 : Nat), (1 : Nat))]) ∈ lw_all := lw_g (lw_at lw_m2 184 rfl) rfl
theorem q507 : (Jvm.Cond.methodLink "RumourBeds" (165 : Nat) ({ cls := "RumourBeds$Town", name := "turns", desc := "(II)V" } : Jvm.MethodName)) ∈ lw_all := lw_g (lw_at lw_m2 185 rfl) rfl
theorem q525 : (Jvm.Cond.instanceMethod ({ cls := "RumourBeds", name := "as", desc := "(II)I" } : Jvm.MethodName)) ∈ lw_all := lw_g (lw_at lw_m2 203 rfl) rfl
theorem q526 : (Jvm.Cond.selects "RumourBeds" ({ cls := "RumourBeds", name := "as", desc := "(II)I" } : Jvm.MethodName) ({ cls := "RumourBeds", name := "as", desc := "(II)I" } : Jvm.MethodName)) ∈ lw_all := lw_g (lw_at lw_m2 204 rfl) rfl
theorem q527 : (Jvm.Cond.codeWith ({ cls := "RumourBeds", name := "as", desc := "(II)I" } : Jvm.MethodName) prog_1_method_23_code (4 : Nat) (Option.some Jvm.ClassFile.FieldType.int) [((0 : Nat), (33 : Nat), (34 : Nat), (1 : Nat))]) ∈ lw_all := lw_g (lw_at lw_m2 205 rfl) rfl
theorem q528 : (Jvm.Cond.methodLink "RumourBeds" (169 : Nat) ({ cls := "RumourBeds$Rumour", name := "is", desc := "(I)Z" } : Jvm.MethodName)) ∈ lw_all := lw_g (lw_at lw_m2 206 rfl) rfl
theorem q546 : (Jvm.Cond.instanceMethod ({ cls := "RumourBeds", name := "takes", desc := "(II)I" } : Jvm.MethodName)) ∈ lw_all := lw_g (lw_at lw_m2 224 rfl) rfl
theorem q547 : (Jvm.Cond.selects "RumourBeds" ({ cls := "RumourBeds", name := "takes", desc := "(II)I" } : Jvm.MethodName) ({ cls := "RumourBeds", name := "takes", desc := "(II)I" } : Jvm.MethodName)) ∈ lw_all := lw_g (lw_at lw_m2 225 rfl) rfl
theorem q548 : (Jvm.Cond.codeWith ({ cls := "RumourBeds", name := "takes", desc := "(II)I" } : Jvm.MethodName) prog_1_method_24_code (4 : Nat) (Option.some Jvm.ClassFile.FieldType.int) [((0 : Nat), (28 : Nat), (29 : Nat), (1 : Nat))]) ∈ lw_all := lw_g (lw_at lw_m2 226 rfl) rfl
theorem q549 : (Jvm.Cond.methodLink "RumourBeds" (172 : Nat) ({ cls := "RumourBeds$Town", name := "takes", desc := "(ILRumourBeds$Rumour;)Z" } : Jvm.MethodName)) ∈ lw_all := lw_g (lw_at lw_m2 227 rfl) rfl
theorem q565 : (Jvm.Cond.instanceMethod ({ cls := "RumourBeds", name := "comeIn", desc := "(I)I" } : Jvm.MethodName)) ∈ lw_all := lw_g (lw_at lw_m3 3 rfl) rfl
theorem q566 : (Jvm.Cond.selects "RumourBeds" ({ cls := "RumourBeds", name := "comeIn", desc := "(I)I" } : Jvm.MethodName) ({ cls := "RumourBeds", name := "comeIn", desc := "(I)I" } : Jvm.MethodName)) ∈ lw_all := lw_g (lw_at lw_m3 4 rfl) rfl
theorem q567 : (Jvm.Cond.codeWith ({ cls := "RumourBeds", name := "comeIn", desc := "(I)I" } : Jvm.MethodName) prog_1_method_25_code (3 : Nat) (Option.some Jvm.ClassFile.FieldType.int) [((0 : Nat), (52 : Nat), (53 : Nat), (1 : Nat))]) ∈ lw_all := lw_g (lw_at lw_m3 5 rfl) rfl
theorem q568 : (Jvm.Cond.methodLink "RumourBeds" (176 : Nat) ({ cls := "RumourBeds$Rumour", name := "isIn", desc := "()Z" } : Jvm.MethodName)) ∈ lw_all := lw_g (lw_at lw_m3 6 rfl) rfl
theorem q578 : (Jvm.Cond.methodLink "RumourBeds" (180 : Nat) ({ cls := "RumourBeds$Town", name := "isTrue", desc := "(I)Z" } : Jvm.MethodName)) ∈ lw_all := lw_g (lw_at lw_m3 16 rfl) rfl
theorem q583 : (Jvm.Cond.static ({ cls := "RumourBeds", name := "has", desc := "(II)Z" } : Jvm.MethodName)) ∈ lw_all := lw_g (lw_at lw_m3 21 rfl) rfl
theorem q584 : (Jvm.Cond.code ({ cls := "RumourBeds", name := "has", desc := "(II)Z" } : Jvm.MethodName) prog_1_method_3_code (2 : Nat) (Option.some Jvm.ClassFile.FieldType.boolean)) ∈ lw_all := lw_g (lw_at lw_m3 22 rfl) rfl
theorem q585 : (Jvm.Cond.methodLink "RumourBeds" (183 : Nat) ({ cls := "RumourBeds$Town", name := "comesIn", desc := "(LRumourBeds$Rumour;)V" } : Jvm.MethodName)) ∈ lw_all := lw_g (lw_at lw_m3 23 rfl) rfl
theorem q596 : (Jvm.Cond.instanceMethod ({ cls := "RumourBeds", name := "improve", desc := "(II)I" } : Jvm.MethodName)) ∈ lw_all := lw_g (lw_at lw_m3 34 rfl) rfl
theorem q597 : (Jvm.Cond.selects "RumourBeds" ({ cls := "RumourBeds", name := "improve", desc := "(II)I" } : Jvm.MethodName) ({ cls := "RumourBeds", name := "improve", desc := "(II)I" } : Jvm.MethodName)) ∈ lw_all := lw_g (lw_at lw_m3 35 rfl) rfl
theorem q598 : (Jvm.Cond.codeWith ({ cls := "RumourBeds", name := "improve", desc := "(II)I" } : Jvm.MethodName) prog_1_method_27_code (4 : Nat) (Option.some Jvm.ClassFile.FieldType.int) [((0 : Nat), (39 : Nat), (40 : Nat), (1 : Nat))]) ∈ lw_all := lw_g (lw_at lw_m3 36 rfl) rfl
theorem q599 : (Jvm.Cond.constantLong "RumourBeds" (24 : Nat) (20 : Int64)) ∈ lw_all := lw_g (lw_at lw_m3 37 rfl) rfl
theorem q600 : (Jvm.Cond.methodLink "RumourBeds" (187 : Nat) ({ cls := "RumourBeds", name := "lodger", desc := "(I)LRumourBeds$Rumour;" } : Jvm.MethodName)) ∈ lw_all := lw_g (lw_at lw_m3 38 rfl) rfl
theorem q601 : (Jvm.Cond.privateMethod ({ cls := "RumourBeds", name := "lodger", desc := "(I)LRumourBeds$Rumour;" } : Jvm.MethodName)) ∈ lw_tbl := lw_at lw_m3 39 rfl
theorem q602 : (Jvm.Cond.instanceMethod ({ cls := "RumourBeds", name := "lodger", desc := "(I)LRumourBeds$Rumour;" } : Jvm.MethodName)) ∈ lw_all := lw_g (lw_at lw_m3 40 rfl) rfl
theorem q603 : (Jvm.Cond.code ({ cls := "RumourBeds", name := "lodger", desc := "(I)LRumourBeds$Rumour;" } : Jvm.MethodName) prog_1_method_26_code (3 : Nat) (Option.some (Jvm.ClassFile.FieldType.object "RumourBeds$Rumour"))) ∈ lw_all := lw_g (lw_at lw_m3 41 rfl) rfl
theorem q604 : (Jvm.Cond.methodLink "RumourBeds" (190 : Nat) ({ cls := "RumourBeds$Town", name := "improves", desc := "(LRumourBeds$Rumour;I)V" } : Jvm.MethodName)) ∈ lw_all := lw_g (lw_at lw_m3 42 rfl) rfl
theorem q622 : (Jvm.Cond.instanceMethod ({ cls := "RumourBeds", name := "comesTrue", desc := "(I)I" } : Jvm.MethodName)) ∈ lw_all := lw_g (lw_at lw_m3 60 rfl) rfl
theorem q623 : (Jvm.Cond.selects "RumourBeds" ({ cls := "RumourBeds", name := "comesTrue", desc := "(I)I" } : Jvm.MethodName) ({ cls := "RumourBeds", name := "comesTrue", desc := "(I)I" } : Jvm.MethodName)) ∈ lw_all := lw_g (lw_at lw_m3 61 rfl) rfl
theorem q624 : (Jvm.Cond.codeWith ({ cls := "RumourBeds", name := "comesTrue", desc := "(I)I" } : Jvm.MethodName) prog_1_method_28_code (3 : Nat) (Option.some Jvm.ClassFile.FieldType.int) [((0 : Nat), (15 : Nat), (16 : Nat), (1 : Nat))]) ∈ lw_all := lw_g (lw_at lw_m3 62 rfl) rfl
theorem q625 : (Jvm.Cond.methodLink "RumourBeds" (194 : Nat) ({ cls := "RumourBeds$Town", name := "comesTrue", desc := "(I)I" } : Jvm.MethodName)) ∈ lw_all := lw_g (lw_at lw_m3 63 rfl) rfl
theorem q631 : (Jvm.Cond.instanceMethod ({ cls := "RumourBeds", name := "forget", desc := "(I)I" } : Jvm.MethodName)) ∈ lw_all := lw_g (lw_at lw_m3 69 rfl) rfl
theorem q632 : (Jvm.Cond.selects "RumourBeds" ({ cls := "RumourBeds", name := "forget", desc := "(I)I" } : Jvm.MethodName) ({ cls := "RumourBeds", name := "forget", desc := "(I)I" } : Jvm.MethodName)) ∈ lw_all := lw_g (lw_at lw_m3 70 rfl) rfl
theorem q633 : (Jvm.Cond.codeWith ({ cls := "RumourBeds", name := "forget", desc := "(I)I" } : Jvm.MethodName) prog_1_method_29_code (3 : Nat) (Option.some Jvm.ClassFile.FieldType.int) [((0 : Nat), (42 : Nat), (43 : Nat), (1 : Nat))]) ∈ lw_all := lw_g (lw_at lw_m3 71 rfl) rfl
theorem q635 : (Jvm.Cond.instanceMethod ({ cls := "RumourBeds", name := "days", desc := "(I)I" } : Jvm.MethodName)) ∈ lw_all := lw_g (lw_at lw_m3 73 rfl) rfl
theorem q636 : (Jvm.Cond.selects "RumourBeds" ({ cls := "RumourBeds", name := "days", desc := "(I)I" } : Jvm.MethodName) ({ cls := "RumourBeds", name := "days", desc := "(I)I" } : Jvm.MethodName)) ∈ lw_all := lw_g (lw_at lw_m3 74 rfl) rfl
theorem q637 : (Jvm.Cond.codeWith ({ cls := "RumourBeds", name := "days", desc := "(I)I" } : Jvm.MethodName) prog_1_method_30_code (3 : Nat) (Option.some Jvm.ClassFile.FieldType.int) [((0 : Nat), (51 : Nat), (52 : Nat), (1 : Nat))]) ∈ lw_all := lw_g (lw_at lw_m3 75 rfl) rfl
theorem q638 : (Jvm.Cond.constantLong "RumourBeds" (22 : Nat) (60 : Int64)) ∈ lw_all := lw_g (lw_at lw_m3 76 rfl) rfl
theorem q639 : (Jvm.Cond.methodLink "RumourBeds" (203 : Nat) ({ cls := "RumourBeds$Town", name := "days", desc := "(I)V" } : Jvm.MethodName)) ∈ lw_all := lw_g (lw_at lw_m3 77 rfl) rfl
theorem q673 : (Jvm.Cond.instanceMethod ({ cls := "RumourBeds", name := "now", desc := "(I)I" } : Jvm.MethodName)) ∈ lw_all := lw_g (lw_at lw_m3 111 rfl) rfl
theorem q674 : (Jvm.Cond.selects "RumourBeds" ({ cls := "RumourBeds", name := "now", desc := "(I)I" } : Jvm.MethodName) ({ cls := "RumourBeds", name := "now", desc := "(I)I" } : Jvm.MethodName)) ∈ lw_all := lw_g (lw_at lw_m3 112 rfl) rfl
theorem q675 : (Jvm.Cond.codeWith ({ cls := "RumourBeds", name := "now", desc := "(I)I" } : Jvm.MethodName) prog_1_method_34_code (3 : Nat) (Option.some Jvm.ClassFile.FieldType.int) [((0 : Nat), (59 : Nat), (100 : Nat), (1 : Nat)), ((60 : Nat), (67 : Nat), (100 : Nat), (1 : Nat)), ((68 : Nat), (76 : Nat), (100 : Nat), (1 : Nat)), ((77 : Nat), (81 : Nat), (100 : Nat), (1 : Nat)), ((82 : Nat), (89 : Nat), (100 : Nat), (1 : Nat)), ((90 : Nat), (94 : Nat), (100 : Nat), (1 : Nat)), ((95 : Nat), (99 : Nat), (100 : Nat), (1 : Nat))]) ∈ lw_all := lw_g (lw_at lw_m3 113 rfl) rfl
theorem q676 : (Jvm.Cond.constantLong "RumourBeds" (220 : Nat) (6 : Int64)) ∈ lw_all := lw_g (lw_at lw_m3 114 rfl) rfl
theorem q677 : (Jvm.Cond.methodLink "RumourBeds" (222 : Nat) ({ cls := "RumourBeds", name := "bulks", desc := "()I" } : Jvm.MethodName)) ∈ lw_all := lw_g (lw_at lw_m3 115 rfl) rfl
theorem q678 : (Jvm.Cond.privateMethod ({ cls := "RumourBeds", name := "bulks", desc := "()I" } : Jvm.MethodName)) ∈ lw_tbl := lw_at lw_m3 116 rfl
theorem q679 : (Jvm.Cond.instanceMethod ({ cls := "RumourBeds", name := "bulks", desc := "()I" } : Jvm.MethodName)) ∈ lw_all := lw_g (lw_at lw_m3 117 rfl) rfl
theorem q680 : (Jvm.Cond.code ({ cls := "RumourBeds", name := "bulks", desc := "()I" } : Jvm.MethodName) prog_1_method_31_code (3 : Nat) (Option.some Jvm.ClassFile.FieldType.int)) ∈ lw_all := lw_g (lw_at lw_m3 118 rfl) rfl
theorem q681 : (Jvm.Cond.methodLink "RumourBeds" (225 : Nat) ({ cls := "RumourBeds$Town", name := "larders", desc := "()I" } : Jvm.MethodName)) ∈ lw_all := lw_g (lw_at lw_m3 119 rfl) rfl
theorem q685 : (Jvm.Cond.methodLink "RumourBeds" (228 : Nat) ({ cls := "RumourBeds", name := "freeBeds", desc := "()I" } : Jvm.MethodName)) ∈ lw_all := lw_g (lw_at lw_m3 123 rfl) rfl
theorem q686 : (Jvm.Cond.privateMethod ({ cls := "RumourBeds", name := "freeBeds", desc := "()I" } : Jvm.MethodName)) ∈ lw_tbl := lw_at lw_m3 124 rfl
theorem q687 : (Jvm.Cond.instanceMethod ({ cls := "RumourBeds", name := "freeBeds", desc := "()I" } : Jvm.MethodName)) ∈ lw_all := lw_g (lw_at lw_m3 125 rfl) rfl
theorem q688 : (Jvm.Cond.code ({ cls := "RumourBeds", name := "freeBeds", desc := "()I" } : Jvm.MethodName) prog_1_method_32_code (3 : Nat) (Option.some Jvm.ClassFile.FieldType.int)) ∈ lw_all := lw_g (lw_at lw_m3 126 rfl) rfl
theorem q689 : (Jvm.Cond.methodLink "RumourBeds" (209 : Nat) ({ cls := "java/lang/Integer", name := "bitCount", desc := "(I)I" } : Jvm.MethodName)) ∈ lw_all := lw_g (lw_at lw_m3 127 rfl) rfl
theorem q690 : (Jvm.Cond.methodLink "RumourBeds" (214 : Nat) ({ cls := "java/lang/Math", name := "max", desc := "(II)I" } : Jvm.MethodName)) ∈ lw_all := lw_g (lw_at lw_m3 128 rfl) rfl
theorem q691 : (Jvm.Cond.methodLink "RumourBeds" (231 : Nat) ({ cls := "RumourBeds", name := "allEaten", desc := "()I" } : Jvm.MethodName)) ∈ lw_all := lw_g (lw_at lw_m3 129 rfl) rfl
theorem q692 : (Jvm.Cond.privateMethod ({ cls := "RumourBeds", name := "allEaten", desc := "()I" } : Jvm.MethodName)) ∈ lw_tbl := lw_at lw_m3 130 rfl
theorem q693 : (Jvm.Cond.instanceMethod ({ cls := "RumourBeds", name := "allEaten", desc := "()I" } : Jvm.MethodName)) ∈ lw_all := lw_g (lw_at lw_m3 131 rfl) rfl
theorem q694 : (Jvm.Cond.code ({ cls := "RumourBeds", name := "allEaten", desc := "()I" } : Jvm.MethodName) prog_1_method_33_code (3 : Nat) (Option.some Jvm.ClassFile.FieldType.int)) ∈ lw_all := lw_g (lw_at lw_m3 132 rfl) rfl
theorem q696 : (Jvm.Cond.instanceMethod ({ cls := "RumourBeds", name := "on", desc := "(III)I" } : Jvm.MethodName)) ∈ lw_all := lw_g (lw_at lw_m3 134 rfl) rfl
theorem q697 : (Jvm.Cond.selects "RumourBeds" ({ cls := "RumourBeds", name := "on", desc := "(III)I" } : Jvm.MethodName) ({ cls := "RumourBeds", name := "on", desc := "(III)I" } : Jvm.MethodName)) ∈ lw_all := lw_g (lw_at lw_m3 135 rfl) rfl
theorem q698 : (Jvm.Cond.codeWith ({ cls := "RumourBeds", name := "on", desc := "(III)I" } : Jvm.MethodName) prog_1_method_35_code (5 : Nat) (Option.some Jvm.ClassFile.FieldType.int) [((0 : Nat), (60 : Nat), (61 : Nat), (1 : Nat))]) ∈ lw_all := lw_g (lw_at lw_m3 136 rfl) rfl
theorem q699 : (Jvm.Cond.methodLink "RumourBeds" (234 : Nat) ({ cls := "RumourBeds", name := "isAhead", desc := "(I)Z" } : Jvm.MethodName)) ∈ lw_all := lw_g (lw_at lw_m3 137 rfl) rfl
theorem q700 : (Jvm.Cond.static ({ cls := "RumourBeds", name := "isAhead", desc := "(I)Z" } : Jvm.MethodName)) ∈ lw_all := lw_g (lw_at lw_m3 138 rfl) rfl
theorem q701 : (Jvm.Cond.code ({ cls := "RumourBeds", name := "isAhead", desc := "(I)Z" } : Jvm.MethodName) prog_1_method_7_code (1 : Nat) (Option.some Jvm.ClassFile.FieldType.boolean)) ∈ lw_all := lw_g (lw_at lw_m3 139 rfl) rfl
theorem q702 : (Jvm.Cond.methodLink "RumourBeds" (237 : Nat) ({ cls := "RumourBeds", name := "tried", desc := "()LRumourBeds$Town;" } : Jvm.MethodName)) ∈ lw_all := lw_g (lw_at lw_m3 140 rfl) rfl
theorem q703 : (Jvm.Cond.privateMethod ({ cls := "RumourBeds", name := "tried", desc := "()LRumourBeds$Town;" } : Jvm.MethodName)) ∈ lw_tbl := lw_at lw_m3 141 rfl
theorem q704 : (Jvm.Cond.instanceMethod ({ cls := "RumourBeds", name := "tried", desc := "()LRumourBeds$Town;" } : Jvm.MethodName)) ∈ lw_all := lw_g (lw_at lw_m3 142 rfl) rfl
theorem q705 : (Jvm.Cond.code ({ cls := "RumourBeds", name := "tried", desc := "()LRumourBeds$Town;" } : Jvm.MethodName) prog_1_method_15_code (1 : Nat) (Option.some (Jvm.ClassFile.FieldType.object "RumourBeds$Town"))) ∈ lw_all := lw_g (lw_at lw_m3 143 rfl) rfl
theorem q706 : (Jvm.Cond.methodLink "RumourBeds" (98 : Nat) ({ cls := "RumourBeds$Town", name := "become", desc := "(LRumourBeds$Town;)V" } : Jvm.MethodName)) ∈ lw_all := lw_g (lw_at lw_m3 144 rfl) rfl
theorem q713 : (Jvm.Cond.instanceMethod ({ cls := "RumourBeds", name := "larder", desc := "(II)I" } : Jvm.MethodName)) ∈ lw_all := lw_g (lw_at lw_m3 151 rfl) rfl
theorem q714 : (Jvm.Cond.selects "RumourBeds" ({ cls := "RumourBeds", name := "larder", desc := "(II)I" } : Jvm.MethodName) ({ cls := "RumourBeds", name := "larder", desc := "(II)I" } : Jvm.MethodName)) ∈ lw_all := lw_g (lw_at lw_m3 152 rfl) rfl
theorem q715 : (Jvm.Cond.codeWith ({ cls := "RumourBeds", name := "larder", desc := "(II)I" } : Jvm.MethodName) prog_1_method_36_code (4 : Nat) (Option.some Jvm.ClassFile.FieldType.int) [((0 : Nat), (39 : Nat), (40 : Nat), (1 : Nat))]) ∈ lw_all := lw_g (lw_at lw_m3 153 rfl) rfl
theorem q717 : (Jvm.Cond.instanceMethod ({ cls := "RumourBeds", name := "empty", desc := "(I)I" } : Jvm.MethodName)) ∈ lw_all := lw_g (lw_at lw_m3 155 rfl) rfl
theorem q718 : (Jvm.Cond.selects "RumourBeds" ({ cls := "RumourBeds", name := "empty", desc := "(I)I" } : Jvm.MethodName) ({ cls := "RumourBeds", name := "empty", desc := "(I)I" } : Jvm.MethodName)) ∈ lw_all := lw_g (lw_at lw_m3 156 rfl) rfl
theorem q719 : (Jvm.Cond.codeWith ({ cls := "RumourBeds", name := "empty", desc := "(I)I" } : Jvm.MethodName) prog_1_method_37_code (3 : Nat) (Option.some Jvm.ClassFile.FieldType.int) [((0 : Nat), (33 : Nat), (56 : Nat), (1 : Nat)), ((34 : Nat), (56 : Nat), (56 : Nat), (1 : Nat))]) ∈ lw_all := lw_g (lw_at lw_m3 157 rfl) rfl
theorem q720 : (Jvm.Cond.methodLink "RumourBeds" (244 : Nat) ({ cls := "RumourBeds$Town", name := "aDay", desc := "()V" } : Jvm.MethodName)) ∈ lw_all := lw_g (lw_at lw_m3 158 rfl) rfl
theorem q722 : (Jvm.Cond.instanceMethod ({ cls := "RumourBeds", name := "many", desc := "(I)I" } : Jvm.MethodName)) ∈ lw_all := lw_g (lw_at lw_m3 160 rfl) rfl
theorem q723 : (Jvm.Cond.selects "RumourBeds" ({ cls := "RumourBeds", name := "many", desc := "(I)I" } : Jvm.MethodName) ({ cls := "RumourBeds", name := "many", desc := "(I)I" } : Jvm.MethodName)) ∈ lw_all := lw_g (lw_at lw_m3 161 rfl) rfl
theorem q724 : (Jvm.Cond.codeWith ({ cls := "RumourBeds", name := "many", desc := "(I)I" } : Jvm.MethodName) prog_1_method_38_code (3 : Nat) (Option.some Jvm.ClassFile.FieldType.int) [((0 : Nat), (22 : Nat), (23 : Nat), (1 : Nat))]) ∈ lw_all := lw_g (lw_at lw_m3 162 rfl) rfl
theorem q726 : (Jvm.Cond.instanceMethod ({ cls := "RumourBeds", name := "out", desc := "(I)I" } : Jvm.MethodName)) ∈ lw_all := lw_g (lw_at lw_m3 164 rfl) rfl
theorem q727 : (Jvm.Cond.selects "RumourBeds" ({ cls := "RumourBeds", name := "out", desc := "(I)I" } : Jvm.MethodName) ({ cls := "RumourBeds", name := "out", desc := "(I)I" } : Jvm.MethodName)) ∈ lw_all := lw_g (lw_at lw_m3 165 rfl) rfl
theorem q728 : (Jvm.Cond.codeWith ({ cls := "RumourBeds", name := "out", desc := "(I)I" } : Jvm.MethodName) prog_1_method_39_code (3 : Nat) (Option.some Jvm.ClassFile.FieldType.int) [((0 : Nat), (34 : Nat), (57 : Nat), (1 : Nat)), ((35 : Nat), (57 : Nat), (57 : Nat), (1 : Nat))]) ∈ lw_all := lw_g (lw_at lw_m3 166 rfl) rfl
theorem q730 : (Jvm.Cond.instanceMethod ({ cls := "RumourBeds", name := "fewest", desc := "(II)I" } : Jvm.MethodName)) ∈ lw_all := lw_g (lw_at lw_m3 168 rfl) rfl
theorem q731 : (Jvm.Cond.selects "RumourBeds" ({ cls := "RumourBeds", name := "fewest", desc := "(II)I" } : Jvm.MethodName) ({ cls := "RumourBeds", name := "fewest", desc := "(II)I" } : Jvm.MethodName)) ∈ lw_all := lw_g (lw_at lw_m3 169 rfl) rfl
theorem q732 : (Jvm.Cond.codeWith ({ cls := "RumourBeds", name := "fewest", desc := "(II)I" } : Jvm.MethodName) prog_1_method_40_code (5 : Nat) (Option.some Jvm.ClassFile.FieldType.int) [((0 : Nat), (50 : Nat), (75 : Nat), (1 : Nat)), ((51 : Nat), (75 : Nat), (75 : Nat), (1 : Nat))]) ∈ lw_all := lw_g (lw_at lw_m3 170 rfl) rfl
theorem q734 : (Jvm.Cond.instanceMethod ({ cls := "RumourBeds", name := "least", desc := "(I)I" } : Jvm.MethodName)) ∈ lw_all := lw_g (lw_at lw_m3 172 rfl) rfl
theorem q735 : (Jvm.Cond.selects "RumourBeds" ({ cls := "RumourBeds", name := "least", desc := "(I)I" } : Jvm.MethodName) ({ cls := "RumourBeds", name := "least", desc := "(I)I" } : Jvm.MethodName)) ∈ lw_all := lw_g (lw_at lw_m3 173 rfl) rfl
theorem q736 : (Jvm.Cond.codeWith ({ cls := "RumourBeds", name := "least", desc := "(I)I" } : Jvm.MethodName) prog_1_method_41_code (5 : Nat) (Option.some Jvm.ClassFile.FieldType.int) [((0 : Nat), (51 : Nat), (67 : Nat), (1 : Nat)), ((52 : Nat), (67 : Nat), (67 : Nat), (1 : Nat))]) ∈ lw_all := lw_g (lw_at lw_m3 174 rfl) rfl
theorem q738 : (Jvm.Cond.instanceMethod ({ cls := "RumourBeds", name := "best", desc := "(I)I" } : Jvm.MethodName)) ∈ lw_all := lw_g (lw_at lw_m3 176 rfl) rfl
theorem q739 : (Jvm.Cond.selects "RumourBeds" ({ cls := "RumourBeds", name := "best", desc := "(I)I" } : Jvm.MethodName) ({ cls := "RumourBeds", name := "best", desc := "(I)I" } : Jvm.MethodName)) ∈ lw_all := lw_g (lw_at lw_m3 177 rfl) rfl
theorem q740 : (Jvm.Cond.codeWith ({ cls := "RumourBeds", name := "best", desc := "(I)I" } : Jvm.MethodName) prog_1_method_42_code (5 : Nat) (Option.some Jvm.ClassFile.FieldType.int) [((0 : Nat), (71 : Nat), (72 : Nat), (1 : Nat))]) ∈ lw_all := lw_g (lw_at lw_m3 178 rfl) rfl
theorem q741 : (Jvm.Cond.methodLink "RumourBeds" (247 : Nat) ({ cls := "RumourBeds", name := "isSoon", desc := "(I)Z" } : Jvm.MethodName)) ∈ lw_all := lw_g (lw_at lw_m3 179 rfl) rfl
theorem q742 : (Jvm.Cond.static ({ cls := "RumourBeds", name := "isSoon", desc := "(I)Z" } : Jvm.MethodName)) ∈ lw_all := lw_g (lw_at lw_m3 180 rfl) rfl
theorem q743 : (Jvm.Cond.code ({ cls := "RumourBeds", name := "isSoon", desc := "(I)Z" } : Jvm.MethodName) prog_1_method_8_code (1 : Nat) (Option.some Jvm.ClassFile.FieldType.boolean)) ∈ lw_all := lw_g (lw_at lw_m3 181 rfl) rfl
theorem q745 : (Jvm.Cond.instanceMethod ({ cls := "RumourBeds", name := "lean", desc := "(II)I" } : Jvm.MethodName)) ∈ lw_all := lw_g (lw_at lw_m3 183 rfl) rfl
theorem q746 : (Jvm.Cond.selects "RumourBeds" ({ cls := "RumourBeds", name := "lean", desc := "(II)I" } : Jvm.MethodName) ({ cls := "RumourBeds", name := "lean", desc := "(II)I" } : Jvm.MethodName)) ∈ lw_all := lw_g (lw_at lw_m3 184 rfl) rfl
theorem q747 : (Jvm.Cond.codeWith ({ cls := "RumourBeds", name := "lean", desc := "(II)I" } : Jvm.MethodName) prog_1_method_43_code (4 : Nat) (Option.some Jvm.ClassFile.FieldType.int) [((0 : Nat), (50 : Nat), (51 : Nat), (1 : Nat))]) ∈ lw_all := lw_g (lw_at lw_m3 185 rfl) rfl
theorem q748 : (Jvm.Cond.methodLink "RumourBeds" (250 : Nat) ({ cls := "RumourBeds$Town", name := "hasBed", desc := "(I)Z" } : Jvm.MethodName)) ∈ lw_all := lw_g (lw_at lw_m3 186 rfl) rfl
theorem q750 : (Jvm.Cond.instanceMethod ({ cls := "RumourBeds", name := "leanFor", desc := "(II)I" } : Jvm.MethodName)) ∈ lw_all := lw_g (lw_at lw_m3 188 rfl) rfl
theorem q751 : (Jvm.Cond.selects "RumourBeds" ({ cls := "RumourBeds", name := "leanFor", desc := "(II)I" } : Jvm.MethodName) ({ cls := "RumourBeds", name := "leanFor", desc := "(II)I" } : Jvm.MethodName)) ∈ lw_all := lw_g (lw_at lw_m3 189 rfl) rfl
theorem q752 : (Jvm.Cond.codeWith ({ cls := "RumourBeds", name := "leanFor", desc := "(II)I" } : Jvm.MethodName) prog_1_method_44_code (6 : Nat) (Option.some Jvm.ClassFile.FieldType.int) [((0 : Nat), (94 : Nat), (95 : Nat), (1 : Nat))]) ∈ lw_all := lw_g (lw_at lw_m3 190 rfl) rfl
theorem q754 : (Jvm.Cond.instanceMethod ({ cls := "RumourBeds", name := "kind", desc := "(I)I" } : Jvm.MethodName)) ∈ lw_all := lw_g (lw_at lw_m3 192 rfl) rfl
theorem q755 : (Jvm.Cond.selects "RumourBeds" ({ cls := "RumourBeds", name := "kind", desc := "(I)I" } : Jvm.MethodName) ({ cls := "RumourBeds", name := "kind", desc := "(I)I" } : Jvm.MethodName)) ∈ lw_all := lw_g (lw_at lw_m3 193 rfl) rfl
theorem q756 : (Jvm.Cond.codeWith ({ cls := "RumourBeds", name := "kind", desc := "(I)I" } : Jvm.MethodName) prog_1_method_45_code (6 : Nat) (Option.some Jvm.ClassFile.FieldType.int) [((0 : Nat), (72 : Nat), (73 : Nat), (1 : Nat))]) ∈ lw_all := lw_g (lw_at lw_m3 194 rfl) rfl
theorem q758 : (Jvm.Cond.instanceMethod ({ cls := "RumourBeds", name := "host", desc := "(I)I" } : Jvm.MethodName)) ∈ lw_all := lw_g (lw_at lw_m3 196 rfl) rfl
theorem q759 : (Jvm.Cond.selects "RumourBeds" ({ cls := "RumourBeds", name := "host", desc := "(I)I" } : Jvm.MethodName) ({ cls := "RumourBeds", name := "host", desc := "(I)I" } : Jvm.MethodName)) ∈ lw_all := lw_g (lw_at lw_m3 197 rfl) rfl
theorem q760 : (Jvm.Cond.codeWith ({ cls := "RumourBeds", name := "host", desc := "(I)I" } : Jvm.MethodName) prog_1_method_46_code (3 : Nat) (Option.some Jvm.ClassFile.FieldType.int) [((0 : Nat), (15 : Nat), (16 : Nat), (1 : Nat))]) ∈ lw_all := lw_g (lw_at lw_m3 198 rfl) rfl
theorem q761 : (Jvm.Cond.methodLink "RumourBeds" (256 : Nat) ({ cls := "RumourBeds$Town", name := "host", desc := "(LRumourBeds$Rumour;)I" } : Jvm.MethodName)) ∈ lw_all := lw_g (lw_at lw_m3 199 rfl) rfl
theorem q762 : (Jvm.Cond.methodLink "RumourBeds" (260 : Nat) ({ cls := "RumourBeds", name := "orNone", desc := "(I)I" } : Jvm.MethodName)) ∈ lw_all := lw_g (lw_at lw_m3 200 rfl) rfl
theorem q763 : (Jvm.Cond.static ({ cls := "RumourBeds", name := "orNone", desc := "(I)I" } : Jvm.MethodName)) ∈ lw_all := lw_g (lw_at lw_m3 201 rfl) rfl
theorem q764 : (Jvm.Cond.code ({ cls := "RumourBeds", name := "orNone", desc := "(I)I" } : Jvm.MethodName) prog_1_method_12_code (1 : Nat) (Option.some Jvm.ClassFile.FieldType.int)) ∈ lw_all := lw_g (lw_at lw_m3 202 rfl) rfl
theorem q766 : (Jvm.Cond.instanceMethod ({ cls := "RumourBeds", name := "beds", desc := "(II)I" } : Jvm.MethodName)) ∈ lw_all := lw_g (lw_at lw_m3 204 rfl) rfl
theorem q767 : (Jvm.Cond.selects "RumourBeds" ({ cls := "RumourBeds", name := "beds", desc := "(II)I" } : Jvm.MethodName) ({ cls := "RumourBeds", name := "beds", desc := "(II)I" } : Jvm.MethodName)) ∈ lw_all := lw_g (lw_at lw_m3 205 rfl) rfl
theorem q768 : (Jvm.Cond.codeWith ({ cls := "RumourBeds", name := "beds", desc := "(II)I" } : Jvm.MethodName) prog_1_method_47_code (4 : Nat) (Option.some Jvm.ClassFile.FieldType.int) [((0 : Nat), (59 : Nat), (75 : Nat), (1 : Nat)), ((60 : Nat), (75 : Nat), (75 : Nat), (1 : Nat))]) ∈ lw_all := lw_g (lw_at lw_m3 206 rfl) rfl
theorem q770 : (Jvm.Cond.instanceMethod ({ cls := "RumourBeds", name := "feed", desc := "(II)I" } : Jvm.MethodName)) ∈ lw_all := lw_g (lw_at lw_m3 208 rfl) rfl
theorem q771 : (Jvm.Cond.selects "RumourBeds" ({ cls := "RumourBeds", name := "feed", desc := "(II)I" } : Jvm.MethodName) ({ cls := "RumourBeds", name := "feed", desc := "(II)I" } : Jvm.MethodName)) ∈ lw_all := lw_g (lw_at lw_m3 209 rfl) rfl
theorem q772 : (Jvm.Cond.codeWith ({ cls := "RumourBeds", name := "feed", desc := "(II)I" } : Jvm.MethodName) prog_1_method_48_code (4 : Nat) (Option.some Jvm.ClassFile.FieldType.int) [((0 : Nat), (77 : Nat), (78 : Nat), (1 : Nat))]) ∈ lw_all := lw_g (lw_at lw_m3 210 rfl) rfl
theorem q773 : (Jvm.Cond.constantLong "RumourBeds" (263 : Nat) (4 : Int64)) ∈ lw_all := lw_g (lw_at lw_m3 211 rfl) rfl
theorem q775 : (Jvm.Cond.instanceMethod ({ cls := "RumourBeds", name := "wipe", desc := "()I" } : Jvm.MethodName)) ∈ lw_all := lw_g (lw_at lw_m3 213 rfl) rfl
theorem q776 : (Jvm.Cond.selects "RumourBeds" ({ cls := "RumourBeds", name := "wipe", desc := "()I" } : Jvm.MethodName) ({ cls := "RumourBeds", name := "wipe", desc := "()I" } : Jvm.MethodName)) ∈ lw_all := lw_g (lw_at lw_m3 214 rfl) rfl
theorem q777 : (Jvm.Cond.code ({ cls := "RumourBeds", name := "wipe", desc := "()I" } : Jvm.MethodName) prog_1_method_49_code (2 : Nat) (Option.some Jvm.ClassFile.FieldType.int)) ∈ lw_all := lw_g (lw_at lw_m3 215 rfl) rfl
theorem q779 : (Jvm.Cond.instanceMethod ({ cls := "RumourBeds", name := "town", desc := "()I" } : Jvm.MethodName)) ∈ lw_all := lw_g (lw_at lw_m3 217 rfl) rfl
theorem q780 : (Jvm.Cond.selects "RumourBeds" ({ cls := "RumourBeds", name := "town", desc := "()I" } : Jvm.MethodName) ({ cls := "RumourBeds", name := "town", desc := "()I" } : Jvm.MethodName)) ∈ lw_all := lw_g (lw_at lw_m3 218 rfl) rfl
theorem q781 : (Jvm.Cond.codeWith ({ cls := "RumourBeds", name := "town", desc := "()I" } : Jvm.MethodName) prog_1_method_50_code (4 : Nat) (Option.some Jvm.ClassFile.FieldType.int) [((11 : Nat), (47 : Nat), (54 : Nat), (276 : Nat)), ((11 : Nat), (47 : Nat), (69 : Nat), (0 : Nat)), ((54 : Nat), (62 : Nat), (69 : Nat), (0 : Nat))]) ∈ lw_all := lw_g (lw_at lw_m3 219 rfl) rfl
theorem q782 : (Jvm.Cond.classLink "RumourBeds" (276 : Nat) "RumourBeds$Fault") ∈ lw_all := lw_g (lw_at lw_m3 220 rfl) rfl
theorem q783 : (Jvm.Cond.classLink "RumourBeds" (268 : Nat) "RumourBeds$Reader") ∈ lw_all := lw_g (lw_at lw_m3 221 rfl) rfl
theorem q785 : (Jvm.Cond.methodLink "RumourBeds" (270 : Nat) ({ cls := "RumourBeds$Reader", name := "<init>", desc := "([BILRumourBeds$Town;)V" } : Jvm.MethodName)) ∈ lw_all := lw_g (lw_at lw_m3 223 rfl) rfl
theorem q808 : (Jvm.Cond.methodLink "RumourBeds" (273 : Nat) ({ cls := "RumourBeds$Reader", name := "read", desc := "()I" } : Jvm.MethodName)) ∈ lw_all := lw_g (lw_at lw_m4 6 rfl) rfl
theorem q909 : (Jvm.Cond.fieldLink "RumourBeds" (278 : Nat) "RumourBeds$Fault" "place" "I") ∈ lw_all := lw_g (lw_at lw_m4 107 rfl) rfl
theorem q955 : (Jvm.Cond.instanceMethod ({ cls := "RumourBeds", name := "lays", desc := "(I)I" } : Jvm.MethodName)) ∈ lw_all := lw_g (lw_at lw_m4 153 rfl) rfl
theorem q956 : (Jvm.Cond.selects "RumourBeds" ({ cls := "RumourBeds", name := "lays", desc := "(I)I" } : Jvm.MethodName) ({ cls := "RumourBeds", name := "lays", desc := "(I)I" } : Jvm.MethodName)) ∈ lw_all := lw_g (lw_at lw_m4 154 rfl) rfl
theorem q957 : (Jvm.Cond.codeWith ({ cls := "RumourBeds", name := "lays", desc := "(I)I" } : Jvm.MethodName) prog_1_method_51_code (5 : Nat) (Option.some Jvm.ClassFile.FieldType.int) [((0 : Nat), (77 : Nat), (78 : Nat), (1 : Nat))]) ∈ lw_all := lw_g (lw_at lw_m4 155 rfl) rfl
theorem q958 : (Jvm.Cond.methodLink "RumourBeds" (281 : Nat) ({ cls := "RumourBeds", name := "sheetAt", desc := "(I)V" } : Jvm.MethodName)) ∈ lw_all := lw_g (lw_at lw_m4 156 rfl) rfl
theorem q959 : (Jvm.Cond.static ({ cls := "RumourBeds", name := "sheetAt", desc := "(I)V" } : Jvm.MethodName)) ∈ lw_all := lw_g (lw_at lw_m4 157 rfl) rfl
theorem q960 : (Jvm.Cond.code ({ cls := "RumourBeds", name := "sheetAt", desc := "(I)V" } : Jvm.MethodName) prog_1_method_55_code (1 : Nat) (Option.none : Option Jvm.ClassFile.FieldType)) ∈ lw_all := lw_g (lw_at lw_m4 158 rfl) rfl
theorem q961 : (Jvm.Cond.methodLink "RumourBeds" (284 : Nat) ({ cls := "RumourBeds", name := "there", desc := "(I)Ljava/lang/Object;" } : Jvm.MethodName)) ∈ lw_all := lw_g (lw_at lw_m4 159 rfl) rfl
theorem q962 : (Jvm.Cond.privateMethod ({ cls := "RumourBeds", name := "there", desc := "(I)Ljava/lang/Object;" } : Jvm.MethodName)) ∈ lw_tbl := lw_at lw_m4 160 rfl
theorem q963 : (Jvm.Cond.instanceMethod ({ cls := "RumourBeds", name := "there", desc := "(I)Ljava/lang/Object;" } : Jvm.MethodName)) ∈ lw_all := lw_g (lw_at lw_m4 161 rfl) rfl
theorem q964 : (Jvm.Cond.code ({ cls := "RumourBeds", name := "there", desc := "(I)Ljava/lang/Object;" } : Jvm.MethodName) prog_1_method_56_code (3 : Nat) (Option.some (Jvm.ClassFile.FieldType.object "java/lang/Object"))) ∈ lw_all := lw_g (lw_at lw_m4 162 rfl) rfl
theorem q965 : (Jvm.Cond.methodLink "RumourBeds" (288 : Nat) ({ cls := "RumourBeds", name := "length", desc := "(Ljava/lang/Object;)I" } : Jvm.MethodName)) ∈ lw_all := lw_g (lw_at lw_m4 163 rfl) rfl
theorem q966 : (Jvm.Cond.static ({ cls := "RumourBeds", name := "length", desc := "(Ljava/lang/Object;)I" } : Jvm.MethodName)) ∈ lw_all := lw_g (lw_at lw_m4 164 rfl) rfl
theorem q967 : (Jvm.Cond.code ({ cls := "RumourBeds", name := "length", desc := "(Ljava/lang/Object;)I" } : Jvm.MethodName) prog_1_method_58_code (1 : Nat) (Option.some Jvm.ClassFile.FieldType.int)) ∈ lw_all := lw_g (lw_at lw_m4 165 rfl) rfl
theorem q968 : (Jvm.Cond.classLink "RumourBeds" (308 : Nat) "[B") ∈ lw_all := lw_g (lw_at lw_m4 166 rfl) rfl
theorem q969 : (Jvm.Cond.classLink "RumourBeds" (309 : Nat) "[S") ∈ lw_all := lw_g (lw_at lw_m4 167 rfl) rfl
theorem q970 : (Jvm.Cond.classLink "RumourBeds" (311 : Nat) "[J") ∈ lw_all := lw_g (lw_at lw_m4 168 rfl) rfl
theorem q971 : (Jvm.Cond.methodLink "RumourBeds" (292 : Nat) ({ cls := "RumourBeds", name := "get", desc := "(Ljava/lang/Object;I)J" } : Jvm.MethodName)) ∈ lw_all := lw_g (lw_at lw_m4 169 rfl) rfl
theorem q972 : (Jvm.Cond.static ({ cls := "RumourBeds", name := "get", desc := "(Ljava/lang/Object;I)J" } : Jvm.MethodName)) ∈ lw_all := lw_g (lw_at lw_m4 170 rfl) rfl
theorem q973 : (Jvm.Cond.code ({ cls := "RumourBeds", name := "get", desc := "(Ljava/lang/Object;I)J" } : Jvm.MethodName) prog_1_method_59_code (2 : Nat) (Option.some Jvm.ClassFile.FieldType.long)) ∈ lw_all := lw_g (lw_at lw_m4 171 rfl) rfl
theorem q975 : (Jvm.Cond.instanceMethod ({ cls := "RumourBeds", name := "book", desc := "(II)I" } : Jvm.MethodName)) ∈ lw_all := lw_g (lw_at lw_m4 173 rfl) rfl
theorem q976 : (Jvm.Cond.selects "RumourBeds" ({ cls := "RumourBeds", name := "book", desc := "(II)I" } : Jvm.MethodName) ({ cls := "RumourBeds", name := "book", desc := "(II)I" } : Jvm.MethodName)) ∈ lw_all := lw_g (lw_at lw_m4 174 rfl) rfl
theorem q977 : (Jvm.Cond.codeWith ({ cls := "RumourBeds", name := "book", desc := "(II)I" } : Jvm.MethodName) prog_1_method_52_code (5 : Nat) (Option.some Jvm.ClassFile.FieldType.int) [((0 : Nat), (67 : Nat), (68 : Nat), (1 : Nat))]) ∈ lw_all := lw_g (lw_at lw_m4 175 rfl) rfl
theorem q978 : (Jvm.Cond.methodLink "RumourBeds" (296 : Nat) ({ cls := "RumourBeds", name := "put", desc := "(Ljava/lang/Object;IJ)V" } : Jvm.MethodName)) ∈ lw_all := lw_g (lw_at lw_m4 176 rfl) rfl
theorem q979 : (Jvm.Cond.static ({ cls := "RumourBeds", name := "put", desc := "(Ljava/lang/Object;IJ)V" } : Jvm.MethodName)) ∈ lw_all := lw_g (lw_at lw_m4 177 rfl) rfl
theorem q980 : (Jvm.Cond.code ({ cls := "RumourBeds", name := "put", desc := "(Ljava/lang/Object;IJ)V" } : Jvm.MethodName) prog_1_method_60_code (4 : Nat) (Option.none : Option Jvm.ClassFile.FieldType)) ∈ lw_all := lw_g (lw_at lw_m4 178 rfl) rfl
theorem q982 : (Jvm.Cond.instanceMethod ({ cls := "RumourBeds", name := "read", desc := "(II)I" } : Jvm.MethodName)) ∈ lw_all := lw_g (lw_at lw_m4 180 rfl) rfl
theorem q983 : (Jvm.Cond.selects "RumourBeds" ({ cls := "RumourBeds", name := "read", desc := "(II)I" } : Jvm.MethodName) ({ cls := "RumourBeds", name := "read", desc := "(II)I" } : Jvm.MethodName)) ∈ lw_all := lw_g (lw_at lw_m4 181 rfl) rfl
theorem q984 : (Jvm.Cond.codeWith ({ cls := "RumourBeds", name := "read", desc := "(II)I" } : Jvm.MethodName) prog_1_method_54_code (7 : Nat) (Option.some Jvm.ClassFile.FieldType.int) [((0 : Nat), (107 : Nat), (108 : Nat), (1 : Nat))]) ∈ lw_all := lw_g (lw_at lw_m4 182 rfl) rfl
theorem q985 : (Jvm.Cond.methodLink "RumourBeds" (300 : Nat) ({ cls := "RumourBeds", name := "isJust", desc := "(Ljava/lang/Object;I)Z" } : Jvm.MethodName)) ∈ lw_all := lw_g (lw_at lw_m4 183 rfl) rfl
theorem q986 : (Jvm.Cond.privateMethod ({ cls := "RumourBeds", name := "isJust", desc := "(Ljava/lang/Object;I)Z" } : Jvm.MethodName)) ∈ lw_tbl := lw_at lw_m4 184 rfl
theorem q987 : (Jvm.Cond.instanceMethod ({ cls := "RumourBeds", name := "isJust", desc := "(Ljava/lang/Object;I)Z" } : Jvm.MethodName)) ∈ lw_all := lw_g (lw_at lw_m4 185 rfl) rfl
theorem q988 : (Jvm.Cond.code ({ cls := "RumourBeds", name := "isJust", desc := "(Ljava/lang/Object;I)Z" } : Jvm.MethodName) prog_1_method_53_code (4 : Nat) (Option.some Jvm.ClassFile.FieldType.boolean)) ∈ lw_all := lw_g (lw_at lw_m4 186 rfl) rfl
theorem q990 : (Jvm.Cond.instanceMethod ({ cls := "RumourBeds", name := "sheet", desc := "(III)I" } : Jvm.MethodName)) ∈ lw_all := lw_g (lw_at lw_m4 188 rfl) rfl
theorem q991 : (Jvm.Cond.selects "RumourBeds" ({ cls := "RumourBeds", name := "sheet", desc := "(III)I" } : Jvm.MethodName) ({ cls := "RumourBeds", name := "sheet", desc := "(III)I" } : Jvm.MethodName)) ∈ lw_all := lw_g (lw_at lw_m4 189 rfl) rfl
theorem q992 : (Jvm.Cond.codeWith ({ cls := "RumourBeds", name := "sheet", desc := "(III)I" } : Jvm.MethodName) prog_1_method_62_code (5 : Nat) (Option.some Jvm.ClassFile.FieldType.int) [((0 : Nat), (87 : Nat), (88 : Nat), (1 : Nat))]) ∈ lw_all := lw_g (lw_at lw_m4 190 rfl) rfl
theorem q993 : (Jvm.Cond.methodLink "RumourBeds" (313 : Nat) ({ cls := "RumourBeds", name := "made", desc := "(II)Ljava/lang/Object;" } : Jvm.MethodName)) ∈ lw_all := lw_g (lw_at lw_m4 191 rfl) rfl
theorem q994 : (Jvm.Cond.static ({ cls := "RumourBeds", name := "made", desc := "(II)Ljava/lang/Object;" } : Jvm.MethodName)) ∈ lw_all := lw_g (lw_at lw_m4 192 rfl) rfl
theorem q995 : (Jvm.Cond.code ({ cls := "RumourBeds", name := "made", desc := "(II)Ljava/lang/Object;" } : Jvm.MethodName) prog_1_method_61_code (2 : Nat) (Option.some (Jvm.ClassFile.FieldType.object "java/lang/Object"))) ∈ lw_all := lw_g (lw_at lw_m4 193 rfl) rfl
theorem q999 : (Jvm.Cond.instanceMethod ({ cls := "RumourBeds", name := "write", desc := "(IIJ)J" } : Jvm.MethodName)) ∈ lw_all := lw_g (lw_at lw_m4 197 rfl) rfl
theorem q1000 : (Jvm.Cond.selects "RumourBeds" ({ cls := "RumourBeds", name := "write", desc := "(IIJ)J" } : Jvm.MethodName) ({ cls := "RumourBeds", name := "write", desc := "(IIJ)J" } : Jvm.MethodName)) ∈ lw_all := lw_g (lw_at lw_m4 198 rfl) rfl
theorem q1001 : (Jvm.Cond.codeWith ({ cls := "RumourBeds", name := "write", desc := "(IIJ)J" } : Jvm.MethodName) prog_1_method_64_code (8 : Nat) (Option.some Jvm.ClassFile.FieldType.long) [((0 : Nat), (25 : Nat), (26 : Nat), (1 : Nat))]) ∈ lw_all := lw_g (lw_at lw_m4 199 rfl) rfl
theorem q1002 : (Jvm.Cond.methodLink "RumourBeds" (317 : Nat) ({ cls := "RumourBeds", name := "numberAt", desc := "(II)Ljava/lang/Object;" } : Jvm.MethodName)) ∈ lw_all := lw_g (lw_at lw_m4 200 rfl) rfl
theorem q1003 : (Jvm.Cond.privateMethod ({ cls := "RumourBeds", name := "numberAt", desc := "(II)Ljava/lang/Object;" } : Jvm.MethodName)) ∈ lw_tbl := lw_at lw_m4 201 rfl
theorem q1004 : (Jvm.Cond.instanceMethod ({ cls := "RumourBeds", name := "numberAt", desc := "(II)Ljava/lang/Object;" } : Jvm.MethodName)) ∈ lw_all := lw_g (lw_at lw_m4 202 rfl) rfl
theorem q1005 : (Jvm.Cond.code ({ cls := "RumourBeds", name := "numberAt", desc := "(II)Ljava/lang/Object;" } : Jvm.MethodName) prog_1_method_63_code (4 : Nat) (Option.some (Jvm.ClassFile.FieldType.object "java/lang/Object"))) ∈ lw_all := lw_g (lw_at lw_m4 203 rfl) rfl
theorem q1007 : (Jvm.Cond.instanceMethod ({ cls := "RumourBeds", name := "copy", desc := "(IIIII)I" } : Jvm.MethodName)) ∈ lw_all := lw_g (lw_at lw_m4 205 rfl) rfl
theorem q1008 : (Jvm.Cond.selects "RumourBeds" ({ cls := "RumourBeds", name := "copy", desc := "(IIIII)I" } : Jvm.MethodName) ({ cls := "RumourBeds", name := "copy", desc := "(IIIII)I" } : Jvm.MethodName)) ∈ lw_all := lw_g (lw_at lw_m4 206 rfl) rfl
theorem q1009 : (Jvm.Cond.codeWith ({ cls := "RumourBeds", name := "copy", desc := "(IIIII)I" } : Jvm.MethodName) prog_1_method_65_code (8 : Nat) (Option.some Jvm.ClassFile.FieldType.int) [((0 : Nat), (123 : Nat), (124 : Nat), (1 : Nat))]) ∈ lw_all := lw_g (lw_at lw_m4 207 rfl) rfl
theorem q1010 : (Jvm.Cond.methodLink "RumourBeds" (320 : Nat) ({ cls := "RumourBeds", name := "wide", desc := "(Ljava/lang/Object;)I" } : Jvm.MethodName)) ∈ lw_all := lw_g (lw_at lw_m4 208 rfl) rfl
theorem q1011 : (Jvm.Cond.static ({ cls := "RumourBeds", name := "wide", desc := "(Ljava/lang/Object;)I" } : Jvm.MethodName)) ∈ lw_all := lw_g (lw_at lw_m4 209 rfl) rfl
theorem q1012 : (Jvm.Cond.code ({ cls := "RumourBeds", name := "wide", desc := "(Ljava/lang/Object;)I" } : Jvm.MethodName) prog_1_method_57_code (1 : Nat) (Option.some Jvm.ClassFile.FieldType.int)) ∈ lw_all := lw_g (lw_at lw_m4 210 rfl) rfl
theorem q1013 : (Jvm.Cond.methodLink "RumourBeds" (323 : Nat) ({ cls := "java/lang/System", name := "arraycopy", desc := "(Ljava/lang/Object;ILjava/lang/Object;II)V" } : Jvm.MethodName)) ∈ lw_all := lw_g (lw_at lw_m4 211 rfl) rfl
theorem q1015 : (Jvm.Cond.instanceMethod ({ cls := "RumourBeds", name := "image", desc := "()I" } : Jvm.MethodName)) ∈ lw_all := lw_g (lw_at lw_m4 213 rfl) rfl
theorem q1016 : (Jvm.Cond.selects "RumourBeds" ({ cls := "RumourBeds", name := "image", desc := "()I" } : Jvm.MethodName) ({ cls := "RumourBeds", name := "image", desc := "()I" } : Jvm.MethodName)) ∈ lw_all := lw_g (lw_at lw_m4 214 rfl) rfl
theorem q1017 : (Jvm.Cond.code ({ cls := "RumourBeds", name := "image", desc := "()I" } : Jvm.MethodName) prog_1_method_66_code (1 : Nat) (Option.some Jvm.ClassFile.FieldType.int)) ∈ lw_all := lw_g (lw_at lw_m4 215 rfl) rfl
theorem q1019 : (Jvm.Cond.instanceMethod ({ cls := "RumourBeds", name := "undo", desc := "()I" } : Jvm.MethodName)) ∈ lw_all := lw_g (lw_at lw_m4 217 rfl) rfl
theorem q1020 : (Jvm.Cond.selects "RumourBeds" ({ cls := "RumourBeds", name := "undo", desc := "()I" } : Jvm.MethodName) ({ cls := "RumourBeds", name := "undo", desc := "()I" } : Jvm.MethodName)) ∈ lw_all := lw_g (lw_at lw_m4 218 rfl) rfl
theorem q1021 : (Jvm.Cond.codeWith ({ cls := "RumourBeds", name := "undo", desc := "()I" } : Jvm.MethodName) prog_1_method_67_code (2 : Nat) (Option.some Jvm.ClassFile.FieldType.int) [((0 : Nat), (26 : Nat), (27 : Nat), (1 : Nat))]) ∈ lw_all := lw_g (lw_at lw_m4 219 rfl) rfl
theorem q1023 : (Jvm.Cond.instanceMethod ({ cls := "RumourBeds", name := "tear", desc := "()I" } : Jvm.MethodName)) ∈ lw_all := lw_g (lw_at lw_m4 221 rfl) rfl
theorem q1024 : (Jvm.Cond.selects "RumourBeds" ({ cls := "RumourBeds", name := "tear", desc := "()I" } : Jvm.MethodName) ({ cls := "RumourBeds", name := "tear", desc := "()I" } : Jvm.MethodName)) ∈ lw_all := lw_g (lw_at lw_m4 222 rfl) rfl
theorem q1025 : (Jvm.Cond.code ({ cls := "RumourBeds", name := "tear", desc := "()I" } : Jvm.MethodName) prog_1_method_68_code (2 : Nat) (Option.some Jvm.ClassFile.FieldType.int)) ∈ lw_all := lw_g (lw_at lw_m4 223 rfl) rfl
theorem q1027 : (Jvm.Cond.instanceMethod ({ cls := "RumourBeds", name := "count", desc := "(I)I" } : Jvm.MethodName)) ∈ lw_all := lw_g (lw_at lw_m4 225 rfl) rfl
theorem q1028 : (Jvm.Cond.selects "RumourBeds" ({ cls := "RumourBeds", name := "count", desc := "(I)I" } : Jvm.MethodName) ({ cls := "RumourBeds", name := "count", desc := "(I)I" } : Jvm.MethodName)) ∈ lw_all := lw_g (lw_at lw_m4 226 rfl) rfl
theorem q1029 : (Jvm.Cond.codeWith ({ cls := "RumourBeds", name := "count", desc := "(I)I" } : Jvm.MethodName) prog_1_method_70_code (3 : Nat) (Option.some Jvm.ClassFile.FieldType.int) [((0 : Nat), (70 : Nat), (71 : Nat), (1 : Nat))]) ∈ lw_all := lw_g (lw_at lw_m4 227 rfl) rfl
theorem q1030 : (Jvm.Cond.methodLink "RumourBeds" (333 : Nat) ({ cls := "RumourBeds", name := "allBeds", desc := "()I" } : Jvm.MethodName)) ∈ lw_all := lw_g (lw_at lw_m4 228 rfl) rfl
theorem q1031 : (Jvm.Cond.privateMethod ({ cls := "RumourBeds", name := "allBeds", desc := "()I" } : Jvm.MethodName)) ∈ lw_tbl := lw_at lw_m4 229 rfl
theorem q1032 : (Jvm.Cond.instanceMethod ({ cls := "RumourBeds", name := "allBeds", desc := "()I" } : Jvm.MethodName)) ∈ lw_all := lw_g (lw_at lw_m4 230 rfl) rfl
theorem q1033 : (Jvm.Cond.code ({ cls := "RumourBeds", name := "allBeds", desc := "()I" } : Jvm.MethodName) prog_1_method_69_code (3 : Nat) (Option.some Jvm.ClassFile.FieldType.int)) ∈ lw_all := lw_g (lw_at lw_m4 231 rfl) rfl
theorem q1035 : (Jvm.Cond.instanceMethod ({ cls := "RumourBeds", name := "status", desc := "(I)I" } : Jvm.MethodName)) ∈ lw_all := lw_g (lw_at lw_m4 233 rfl) rfl
theorem q1036 : (Jvm.Cond.selects "RumourBeds" ({ cls := "RumourBeds", name := "status", desc := "(I)I" } : Jvm.MethodName) ({ cls := "RumourBeds", name := "status", desc := "(I)I" } : Jvm.MethodName)) ∈ lw_all := lw_g (lw_at lw_m4 234 rfl) rfl
theorem q1037 : (Jvm.Cond.codeWith ({ cls := "RumourBeds", name := "status", desc := "(I)I" } : Jvm.MethodName) prog_1_method_71_code (4 : Nat) (Option.some Jvm.ClassFile.FieldType.int) [((0 : Nat), (25 : Nat), (53 : Nat), (1 : Nat)), ((26 : Nat), (52 : Nat), (53 : Nat), (1 : Nat))]) ∈ lw_all := lw_g (lw_at lw_m4 235 rfl) rfl
theorem q1038 : (Jvm.Cond.constantLong "RumourBeds" (336 : Nat) (-1 : Int64)) ∈ lw_all := lw_g (lw_at lw_m4 236 rfl) rfl
theorem in_X0 : ∀ w ∈ wsX00, w ∈ lw_all := lw_in wsX00 [180, 182, 184, 186, 188, 190, 192, 194, 196] (by decide +kernel) (by decide +kernel)
