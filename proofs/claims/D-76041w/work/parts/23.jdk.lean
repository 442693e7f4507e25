/-! printed by tools/gen.py: 23.jdk -/
set_option maxRecDepth 100000
def mdJ2_min : bMD := (yJ2_min, cJ2_min, 2, (some FieldType.int), [], 1, 12)
theorem oJ2_min : bOkc mdJ2_min 2 := ⟨by decide +kernel, ⟨by decide +kernel, by decide +kernel⟩, by decide +kernel, q620⟩
def fJ2_min (x0 : Int32) (x1 : Int32) : Option Int32 :=
  (if x1 < x0 then
  some x1
else
  some x0)
set_option maxHeartbeats 4000000 in
theorem wJ2_min (g : bGh) (w : bWl) (x0 : Int32) (x1 : Int32) {r : Int32} (hf : fJ2_min x0 x1 = some r) : bM g mdJ2_min w [.int x0, .int x1] (q_ (eI r) w) := by
  unfold fJ2_min at hf
  change bG _ _ 0 [some (.int x0), some (.int x1)] []
  refine g_iload_n (pc' := 1) dJ2_min_0 rfl rfl rfl ?_
  refine g_iload_n (pc' := 2) dJ2_min_1 rfl rfl rfl ?_
  refine g_icmp_gt (tgt := 9) (pc' := 5) dJ2_min_2 (by decide) rfl (fun h1 => ?_) (fun h1 => ?_)
  · replace hf := (if_pos h1).symm.trans hf
    refine g_iload_n (pc' := 10) dJ2_min_9 rfl rfl rfl ?_
    obtain rfl := Option.some.inj hf
    exact g_iret dJ2_min_10 rfl rfl ⟨rfl, rfl⟩
  · replace hf := (if_neg h1).symm.trans hf
    refine g_iload_n (pc' := 6) dJ2_min_5 rfl rfl rfl ?_
    refine g_goto (tgt := 10) dJ2_min_6 (by decide) ?_
    obtain rfl := Option.some.inj hf
    exact g_iret dJ2_min_10 rfl rfl ⟨rfl, rfl⟩
def mdJ2_max : bMD := (yJ2_max, cJ2_max, 2, (some FieldType.int), [], 1, 12)
theorem oJ2_max : bOkc mdJ2_max 2 := ⟨by decide +kernel, ⟨by decide +kernel, by decide +kernel⟩, by decide +kernel, q345⟩
def fJ2_max (x0 : Int32) (x1 : Int32) : Option Int32 :=
  (if x0 < x1 then
  some x1
else
  some x0)
set_option maxHeartbeats 4000000 in
theorem wJ2_max (g : bGh) (w : bWl) (x0 : Int32) (x1 : Int32) {r : Int32} (hf : fJ2_max x0 x1 = some r) : bM g mdJ2_max w [.int x0, .int x1] (q_ (eI r) w) := by
  unfold fJ2_max at hf
  change bG _ _ 0 [some (.int x0), some (.int x1)] []
  refine g_iload_n (pc' := 1) dJ2_max_0 rfl rfl rfl ?_
  refine g_iload_n (pc' := 2) dJ2_max_1 rfl rfl rfl ?_
  refine g_icmp_lt (tgt := 9) (pc' := 5) dJ2_max_2 (by decide) rfl (fun h1 => ?_) (fun h1 => ?_)
  · replace hf := (if_pos h1).symm.trans hf
    refine g_iload_n (pc' := 10) dJ2_max_9 rfl rfl rfl ?_
    obtain rfl := Option.some.inj hf
    exact g_iret dJ2_max_10 rfl rfl ⟨rfl, rfl⟩
  · replace hf := (if_neg h1).symm.trans hf
    refine g_iload_n (pc' := 6) dJ2_max_5 rfl rfl rfl ?_
    refine g_goto (tgt := 10) dJ2_max_6 (by decide) ?_
    obtain rfl := Option.some.inj hf
    exact g_iret dJ2_max_10 rfl rfl ⟨rfl, rfl⟩
def mdJ3_bitCount : bMD := (yJ3_bitCount, cJ3_bitCount, 1, (some FieldType.int), [], 1, 12)
theorem oJ3_bitCount : bOkc mdJ3_bitCount 1 := ⟨by decide +kernel, ⟨by decide +kernel, by decide +kernel⟩, by decide +kernel, q560⟩
def fJ3_bitCount (x0 : Int32) : Option Int32 :=
  some ((((((((x0 - ((((x0 : Int32).toUInt32 >>> ((1 : Int32).toUInt32 &&& Int32.toUInt32 31)).toInt32) &&& 1431655765)) &&& 858993459) + (((((x0 - ((((x0 : Int32).toUInt32 >>> ((1 : Int32).toUInt32 &&& Int32.toUInt32 31)).toInt32) &&& 1431655765)) : Int32).toUInt32 >>> ((2 : Int32).toUInt32 &&& Int32.toUInt32 31)).toInt32) &&& 858993459)) + ((((((x0 - ((((x0 : Int32).toUInt32 >>> ((1 : Int32).toUInt32 &&& Int32.toUInt32 31)).toInt32) &&& 1431655765)) &&& 858993459) + (((((x0 - ((((x0 : Int32).toUInt32 >>> ((1 : Int32).toUInt32 &&& Int32.toUInt32 31)).toInt32) &&& 1431655765)) : Int32).toUInt32 >>> ((2 : Int32).toUInt32 &&& Int32.toUInt32 31)).toInt32) &&& 858993459)) : Int32).toUInt32 >>> ((4 : Int32).toUInt32 &&& Int32.toUInt32 31)).toInt32)) &&& 252645135) + ((((((((x0 - ((((x0 : Int32).toUInt32 >>> ((1 : Int32).toUInt32 &&& Int32.toUInt32 31)).toInt32) &&& 1431655765)) &&& 858993459) + (((((x0 - ((((x0 : Int32).toUInt32 >>> ((1 : Int32).toUInt32 &&& Int32.toUInt32 31)).toInt32) &&& 1431655765)) : Int32).toUInt32 >>> ((2 : Int32).toUInt32 &&& Int32.toUInt32 31)).toInt32) &&& 858993459)) + ((((((x0 - ((((x0 : Int32).toUInt32 >>> ((1 : Int32).toUInt32 &&& Int32.toUInt32 31)).toInt32) &&& 1431655765)) &&& 858993459) + (((((x0 - ((((x0 : Int32).toUInt32 >>> ((1 : Int32).toUInt32 &&& Int32.toUInt32 31)).toInt32) &&& 1431655765)) : Int32).toUInt32 >>> ((2 : Int32).toUInt32 &&& Int32.toUInt32 31)).toInt32) &&& 858993459)) : Int32).toUInt32 >>> ((4 : Int32).toUInt32 &&& Int32.toUInt32 31)).toInt32)) &&& 252645135) : Int32).toUInt32 >>> ((8 : Int32).toUInt32 &&& Int32.toUInt32 31)).toInt32)) + (((((((((x0 - ((((x0 : Int32).toUInt32 >>> ((1 : Int32).toUInt32 &&& Int32.toUInt32 31)).toInt32) &&& 1431655765)) &&& 858993459) + (((((x0 - ((((x0 : Int32).toUInt32 >>> ((1 : Int32).toUInt32 &&& Int32.toUInt32 31)).toInt32) &&& 1431655765)) : Int32).toUInt32 >>> ((2 : Int32).toUInt32 &&& Int32.toUInt32 31)).toInt32) &&& 858993459)) + ((((((x0 - ((((x0 : Int32).toUInt32 >>> ((1 : Int32).toUInt32 &&& Int32.toUInt32 31)).toInt32) &&& 1431655765)) &&& 858993459) + (((((x0 - ((((x0 : Int32).toUInt32 >>> ((1 : Int32).toUInt32 &&& Int32.toUInt32 31)).toInt32) &&& 1431655765)) : Int32).toUInt32 >>> ((2 : Int32).toUInt32 &&& Int32.toUInt32 31)).toInt32) &&& 858993459)) : Int32).toUInt32 >>> ((4 : Int32).toUInt32 &&& Int32.toUInt32 31)).toInt32)) &&& 252645135) + ((((((((x0 - ((((x0 : Int32).toUInt32 >>> ((1 : Int32).toUInt32 &&& Int32.toUInt32 31)).toInt32) &&& 1431655765)) &&& 858993459) + (((((x0 - ((((x0 : Int32).toUInt32 >>> ((1 : Int32).toUInt32 &&& Int32.toUInt32 31)).toInt32) &&& 1431655765)) : Int32).toUInt32 >>> ((2 : Int32).toUInt32 &&& Int32.toUInt32 31)).toInt32) &&& 858993459)) + ((((((x0 - ((((x0 : Int32).toUInt32 >>> ((1 : Int32).toUInt32 &&& Int32.toUInt32 31)).toInt32) &&& 1431655765)) &&& 858993459) + (((((x0 - ((((x0 : Int32).toUInt32 >>> ((1 : Int32).toUInt32 &&& Int32.toUInt32 31)).toInt32) &&& 1431655765)) : Int32).toUInt32 >>> ((2 : Int32).toUInt32 &&& Int32.toUInt32 31)).toInt32) &&& 858993459)) : Int32).toUInt32 >>> ((4 : Int32).toUInt32 &&& Int32.toUInt32 31)).toInt32)) &&& 252645135) : Int32).toUInt32 >>> ((8 : Int32).toUInt32 &&& Int32.toUInt32 31)).toInt32)) : Int32).toUInt32 >>> ((16 : Int32).toUInt32 &&& Int32.toUInt32 31)).toInt32)) &&& 63)
set_option maxHeartbeats 4000000 in
theorem wJ3_bitCount (g : bGh) (w : bWl) (x0 : Int32) {r : Int32} (hf : fJ3_bitCount x0 = some r) : bM g mdJ3_bitCount w [.int x0] (q_ (eI r) w) := by
  unfold fJ3_bitCount at hf
  change bG _ _ 0 [some (.int x0)] []
  refine g_iload_n (pc' := 1) dJ3_bitCount_0 rfl rfl rfl ?_
  refine g_iload_n (pc' := 2) dJ3_bitCount_1 rfl rfl rfl ?_
  refine g_iconst (pc' := 3) (v := 1) dJ3_bitCount_2 rfl (by decide) ?_
  refine g_iushr (pc' := 4) dJ3_bitCount_3 rfl ?_
  refine g_ldcw (pc' := 7) dJ3_bitCount_4 rfl q561 ?_
  refine g_iand (pc' := 8) dJ3_bitCount_7 rfl ?_
  refine g_isub (pc' := 9) dJ3_bitCount_8 rfl ?_
  refine g_istore_n (pc' := 10) (L' := [some (.int (x0 - ((((x0 : Int32).toUInt32 >>> ((1 : Int32).toUInt32 &&& Int32.toUInt32 31)).toInt32) &&& 1431655765)))]) dJ3_bitCount_9 rfl rfl (Nat.le_of_ble_eq_true rfl) rfl rfl ?_
  refine g_iload_n (pc' := 11) dJ3_bitCount_10 rfl rfl rfl ?_
  refine g_ldcw (pc' := 14) dJ3_bitCount_11 rfl q562 ?_
  refine g_iand (pc' := 15) dJ3_bitCount_14 rfl ?_
  refine g_iload_n (pc' := 16) dJ3_bitCount_15 rfl rfl rfl ?_
  refine g_iconst (pc' := 17) (v := 2) dJ3_bitCount_16 rfl (by decide) ?_
  refine g_iushr (pc' := 18) dJ3_bitCount_17 rfl ?_
  refine g_ldcw (pc' := 21) dJ3_bitCount_18 rfl q562 ?_
  refine g_iand (pc' := 22) dJ3_bitCount_21 rfl ?_
  refine g_iadd (pc' := 23) dJ3_bitCount_22 rfl ?_
  refine g_istore_n (pc' := 24) (L' := [some (.int (((x0 - ((((x0 : Int32).toUInt32 >>> ((1 : Int32).toUInt32 &&& Int32.toUInt32 31)).toInt32) &&& 1431655765)) &&& 858993459) + (((((x0 - ((((x0 : Int32).toUInt32 >>> ((1 : Int32).toUInt32 &&& Int32.toUInt32 31)).toInt32) &&& 1431655765)) : Int32).toUInt32 >>> ((2 : Int32).toUInt32 &&& Int32.toUInt32 31)).toInt32) &&& 858993459)))]) dJ3_bitCount_23 rfl rfl (Nat.le_of_ble_eq_true rfl) rfl rfl ?_
  refine g_iload_n (pc' := 25) dJ3_bitCount_24 rfl rfl rfl ?_
  refine g_iload_n (pc' := 26) dJ3_bitCount_25 rfl rfl rfl ?_
  refine g_iconst (pc' := 27) (v := 4) dJ3_bitCount_26 rfl (by decide) ?_
  refine g_iushr (pc' := 28) dJ3_bitCount_27 rfl ?_
  refine g_iadd (pc' := 29) dJ3_bitCount_28 rfl ?_
  refine g_ldcw (pc' := 32) dJ3_bitCount_29 rfl q563 ?_
  refine g_iand (pc' := 33) dJ3_bitCount_32 rfl ?_
  refine g_istore_n (pc' := 34) (L' := [some (.int (((((x0 - ((((x0 : Int32).toUInt32 >>> ((1 : Int32).toUInt32 &&& Int32.toUInt32 31)).toInt32) &&& 1431655765)) &&& 858993459) + (((((x0 - ((((x0 : Int32).toUInt32 >>> ((1 : Int32).toUInt32 &&& Int32.toUInt32 31)).toInt32) &&& 1431655765)) : Int32).toUInt32 >>> ((2 : Int32).toUInt32 &&& Int32.toUInt32 31)).toInt32) &&& 858993459)) + ((((((x0 - ((((x0 : Int32).toUInt32 >>> ((1 : Int32).toUInt32 &&& Int32.toUInt32 31)).toInt32) &&& 1431655765)) &&& 858993459) + (((((x0 - ((((x0 : Int32).toUInt32 >>> ((1 : Int32).toUInt32 &&& Int32.toUInt32 31)).toInt32) &&& 1431655765)) : Int32).toUInt32 >>> ((2 : Int32).toUInt32 &&& Int32.toUInt32 31)).toInt32) &&& 858993459)) : Int32).toUInt32 >>> ((4 : Int32).toUInt32 &&& Int32.toUInt32 31)).toInt32)) &&& 252645135))]) dJ3_bitCount_33 rfl rfl (Nat.le_of_ble_eq_true rfl) rfl rfl ?_
  refine g_iload_n (pc' := 35) dJ3_bitCount_34 rfl rfl rfl ?_
  refine g_iload_n (pc' := 36) dJ3_bitCount_35 rfl rfl rfl ?_
  refine g_bipush (pc' := 38) (v := 8) dJ3_bitCount_36 rfl (by decide) ?_
  refine g_iushr (pc' := 39) dJ3_bitCount_38 rfl ?_
  refine g_iadd (pc' := 40) dJ3_bitCount_39 rfl ?_
  refine g_istore_n (pc' := 41) (L' := [some (.int ((((((x0 - ((((x0 : Int32).toUInt32 >>> ((1 : Int32).toUInt32 &&& Int32.toUInt32 31)).toInt32) &&& 1431655765)) &&& 858993459) + (((((x0 - ((((x0 : Int32).toUInt32 >>> ((1 : Int32).toUInt32 &&& Int32.toUInt32 31)).toInt32) &&& 1431655765)) : Int32).toUInt32 >>> ((2 : Int32).toUInt32 &&& Int32.toUInt32 31)).toInt32) &&& 858993459)) + ((((((x0 - ((((x0 : Int32).toUInt32 >>> ((1 : Int32).toUInt32 &&& Int32.toUInt32 31)).toInt32) &&& 1431655765)) &&& 858993459) + (((((x0 - ((((x0 : Int32).toUInt32 >>> ((1 : Int32).toUInt32 &&& Int32.toUInt32 31)).toInt32) &&& 1431655765)) : Int32).toUInt32 >>> ((2 : Int32).toUInt32 &&& Int32.toUInt32 31)).toInt32) &&& 858993459)) : Int32).toUInt32 >>> ((4 : Int32).toUInt32 &&& Int32.toUInt32 31)).toInt32)) &&& 252645135) + ((((((((x0 - ((((x0 : Int32).toUInt32 >>> ((1 : Int32).toUInt32 &&& Int32.toUInt32 31)).toInt32) &&& 1431655765)) &&& 858993459) + (((((x0 - ((((x0 : Int32).toUInt32 >>> ((1 : Int32).toUInt32 &&& Int32.toUInt32 31)).toInt32) &&& 1431655765)) : Int32).toUInt32 >>> ((2 : Int32).toUInt32 &&& Int32.toUInt32 31)).toInt32) &&& 858993459)) + ((((((x0 - ((((x0 : Int32).toUInt32 >>> ((1 : Int32).toUInt32 &&& Int32.toUInt32 31)).toInt32) &&& 1431655765)) &&& 858993459) + (((((x0 - ((((x0 : Int32).toUInt32 >>> ((1 : Int32).toUInt32 &&& Int32.toUInt32 31)).toInt32) &&& 1431655765)) : Int32).toUInt32 >>> ((2 : Int32).toUInt32 &&& Int32.toUInt32 31)).toInt32) &&& 858993459)) : Int32).toUInt32 >>> ((4 : Int32).toUInt32 &&& Int32.toUInt32 31)).toInt32)) &&& 252645135) : Int32).toUInt32 >>> ((8 : Int32).toUInt32 &&& Int32.toUInt32 31)).toInt32)))]) dJ3_bitCount_40 rfl rfl (Nat.le_of_ble_eq_true rfl) rfl rfl ?_
  refine g_iload_n (pc' := 42) dJ3_bitCount_41 rfl rfl rfl ?_
  refine g_iload_n (pc' := 43) dJ3_bitCount_42 rfl rfl rfl ?_
  refine g_bipush (pc' := 45) (v := 16) dJ3_bitCount_43 rfl (by decide) ?_
  refine g_iushr (pc' := 46) dJ3_bitCount_45 rfl ?_
  refine g_iadd (pc' := 47) dJ3_bitCount_46 rfl ?_
  refine g_istore_n (pc' := 48) (L' := [some (.int (((((((x0 - ((((x0 : Int32).toUInt32 >>> ((1 : Int32).toUInt32 &&& Int32.toUInt32 31)).toInt32) &&& 1431655765)) &&& 858993459) + (((((x0 - ((((x0 : Int32).toUInt32 >>> ((1 : Int32).toUInt32 &&& Int32.toUInt32 31)).toInt32) &&& 1431655765)) : Int32).toUInt32 >>> ((2 : Int32).toUInt32 &&& Int32.toUInt32 31)).toInt32) &&& 858993459)) + ((((((x0 - ((((x0 : Int32).toUInt32 >>> ((1 : Int32).toUInt32 &&& Int32.toUInt32 31)).toInt32) &&& 1431655765)) &&& 858993459) + (((((x0 - ((((x0 : Int32).toUInt32 >>> ((1 : Int32).toUInt32 &&& Int32.toUInt32 31)).toInt32) &&& 1431655765)) : Int32).toUInt32 >>> ((2 : Int32).toUInt32 &&& Int32.toUInt32 31)).toInt32) &&& 858993459)) : Int32).toUInt32 >>> ((4 : Int32).toUInt32 &&& Int32.toUInt32 31)).toInt32)) &&& 252645135) + ((((((((x0 - ((((x0 : Int32).toUInt32 >>> ((1 : Int32).toUInt32 &&& Int32.toUInt32 31)).toInt32) &&& 1431655765)) &&& 858993459) + (((((x0 - ((((x0 : Int32).toUInt32 >>> ((1 : Int32).toUInt32 &&& Int32.toUInt32 31)).toInt32) &&& 1431655765)) : Int32).toUInt32 >>> ((2 : Int32).toUInt32 &&& Int32.toUInt32 31)).toInt32) &&& 858993459)) + ((((((x0 - ((((x0 : Int32).toUInt32 >>> ((1 : Int32).toUInt32 &&& Int32.toUInt32 31)).toInt32) &&& 1431655765)) &&& 858993459) + (((((x0 - ((((x0 : Int32).toUInt32 >>> ((1 : Int32).toUInt32 &&& Int32.toUInt32 31)).toInt32) &&& 1431655765)) : Int32).toUInt32 >>> ((2 : Int32).toUInt32 &&& Int32.toUInt32 31)).toInt32) &&& 858993459)) : Int32).toUInt32 >>> ((4 : Int32).toUInt32 &&& Int32.toUInt32 31)).toInt32)) &&& 252645135) : Int32).toUInt32 >>> ((8 : Int32).toUInt32 &&& Int32.toUInt32 31)).toInt32)) + (((((((((x0 - ((((x0 : Int32).toUInt32 >>> ((1 : Int32).toUInt32 &&& Int32.toUInt32 31)).toInt32) &&& 1431655765)) &&& 858993459) + (((((x0 - ((((x0 : Int32).toUInt32 >>> ((1 : Int32).toUInt32 &&& Int32.toUInt32 31)).toInt32) &&& 1431655765)) : Int32).toUInt32 >>> ((2 : Int32).toUInt32 &&& Int32.toUInt32 31)).toInt32) &&& 858993459)) + ((((((x0 - ((((x0 : Int32).toUInt32 >>> ((1 : Int32).toUInt32 &&& Int32.toUInt32 31)).toInt32) &&& 1431655765)) &&& 858993459) + (((((x0 - ((((x0 : Int32).toUInt32 >>> ((1 : Int32).toUInt32 &&& Int32.toUInt32 31)).toInt32) &&& 1431655765)) : Int32).toUInt32 >>> ((2 : Int32).toUInt32 &&& Int32.toUInt32 31)).toInt32) &&& 858993459)) : Int32).toUInt32 >>> ((4 : Int32).toUInt32 &&& Int32.toUInt32 31)).toInt32)) &&& 252645135) + ((((((((x0 - ((((x0 : Int32).toUInt32 >>> ((1 : Int32).toUInt32 &&& Int32.toUInt32 31)).toInt32) &&& 1431655765)) &&& 858993459) + (((((x0 - ((((x0 : Int32).toUInt32 >>> ((1 : Int32).toUInt32 &&& Int32.toUInt32 31)).toInt32) &&& 1431655765)) : Int32).toUInt32 >>> ((2 : Int32).toUInt32 &&& Int32.toUInt32 31)).toInt32) &&& 858993459)) + ((((((x0 - ((((x0 : Int32).toUInt32 >>> ((1 : Int32).toUInt32 &&& Int32.toUInt32 31)).toInt32) &&& 1431655765)) &&& 858993459) + (((((x0 - ((((x0 : Int32).toUInt32 >>> ((1 : Int32).toUInt32 &&& Int32.toUInt32 31)).toInt32) &&& 1431655765)) : Int32).toUInt32 >>> ((2 : Int32).toUInt32 &&& Int32.toUInt32 31)).toInt32) &&& 858993459)) : Int32).toUInt32 >>> ((4 : Int32).toUInt32 &&& Int32.toUInt32 31)).toInt32)) &&& 252645135) : Int32).toUInt32 >>> ((8 : Int32).toUInt32 &&& Int32.toUInt32 31)).toInt32)) : Int32).toUInt32 >>> ((16 : Int32).toUInt32 &&& Int32.toUInt32 31)).toInt32)))]) dJ3_bitCount_47 rfl rfl (Nat.le_of_ble_eq_true rfl) rfl rfl ?_
  refine g_iload_n (pc' := 49) dJ3_bitCount_48 rfl rfl rfl ?_
  refine g_bipush (pc' := 51) (v := 63) dJ3_bitCount_49 rfl (by decide) ?_
  refine g_iand (pc' := 52) dJ3_bitCount_51 rfl ?_
  obtain rfl := Option.some.inj hf
  exact g_iret dJ3_bitCount_52 rfl rfl ⟨rfl, rfl⟩
def mdJ3_numberOfTrailingZeros : bMD := (yJ3_numberOfTrailingZeros, cJ3_numberOfTrailingZeros, 2, (some FieldType.int), [], 1, 12)
theorem oJ3_numberOfTrailingZeros : bOkc mdJ3_numberOfTrailingZeros 1 := ⟨by decide +kernel, ⟨by decide +kernel, by decide +kernel⟩, by decide +kernel, q668⟩
def fJ3_numberOfTrailingZeros (x0 : Int32) : Option Int32 :=
  (if 0 < ((x0 ^^^ (-1)) &&& (x0 - 1)) then
  Option.bind (α := Int32 × Int32) ((if ((x0 ^^^ (-1)) &&& (x0 - 1)) ≤ 65536 then
  some (((x0 ^^^ (-1)) &&& (x0 - 1)), 1)
else
  some ((((((x0 ^^^ (-1)) &&& (x0 - 1)) : Int32).toUInt32 >>> ((16 : Int32).toUInt32 &&& Int32.toUInt32 31)).toInt32), (1 + 16)))) fun q2 =>
  Option.bind (α := Int32 × Int32) ((if q2.1 ≤ 256 then
  some (q2.1, q2.2)
else
  some ((((q2.1 : Int32).toUInt32 >>> ((8 : Int32).toUInt32 &&& Int32.toUInt32 31)).toInt32), (q2.2 + 8)))) fun q4 =>
  Option.bind (α := Int32 × Int32) ((if q4.1 ≤ 16 then
  some (q4.1, q4.2)
else
  some ((((q4.1 : Int32).toUInt32 >>> ((4 : Int32).toUInt32 &&& Int32.toUInt32 31)).toInt32), (q4.2 + 4)))) fun q6 =>
  Option.bind (α := Int32 × Int32) ((if q6.1 ≤ 4 then
  some (q6.1, q6.2)
else
  some ((((q6.1 : Int32).toUInt32 >>> ((2 : Int32).toUInt32 &&& Int32.toUInt32 31)).toInt32), (q6.2 + 2)))) fun q8 =>
  some (q8.2 + (((q8.1 : Int32).toUInt32 >>> ((1 : Int32).toUInt32 &&& Int32.toUInt32 31)).toInt32))
else
  some (((x0 ^^^ (-1)) &&& (x0 - 1)) &&& 32))
set_option maxHeartbeats 4000000 in
theorem wJ3_numberOfTrailingZeros (g : bGh) (w : bWl) (x0 : Int32) {r : Int32} (hf : fJ3_numberOfTrailingZeros x0 = some r) : bM g mdJ3_numberOfTrailingZeros w [.int x0] (q_ (eI r) w) := by
  unfold fJ3_numberOfTrailingZeros at hf
  change bG _ _ 0 [some (.int x0)] []
  refine g_iload_n (pc' := 1) dJ3_numberOfTrailingZeros_0 rfl rfl rfl ?_
  refine g_iconst (pc' := 2) (v := (-1)) dJ3_numberOfTrailingZeros_1 rfl (by decide) ?_
  refine g_ixor (pc' := 3) dJ3_numberOfTrailingZeros_2 rfl ?_
  refine g_iload_n (pc' := 4) dJ3_numberOfTrailingZeros_3 rfl rfl rfl ?_
  refine g_iconst (pc' := 5) (v := 1) dJ3_numberOfTrailingZeros_4 rfl (by decide) ?_
  refine g_isub (pc' := 6) dJ3_numberOfTrailingZeros_5 rfl ?_
  refine g_iand (pc' := 7) dJ3_numberOfTrailingZeros_6 rfl ?_
  refine g_istore_n (pc' := 8) (L' := [some (.int ((x0 ^^^ (-1)) &&& (x0 - 1)))]) dJ3_numberOfTrailingZeros_7 rfl rfl (Nat.le_of_ble_eq_true rfl) rfl rfl ?_
  refine g_iload_n (pc' := 9) dJ3_numberOfTrailingZeros_8 rfl rfl rfl ?_
  refine g_if_gt (tgt := 17) (pc' := 12) dJ3_numberOfTrailingZeros_9 (by decide) rfl (fun h1 => ?_) (fun h1 => ?_)
  · replace hf := (if_pos h1).symm.trans hf
    refine g_iconst (pc' := 18) (v := 1) dJ3_numberOfTrailingZeros_17 rfl (by decide) ?_
    refine g_istore_n (pc' := 19) (L' := [some (.int ((x0 ^^^ (-1)) &&& (x0 - 1))), some (.int 1)]) dJ3_numberOfTrailingZeros_18 rfl rfl (Nat.le_of_ble_eq_true rfl) rfl rfl ?_
    refine g_iload_n (pc' := 20) dJ3_numberOfTrailingZeros_19 rfl rfl rfl ?_
    refine g_ldcw (pc' := 23) dJ3_numberOfTrailingZeros_20 rfl q669 ?_
    obtain ⟨q2, hqq2, hf⟩ := Option.bind_eq_some_iff.mp hf
    have hJq2 : bG (g, mdJ3_numberOfTrailingZeros, w.2.1, w.2.2.1, (q_ (eI r) w)) w 34 [some (.int q2.1), some (.int q2.2)] [] := by
      refine g_iload_n (pc' := 35) dJ3_numberOfTrailingZeros_34 rfl rfl rfl ?_
      refine g_sipush (pc' := 38) (v := 256) dJ3_numberOfTrailingZeros_35 rfl (by decide) ?_
      obtain ⟨q4, hqq4, hf⟩ := Option.bind_eq_some_iff.mp hf
      have hJq4 : bG (g, mdJ3_numberOfTrailingZeros, w.2.1, w.2.2.1, (q_ (eI r) w)) w 49 [some (.int q4.1), some (.int q4.2)] [] := by
        refine g_iload_n (pc' := 50) dJ3_numberOfTrailingZeros_49 rfl rfl rfl ?_
        refine g_bipush (pc' := 52) (v := 16) dJ3_numberOfTrailingZeros_50 rfl (by decide) ?_
        obtain ⟨q6, hqq6, hf⟩ := Option.bind_eq_some_iff.mp hf
        have hJq6 : bG (g, mdJ3_numberOfTrailingZeros, w.2.1, w.2.2.1, (q_ (eI r) w)) w 62 [some (.int q6.1), some (.int q6.2)] [] := by
          refine g_iload_n (pc' := 63) dJ3_numberOfTrailingZeros_62 rfl rfl rfl ?_
          refine g_iconst (pc' := 64) (v := 4) dJ3_numberOfTrailingZeros_63 rfl (by decide) ?_
          obtain ⟨q8, hqq8, hf⟩ := Option.bind_eq_some_iff.mp hf
          have hJq8 : bG (g, mdJ3_numberOfTrailingZeros, w.2.1, w.2.2.1, (q_ (eI r) w)) w 74 [some (.int q8.1), some (.int q8.2)] [] := by
            refine g_iload_n (pc' := 75) dJ3_numberOfTrailingZeros_74 rfl rfl rfl ?_
            refine g_iload_n (pc' := 76) dJ3_numberOfTrailingZeros_75 rfl rfl rfl ?_
            refine g_iconst (pc' := 77) (v := 1) dJ3_numberOfTrailingZeros_76 rfl (by decide) ?_
            refine g_iushr (pc' := 78) dJ3_numberOfTrailingZeros_77 rfl ?_
            refine g_iadd (pc' := 79) dJ3_numberOfTrailingZeros_78 rfl ?_
            obtain rfl := Option.some.inj hf
            exact g_iret dJ3_numberOfTrailingZeros_79 rfl rfl ⟨rfl, rfl⟩
          replace hf := hqq8
          refine g_icmp_le (tgt := 74) (pc' := 67) dJ3_numberOfTrailingZeros_64 (by decide) rfl (fun h9 => ?_) (fun h9 => ?_)
          · replace hf := (if_pos h9).symm.trans hf
            obtain rfl := Option.some.inj hf
            exact hJq8
          · replace hf := (if_neg h9).symm.trans hf
            refine g_iinc (pc' := 70) (v := q6.2 + 2) (L' := [some (.int q6.1), some (.int (q6.2 + 2))]) dJ3_numberOfTrailingZeros_67 rfl rfl rfl (Nat.le_of_ble_eq_true rfl) rfl rfl ?_
            refine g_iload_n (pc' := 71) dJ3_numberOfTrailingZeros_70 rfl rfl rfl ?_
            refine g_iconst (pc' := 72) (v := 2) dJ3_numberOfTrailingZeros_71 rfl (by decide) ?_
            refine g_iushr (pc' := 73) dJ3_numberOfTrailingZeros_72 rfl ?_
            refine g_istore_n (pc' := 74) (L' := [some (.int (((q6.1 : Int32).toUInt32 >>> ((2 : Int32).toUInt32 &&& Int32.toUInt32 31)).toInt32)), some (.int (q6.2 + 2))]) dJ3_numberOfTrailingZeros_73 rfl rfl (Nat.le_of_ble_eq_true rfl) rfl rfl ?_
            obtain rfl := Option.some.inj hf
            exact hJq8
        replace hf := hqq6
        refine g_icmp_le (tgt := 62) (pc' := 55) dJ3_numberOfTrailingZeros_52 (by decide) rfl (fun h7 => ?_) (fun h7 => ?_)
        · replace hf := (if_pos h7).symm.trans hf
          obtain rfl := Option.some.inj hf
          exact hJq6
        · replace hf := (if_neg h7).symm.trans hf
          refine g_iinc (pc' := 58) (v := q4.2 + 4) (L' := [some (.int q4.1), some (.int (q4.2 + 4))]) dJ3_numberOfTrailingZeros_55 rfl rfl rfl (Nat.le_of_ble_eq_true rfl) rfl rfl ?_
          refine g_iload_n (pc' := 59) dJ3_numberOfTrailingZeros_58 rfl rfl rfl ?_
          refine g_iconst (pc' := 60) (v := 4) dJ3_numberOfTrailingZeros_59 rfl (by decide) ?_
          refine g_iushr (pc' := 61) dJ3_numberOfTrailingZeros_60 rfl ?_
          refine g_istore_n (pc' := 62) (L' := [some (.int (((q4.1 : Int32).toUInt32 >>> ((4 : Int32).toUInt32 &&& Int32.toUInt32 31)).toInt32)), some (.int (q4.2 + 4))]) dJ3_numberOfTrailingZeros_61 rfl rfl (Nat.le_of_ble_eq_true rfl) rfl rfl ?_
          obtain rfl := Option.some.inj hf
          exact hJq6
      replace hf := hqq4
      refine g_icmp_le (tgt := 49) (pc' := 41) dJ3_numberOfTrailingZeros_38 (by decide) rfl (fun h5 => ?_) (fun h5 => ?_)
      · replace hf := (if_pos h5).symm.trans hf
        obtain rfl := Option.some.inj hf
        exact hJq4
      · replace hf := (if_neg h5).symm.trans hf
        refine g_iinc (pc' := 44) (v := q2.2 + 8) (L' := [some (.int q2.1), some (.int (q2.2 + 8))]) dJ3_numberOfTrailingZeros_41 rfl rfl rfl (Nat.le_of_ble_eq_true rfl) rfl rfl ?_
        refine g_iload_n (pc' := 45) dJ3_numberOfTrailingZeros_44 rfl rfl rfl ?_
        refine g_bipush (pc' := 47) (v := 8) dJ3_numberOfTrailingZeros_45 rfl (by decide) ?_
        refine g_iushr (pc' := 48) dJ3_numberOfTrailingZeros_47 rfl ?_
        refine g_istore_n (pc' := 49) (L' := [some (.int (((q2.1 : Int32).toUInt32 >>> ((8 : Int32).toUInt32 &&& Int32.toUInt32 31)).toInt32)), some (.int (q2.2 + 8))]) dJ3_numberOfTrailingZeros_48 rfl rfl (Nat.le_of_ble_eq_true rfl) rfl rfl ?_
        obtain rfl := Option.some.inj hf
        exact hJq4
    replace hf := hqq2
    refine g_icmp_le (tgt := 34) (pc' := 26) dJ3_numberOfTrailingZeros_23 (by decide) rfl (fun h3 => ?_) (fun h3 => ?_)
    · replace hf := (if_pos h3).symm.trans hf
      obtain rfl := Option.some.inj hf
      exact hJq2
    · replace hf := (if_neg h3).symm.trans hf
      refine g_iinc (pc' := 29) (v := 1 + 16) (L' := [some (.int ((x0 ^^^ (-1)) &&& (x0 - 1))), some (.int (1 + 16))]) dJ3_numberOfTrailingZeros_26 rfl rfl rfl (Nat.le_of_ble_eq_true rfl) rfl rfl ?_
      refine g_iload_n (pc' := 30) dJ3_numberOfTrailingZeros_29 rfl rfl rfl ?_
      refine g_bipush (pc' := 32) (v := 16) dJ3_numberOfTrailingZeros_30 rfl (by decide) ?_
      refine g_iushr (pc' := 33) dJ3_numberOfTrailingZeros_32 rfl ?_
      refine g_istore_n (pc' := 34) (L' := [some (.int (((((x0 ^^^ (-1)) &&& (x0 - 1)) : Int32).toUInt32 >>> ((16 : Int32).toUInt32 &&& Int32.toUInt32 31)).toInt32)), some (.int (1 + 16))]) dJ3_numberOfTrailingZeros_33 rfl rfl (Nat.le_of_ble_eq_true rfl) rfl rfl ?_
      obtain rfl := Option.some.inj hf
      exact hJq2
  · replace hf := (if_neg h1).symm.trans hf
    refine g_iload_n (pc' := 13) dJ3_numberOfTrailingZeros_12 rfl rfl rfl ?_
    refine g_bipush (pc' := 15) (v := 32) dJ3_numberOfTrailingZeros_13 rfl (by decide) ?_
    refine g_iand (pc' := 16) dJ3_numberOfTrailingZeros_15 rfl ?_
    obtain rfl := Option.some.inj hf
    exact g_iret dJ3_numberOfTrailingZeros_16 rfl rfl ⟨rfl, rfl⟩
