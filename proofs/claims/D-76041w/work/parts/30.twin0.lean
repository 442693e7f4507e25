/-! printed by tools/gen.py: 30.twin0 -/
set_option maxRecDepth 100000
def mdX3_partOf : bMD := (yX3_partOf, cX3_partOf, 2, (some FieldType.int), [], 1, 12)
theorem oX3_partOf : bOkc mdX3_partOf 2 := ⟨by decide +kernel, ⟨by decide +kernel, by decide +kernel⟩, by decide +kernel, q1047⟩
def fX3_partOf (x0 : Int32) (x1 : Int32) : Option Int32 :=
  some ((3 + (3 * x0)) + x1)
set_option maxHeartbeats 4000000 in
theorem wX3_partOf (g : bGh) (w : bWl) (x0 : Int32) (x1 : Int32) {r : Int32} (hf : fX3_partOf x0 x1 = some r) : bM g mdX3_partOf w [.int x0, .int x1] (q_ (eI r) w) := by
  unfold fX3_partOf at hf
  change bG _ _ 0 [some (.int x0), some (.int x1)] []
  refine g_iconst (pc' := 1) (v := 3) dX3_partOf_0 rfl (by decide) ?_
  refine g_iconst (pc' := 2) (v := 3) dX3_partOf_1 rfl (by decide) ?_
  refine g_iload_n (pc' := 3) dX3_partOf_2 rfl rfl rfl ?_
  refine g_imul (pc' := 4) dX3_partOf_3 rfl ?_
  refine g_iadd (pc' := 5) dX3_partOf_4 rfl ?_
  refine g_iload_n (pc' := 6) dX3_partOf_5 rfl rfl rfl ?_
  refine g_iadd (pc' := 7) dX3_partOf_6 rfl ?_
  obtain rfl := Option.some.inj hf
  exact g_iret dX3_partOf_7 rfl rfl ⟨rfl, rfl⟩
def mdX3_in : bMD := (yX3_in, cX3_in, 6, (some FieldType.boolean), [], 1, 12)
theorem oX3_in : bOkc mdX3_in 3 := ⟨by decide +kernel, ⟨by decide +kernel, by decide +kernel⟩, by decide +kernel, q1104⟩
def fX3_in (x0 : Int64) (x2 : Int64) (x4 : Int64) : Option Int32 :=
  (if (lg_cmp x0 x2) < 0 then
  some 0
else
  (if 0 < (lg_cmp x0 x4) then
  some 0
else
  some 1))
set_option maxHeartbeats 4000000 in
theorem wX3_in (g : bGh) (w : bWl) (x0 : Int64) (x2 : Int64) (x4 : Int64) {r : Int32} (hf : fX3_in x0 x2 x4 = some r) : bM g mdX3_in w [.long x0, .long x2, .long x4] (q_ (eI r) w) := by
  unfold fX3_in at hf
  change bG _ _ 0 [some (.long x0), none, some (.long x2), none, some (.long x4), none] []
  refine g_lload_n (pc' := 1) dX3_in_0 rfl rfl rfl ?_
  refine g_lload_n (pc' := 2) dX3_in_1 rfl rfl rfl ?_
  refine g_lcmp (pc' := 3) dX3_in_2 rfl ?_
  refine g_if_lt (tgt := 17) (pc' := 6) dX3_in_3 (by decide) rfl (fun h1 => ?_) (fun h1 => ?_)
  · replace hf := (if_pos h1).symm.trans hf
    refine g_iconst (pc' := 18) (v := 0) dX3_in_17 rfl (by decide) ?_
    obtain rfl := Option.some.inj hf
    exact g_iret dX3_in_18 rfl (by decide +kernel) ⟨rfl, rfl⟩
  · replace hf := (if_neg h1).symm.trans hf
    refine g_lload_n (pc' := 7) dX3_in_6 rfl rfl rfl ?_
    refine g_lload (pc' := 9) dX3_in_7 rfl rfl ?_
    refine g_lcmp (pc' := 10) dX3_in_9 rfl ?_
    refine g_if_gt (tgt := 17) (pc' := 13) dX3_in_10 (by decide) rfl (fun h2 => ?_) (fun h2 => ?_)
    · replace hf := (if_pos h2).symm.trans hf
      refine g_iconst (pc' := 18) (v := 0) dX3_in_17 rfl (by decide) ?_
      obtain rfl := Option.some.inj hf
      exact g_iret dX3_in_18 rfl (by decide +kernel) ⟨rfl, rfl⟩
    · replace hf := (if_neg h2).symm.trans hf
      refine g_iconst (pc' := 14) (v := 1) dX3_in_13 rfl (by decide) ?_
      refine g_goto (tgt := 18) dX3_in_14 (by decide) ?_
      obtain rfl := Option.some.inj hf
      exact g_iret dX3_in_18 rfl (by decide +kernel) ⟨rfl, rfl⟩
def mdX3_isHouse : bMD := (yX3_isHouse, cX3_isHouse, 1, (some FieldType.boolean), [], 2, 37)
theorem oX3_isHouse : bOkc mdX3_isHouse 1 := ⟨by decide +kernel, ⟨by decide +kernel, by decide +kernel⟩, by decide +kernel, q1110⟩
def fX3_isHouse (x0 : Int32) : Option Int32 :=
  Option.bind (fX3_in ((x0 : Int32).toInt64) 0 7) fun q1 =>
  bz q1 (some q1)
set_option maxHeartbeats 4000000 in
theorem wX3_isHouse (g : bGh) (w : bWl) (x0 : Int32) {r : Int32} (hf : fX3_isHouse x0 = some r) : bM g mdX3_isHouse w [.int x0] (q_ (eI r) w) := by
  unfold fX3_isHouse at hf
  change bG _ _ 0 [some (.int x0)] []
  refine g_iload_n (pc' := 1) dX3_isHouse_0 rfl rfl rfl ?_
  refine g_i2l (pc' := 2) dX3_isHouse_1 rfl ?_
  refine g_lconst (pc' := 3) (v := 0) dX3_isHouse_2 rfl (by decide) ?_
  refine g_ldc2 (pc' := 6) dX3_isHouse_3 rfl q1111 ?_
  obtain ⟨q1, hq1, hf⟩ := Option.bind_eq_some_iff.mp hf
  refine g_callS (pc' := 9) (as := [.long ((x0 : Int32).toInt64), .long 0, .long 7]) (wX3_in g _ ((x0 : Int32).toInt64) 0 7 hq1) oX3_in ⟨Nat.le_of_ble_eq_true rfl, Nat.le_of_ble_eq_true rfl⟩ dX3_isHouse_6 rfl q1102 q1103 q86 (Nat.le_of_ble_eq_true rfl) (Nat.le_of_ble_eq_true rfl) (g_rI ?_) g_nt rfl
  obtain ⟨h2, hf⟩ := bz_spec hf
  obtain rfl := Option.some.inj hf
  exact g_iret dX3_isHouse_9 rfl (bz_nar h2) ⟨rfl, rfl⟩
def mdX3_becomes : bMD := (yX3_becomes, cX3_becomes, 4, (some FieldType.int), [], 1, 12)
theorem oX3_becomes : bOkc mdX3_becomes 2 := ⟨by decide +kernel, ⟨by decide +kernel, by decide +kernel⟩, by decide +kernel, q1115⟩
def fX3_becomes (M : tM) (x1 : Int32) (x2 : Int32) : Option (Int32 × tM) :=
  Option.bind (rA M 0 x1) fun v1 =>
  Option.bind (wA M 0 x1 x2) fun w2 =>
  some (v1, w2)
set_option maxHeartbeats 4000000 in
theorem wX3_becomes (g : bGh) {A : tA} (hA : tO A) (w : bWl) (M : tM) (x1 : Int32) (x2 : Int32) {r : (Int32 × tM)} (hf : fX3_becomes M x1 x2 = some r) : bM g mdX3_becomes (tW A M w) [.ref A.1, .int x1, .int x2] (q_ (eI r.1) (tW A r.2 w)) := by
  unfold fX3_becomes at hf
  change bG _ _ 0 [some (.ref A.1), some (.int x1), some (.int x2)] []
  refine g_aload_n (pc' := 1) dX3_becomes_0 rfl rfl rfl ?_
  refine gt_get (k := 0) (pc' := 4) (by decide) dX3_becomes_1 rfl q1048 rfl ?_
  refine g_iload_n (pc' := 5) dX3_becomes_4 rfl rfl rfl ?_
  obtain ⟨v1, hv1, hf⟩ := Option.bind_eq_some_iff.mp hf
  refine gt_iald (pc' := 6) hA (by decide) dX3_becomes_5 rfl hv1 ?_
  refine g_istore_n (pc' := 7) (L' := [some (.ref A.1), some (.int x1), some (.int x2), some (.int v1)]) dX3_becomes_6 rfl rfl (Nat.le_of_ble_eq_true rfl) rfl rfl ?_
  refine g_aload_n (pc' := 8) dX3_becomes_7 rfl rfl rfl ?_
  refine gt_get (k := 0) (pc' := 11) (by decide) dX3_becomes_8 rfl q1048 rfl ?_
  refine g_iload_n (pc' := 12) dX3_becomes_11 rfl rfl rfl ?_
  refine g_iload_n (pc' := 13) dX3_becomes_12 rfl rfl rfl ?_
  obtain ⟨w2, hw2, hf⟩ := Option.bind_eq_some_iff.mp hf
  refine gt_iast (pc' := 14) hA (by decide) dX3_becomes_13 rfl hw2 ?_
  refine g_iload_n (pc' := 15) dX3_becomes_14 rfl rfl rfl ?_
  obtain rfl := Option.some.inj hf
  exact g_iret dX3_becomes_15 rfl rfl ⟨rfl, rfl⟩
def mdX3_finds : bMD := (yX3_finds, cX3_finds, 2, (some FieldType.int), [], 1, 12)
theorem oX3_finds : bOkc mdX3_finds 1 := ⟨by decide +kernel, ⟨by decide +kernel, by decide +kernel⟩, by decide +kernel, q1120⟩
def fX3_finds (M : tM) (x1 : Int32) : Option (Int32 × tM) :=
  Option.bind (rA M 4 ((-1000000001) - x1)) fun v1 =>
  Option.bind (wA M 4 ((-1000000001) - x1) (v1 + 1)) fun w2 =>
  some (x1, w2)
set_option maxHeartbeats 4000000 in
theorem wX3_finds (g : bGh) {A : tA} (hA : tO A) (w : bWl) (M : tM) (x1 : Int32) {r : (Int32 × tM)} (hf : fX3_finds M x1 = some r) : bM g mdX3_finds (tW A M w) [.ref A.1, .int x1] (q_ (eI r.1) (tW A r.2 w)) := by
  unfold fX3_finds at hf
  change bG _ _ 0 [some (.ref A.1), some (.int x1)] []
  refine g_aload_n (pc' := 1) dX3_finds_0 rfl rfl rfl ?_
  refine gt_get (k := 4) (pc' := 4) (by decide) dX3_finds_1 rfl q1052 rfl ?_
  refine g_ldc (pc' := 6) dX3_finds_4 rfl q1116 ?_
  refine g_iload_n (pc' := 7) dX3_finds_6 rfl rfl rfl ?_
  refine g_isub (pc' := 8) dX3_finds_7 rfl ?_
  refine g_dup2 (pc' := 9) dX3_finds_8 rfl rfl rfl ?_
  obtain ⟨v1, hv1, hf⟩ := Option.bind_eq_some_iff.mp hf
  refine gt_iald (pc' := 10) hA (by decide) dX3_finds_9 rfl hv1 ?_
  refine g_iconst (pc' := 11) (v := 1) dX3_finds_10 rfl (by decide) ?_
  refine g_iadd (pc' := 12) dX3_finds_11 rfl ?_
  obtain ⟨w2, hw2, hf⟩ := Option.bind_eq_some_iff.mp hf
  refine gt_iast (pc' := 13) hA (by decide) dX3_finds_12 rfl hw2 ?_
  refine g_iload_n (pc' := 14) dX3_finds_13 rfl rfl rfl ?_
  obtain rfl := Option.some.inj hf
  exact g_iret dX3_finds_14 rfl rfl ⟨rfl, rfl⟩
def mdX3_house : bMD := (yX3_house, cX3_house, 5, (some FieldType.int), [], 3, 57)
theorem oX3_house : bOkc mdX3_house 3 := ⟨by decide +kernel, ⟨by decide +kernel, by decide +kernel⟩, by decide +kernel, q1100⟩
def fX3_house (M : tM) (x1 : Int32) (x2 : Int32) (x3 : Int32) : Option (Int32 × tM) :=
  Option.bind (fX3_in ((x2 : Int32).toInt64) 0 2) fun q1 =>
  Option.bind (α := Int32) ((if q1 = 0 then
  some 0
else
  Option.bind (α := Int64) ((if x2 = 0 then
  some 3
else
  (if x2 = 1 then
  some 999
else
  some 9))) fun q4 =>
  Option.bind (fX3_in ((x3 : Int32).toInt64) 0 q4) fun q7 =>
  (if q7 = 0 then
  some 0
else
  some 1))) fun q2 =>
  Option.bind (fX3_isHouse x1) fun q9 =>
  (if q9 = 0 then
  Option.bind (fX3_finds M (-1000000001)) fun q11 =>
  some (q11.1, q11.2)
else
  (if q2 = 0 then
  Option.bind (fX3_finds M (-1000000001)) fun q13 =>
  some (q13.1, q13.2)
else
  Option.bind (fX3_partOf x1 x2) fun q14 =>
  Option.bind (fX3_becomes M q14 x3) fun q15 =>
  some (q15.1, q15.2)))
set_option maxHeartbeats 4000000 in
theorem wX3_house (g : bGh) {A : tA} (hA : tO A) (w : bWl) (M : tM) (x1 : Int32) (x2 : Int32) (x3 : Int32) {r : (Int32 × tM)} (hf : fX3_house M x1 x2 x3 = some r) : bM g mdX3_house (tW A M w) [.ref A.1, .int x1, .int x2, .int x3] (q_ (eI r.1) (tW A r.2 w)) := by
  unfold fX3_house at hf
  change bG _ _ 0 [some (.ref A.1), some (.int x1), some (.int x2), some (.int x3)] []
  refine g_iload_n (pc' := 1) dX3_house_0 rfl rfl rfl ?_
  refine g_i2l (pc' := 2) dX3_house_1 rfl ?_
  refine g_lconst (pc' := 3) (v := 0) dX3_house_2 rfl (by decide) ?_
  refine g_ldc2 (pc' := 6) dX3_house_3 rfl q1101 ?_
  obtain ⟨q1, hq1, hf⟩ := Option.bind_eq_some_iff.mp hf
  refine g_callS (pc' := 9) (as := [.long ((x2 : Int32).toInt64), .long 0, .long 2]) (wX3_in g _ ((x2 : Int32).toInt64) 0 2 hq1) oX3_in ⟨Nat.le_of_ble_eq_true rfl, Nat.le_of_ble_eq_true rfl⟩ dX3_house_6 rfl q1102 q1103 q86 (Nat.le_of_ble_eq_true rfl) (Nat.le_of_ble_eq_true rfl) (g_rI ?_) g_nt rfl
  obtain ⟨q2, hqq2, hf⟩ := Option.bind_eq_some_iff.mp hf
  have hJq2 : bG (g, mdX3_house, (tW A M w).2.1, (tW A M w).2.2.1, (q_ (eI r.1) (tW A r.2 w))) (tW A M w) 50 [some (.ref A.1), some (.int x1), some (.int x2), some (.int x3)] [.int q2] := by
    refine g_istore (pc' := 52) (L' := [some (.ref A.1), some (.int x1), some (.int x2), some (.int x3), some (.int q2)]) dX3_house_50 rfl (Nat.le_of_ble_eq_true rfl) rfl rfl ?_
    refine g_iload_n (pc' := 53) dX3_house_52 rfl rfl rfl ?_
    obtain ⟨q9, hq9, hf⟩ := Option.bind_eq_some_iff.mp hf
    refine g_callS (pc' := 56) (as := [.int x1]) (wX3_isHouse g _ x1 hq9) oX3_isHouse ⟨Nat.le_of_ble_eq_true rfl, Nat.le_of_ble_eq_true rfl⟩ dX3_house_53 rfl q1108 q1109 q86 (Nat.le_of_ble_eq_true rfl) (Nat.le_of_ble_eq_true rfl) (g_rI ?_) g_nt rfl
    refine g_if_eq (tgt := 77) (pc' := 59) dX3_house_56 (by decide) rfl (fun h10 => ?_) (fun h10 => ?_)
    · replace hf := (if_pos h10).symm.trans hf
      refine g_aload_n (pc' := 78) dX3_house_77 rfl rfl rfl ?_
      refine g_ldc (pc' := 80) dX3_house_78 rfl q1116 ?_
      obtain ⟨q11, hq11, hf⟩ := Option.bind_eq_some_iff.mp hf
      refine g_callV (pc' := 83) (mx := mdX3_finds) (as := [.int (-1000000001)]) (wX3_finds g hA _ _ (-1000000001) hq11) oX3_finds ⟨Nat.le_of_ble_eq_true rfl, Nat.le_of_ble_eq_true rfl⟩ dX3_house_80 rfl (ci := 3) rfl tC ⟨by decide +kernel, by decide +kernel⟩ oX3_finds.2.2.2 rfl q1117 q1119 qs33 qs33 q1119 (Nat.le_of_ble_eq_true rfl) (Nat.le_of_ble_eq_true rfl) (g_rI ?_) g_nt rfl
      obtain rfl := Option.some.inj hf
      exact g_iret dX3_house_83 rfl rfl ⟨rfl, rfl⟩
    · replace hf := (if_neg h10).symm.trans hf
      refine g_iload (pc' := 61) dX3_house_59 rfl rfl ?_
      refine g_if_eq (tgt := 77) (pc' := 64) dX3_house_61 (by decide) rfl (fun h12 => ?_) (fun h12 => ?_)
      · replace hf := (if_pos h12).symm.trans hf
        refine g_aload_n (pc' := 78) dX3_house_77 rfl rfl rfl ?_
        refine g_ldc (pc' := 80) dX3_house_78 rfl q1116 ?_
        obtain ⟨q13, hq13, hf⟩ := Option.bind_eq_some_iff.mp hf
        refine g_callV (pc' := 83) (mx := mdX3_finds) (as := [.int (-1000000001)]) (wX3_finds g hA _ _ (-1000000001) hq13) oX3_finds ⟨Nat.le_of_ble_eq_true rfl, Nat.le_of_ble_eq_true rfl⟩ dX3_house_80 rfl (ci := 3) rfl tC ⟨by decide +kernel, by decide +kernel⟩ oX3_finds.2.2.2 rfl q1117 q1119 qs33 qs33 q1119 (Nat.le_of_ble_eq_true rfl) (Nat.le_of_ble_eq_true rfl) (g_rI ?_) g_nt rfl
        obtain rfl := Option.some.inj hf
        exact g_iret dX3_house_83 rfl rfl ⟨rfl, rfl⟩
      · replace hf := (if_neg h12).symm.trans hf
        refine g_aload_n (pc' := 65) dX3_house_64 rfl rfl rfl ?_
        refine g_iload_n (pc' := 66) dX3_house_65 rfl rfl rfl ?_
        refine g_iload_n (pc' := 67) dX3_house_66 rfl rfl rfl ?_
        obtain ⟨q14, hq14, hf⟩ := Option.bind_eq_some_iff.mp hf
        refine g_callS (pc' := 70) (as := [.int x1, .int x2]) (wX3_partOf g _ x1 x2 hq14) oX3_partOf ⟨Nat.le_of_ble_eq_true rfl, Nat.le_of_ble_eq_true rfl⟩ dX3_house_67 rfl q1045 q1046 q86 (Nat.le_of_ble_eq_true rfl) (Nat.le_of_ble_eq_true rfl) (g_rI ?_) g_nt rfl
        refine g_iload_n (pc' := 71) dX3_house_70 rfl rfl rfl ?_
        obtain ⟨q15, hq15, hf⟩ := Option.bind_eq_some_iff.mp hf
        refine g_callV (pc' := 74) (mx := mdX3_becomes) (as := [.int q14, .int x3]) (wX3_becomes g hA _ _ q14 x3 hq15) oX3_becomes ⟨Nat.le_of_ble_eq_true rfl, Nat.le_of_ble_eq_true rfl⟩ dX3_house_71 rfl (ci := 3) rfl tC ⟨by decide +kernel, by decide +kernel⟩ oX3_becomes.2.2.2 rfl q1112 q1114 qs32 qs32 q1114 (Nat.le_of_ble_eq_true rfl) (Nat.le_of_ble_eq_true rfl) (g_rI ?_) g_nt rfl
        refine g_goto (tgt := 83) dX3_house_74 (by decide) ?_
        obtain rfl := Option.some.inj hf
        exact g_iret dX3_house_83 rfl rfl ⟨rfl, rfl⟩
  replace hf := hqq2
  refine g_if_eq (tgt := 49) (pc' := 12) dX3_house_9 (by decide) rfl (fun h3 => ?_) (fun h3 => ?_)
  · replace hf := (if_pos h3).symm.trans hf
    refine g_iconst (pc' := 50) (v := 0) dX3_house_49 rfl (by decide) ?_
    obtain rfl := Option.some.inj hf
    exact hJq2
  · replace hf := (if_neg h3).symm.trans hf
    refine g_iload_n (pc' := 13) dX3_house_12 rfl rfl rfl ?_
    refine g_i2l (pc' := 14) dX3_house_13 rfl ?_
    refine g_lconst (pc' := 15) (v := 0) dX3_house_14 rfl (by decide) ?_
    refine g_iload_n (pc' := 16) dX3_house_15 rfl rfl rfl ?_
    obtain ⟨q4, hqq4, hf⟩ := Option.bind_eq_some_iff.mp hf
    have hJq4 : bG (g, mdX3_house, (tW A M w).2.1, (tW A M w).2.2.1, (q_ (eI r.1) (tW A r.2 w))) (tW A M w) 39 [some (.ref A.1), some (.int x1), some (.int x2), some (.int x3)] [.long q4, .long 0, .long ((x3 : Int32).toInt64)] := by
      obtain ⟨q7, hq7, hf⟩ := Option.bind_eq_some_iff.mp hf
      refine g_callS (pc' := 42) (as := [.long ((x3 : Int32).toInt64), .long 0, .long q4]) (wX3_in g _ ((x3 : Int32).toInt64) 0 q4 hq7) oX3_in ⟨Nat.le_of_ble_eq_true rfl, Nat.le_of_ble_eq_true rfl⟩ dX3_house_39 rfl q1102 q1103 q86 (Nat.le_of_ble_eq_true rfl) (Nat.le_of_ble_eq_true rfl) (g_rI ?_) g_nt rfl
      refine g_if_eq (tgt := 49) (pc' := 45) dX3_house_42 (by decide) rfl (fun h8 => ?_) (fun h8 => ?_)
      · replace hf := (if_pos h8).symm.trans hf
        refine g_iconst (pc' := 50) (v := 0) dX3_house_49 rfl (by decide) ?_
        obtain rfl := Option.some.inj hf
        exact hJq2
      · replace hf := (if_neg h8).symm.trans hf
        refine g_iconst (pc' := 46) (v := 1) dX3_house_45 rfl (by decide) ?_
        refine g_goto (tgt := 50) dX3_house_46 (by decide) ?_
        obtain rfl := Option.some.inj hf
        exact hJq2
    replace hf := hqq4
    refine g_if_ne (tgt := 25) (pc' := 19) dX3_house_16 (by decide) rfl (fun h5 => ?_) (fun h5 => ?_)
    · replace hf := (if_neg h5).symm.trans hf
      refine g_iload_n (pc' := 26) dX3_house_25 rfl rfl rfl ?_
      refine g_iconst (pc' := 27) (v := 1) dX3_house_26 rfl (by decide) ?_
      refine g_icmp_ne (tgt := 36) (pc' := 30) dX3_house_27 (by decide) rfl (fun h6 => ?_) (fun h6 => ?_)
      · replace hf := (if_neg h6).symm.trans hf
        refine g_ldc2 (pc' := 39) dX3_house_36 rfl q1107 ?_
        obtain rfl := Option.some.inj hf
        exact hJq4
      · replace hf := (if_pos h6).symm.trans hf
        refine g_ldc2 (pc' := 33) dX3_house_30 rfl q1106 ?_
        refine g_goto (tgt := 39) dX3_house_33 (by decide) ?_
        obtain rfl := Option.some.inj hf
        exact hJq4
    · replace hf := (if_pos h5).symm.trans hf
      refine g_ldc2 (pc' := 22) dX3_house_19 rfl q1105 ?_
      refine g_goto (tgt := 39) dX3_house_22 (by decide) ?_
      obtain rfl := Option.some.inj hf
      exact hJq4
def mdX3_has : bMD := (yX3_has, cX3_has, 3, (some FieldType.int), [], 2, 33)
theorem oX3_has : bOkc mdX3_has 2 := ⟨by decide +kernel, ⟨by decide +kernel, by decide +kernel⟩, by decide +kernel, q1129⟩
def fX3_has (M : tM) (x1 : Int32) (x2 : Int32) : Option Int32 :=
  Option.bind (fX3_partOf x1 x2) fun q1 =>
  Option.bind (rA M 0 q1) fun v2 =>
  some v2
set_option maxHeartbeats 4000000 in
theorem wX3_has (g : bGh) {A : tA} (hA : tO A) (w : bWl) (M : tM) (x1 : Int32) (x2 : Int32) {r : Int32} (hf : fX3_has M x1 x2 = some r) : bM g mdX3_has (tW A M w) [.ref A.1, .int x1, .int x2] (q_ (eI r) (tW A M w)) := by
  unfold fX3_has at hf
  change bG _ _ 0 [some (.ref A.1), some (.int x1), some (.int x2)] []
  refine g_aload_n (pc' := 1) dX3_has_0 rfl rfl rfl ?_
  refine gt_get (k := 0) (pc' := 4) (by decide) dX3_has_1 rfl q1048 rfl ?_
  refine g_iload_n (pc' := 5) dX3_has_4 rfl rfl rfl ?_
  refine g_iload_n (pc' := 6) dX3_has_5 rfl rfl rfl ?_
  obtain ⟨q1, hq1, hf⟩ := Option.bind_eq_some_iff.mp hf
  refine g_callS (pc' := 9) (as := [.int x1, .int x2]) (wX3_partOf g _ x1 x2 hq1) oX3_partOf ⟨Nat.le_of_ble_eq_true rfl, Nat.le_of_ble_eq_true rfl⟩ dX3_has_6 rfl q1045 q1046 q86 (Nat.le_of_ble_eq_true rfl) (Nat.le_of_ble_eq_true rfl) (g_rI ?_) g_nt rfl
  obtain ⟨v2, hv2, hf⟩ := Option.bind_eq_some_iff.mp hf
  refine gt_iald (pc' := 10) hA (by decide) dX3_has_9 rfl hv2 ?_
  obtain rfl := Option.some.inj hf
  exact g_iret dX3_has_10 rfl rfl ⟨rfl, rfl⟩
def mdX3_spotOf : bMD := (yX3_spotOf, cX3_spotOf, 2, (some FieldType.int), [], 1, 12)
theorem oX3_spotOf : bOkc mdX3_spotOf 2 := ⟨by decide +kernel, ⟨by decide +kernel, by decide +kernel⟩, by decide +kernel, q1140⟩
def fX3_spotOf (x0 : Int32) (x1 : Int32) : Option Int32 :=
  some ((27 + (5 * x0)) + x1)
set_option maxHeartbeats 4000000 in
theorem wX3_spotOf (g : bGh) (w : bWl) (x0 : Int32) (x1 : Int32) {r : Int32} (hf : fX3_spotOf x0 x1 = some r) : bM g mdX3_spotOf w [.int x0, .int x1] (q_ (eI r) w) := by
  unfold fX3_spotOf at hf
  change bG _ _ 0 [some (.int x0), some (.int x1)] []
  refine g_bipush (pc' := 2) (v := 27) dX3_spotOf_0 rfl (by decide) ?_
  refine g_iconst (pc' := 3) (v := 5) dX3_spotOf_2 rfl (by decide) ?_
  refine g_iload_n (pc' := 4) dX3_spotOf_3 rfl rfl rfl ?_
  refine g_imul (pc' := 5) dX3_spotOf_4 rfl ?_
  refine g_iadd (pc' := 6) dX3_spotOf_5 rfl ?_
  refine g_iload_n (pc' := 7) dX3_spotOf_6 rfl rfl rfl ?_
  refine g_iadd (pc' := 8) dX3_spotOf_7 rfl ?_
  obtain rfl := Option.some.inj hf
  exact g_iret dX3_spotOf_8 rfl rfl ⟨rfl, rfl⟩
def mdX3_its : bMD := (yX3_its, cX3_its, 3, (some FieldType.int), [], 2, 33)
theorem oX3_its : bOkc mdX3_its 2 := ⟨by decide +kernel, ⟨by decide +kernel, by decide +kernel⟩, by decide +kernel, q1137⟩
def fX3_its (M : tM) (x1 : Int32) (x2 : Int32) : Option Int32 :=
  Option.bind (fX3_spotOf x1 x2) fun q1 =>
  Option.bind (rA M 0 q1) fun v2 =>
  some v2
set_option maxHeartbeats 4000000 in
theorem wX3_its (g : bGh) {A : tA} (hA : tO A) (w : bWl) (M : tM) (x1 : Int32) (x2 : Int32) {r : Int32} (hf : fX3_its M x1 x2 = some r) : bM g mdX3_its (tW A M w) [.ref A.1, .int x1, .int x2] (q_ (eI r) (tW A M w)) := by
  unfold fX3_its at hf
  change bG _ _ 0 [some (.ref A.1), some (.int x1), some (.int x2)] []
  refine g_aload_n (pc' := 1) dX3_its_0 rfl rfl rfl ?_
  refine gt_get (k := 0) (pc' := 4) (by decide) dX3_its_1 rfl q1048 rfl ?_
  refine g_iload_n (pc' := 5) dX3_its_4 rfl rfl rfl ?_
  refine g_iload_n (pc' := 6) dX3_its_5 rfl rfl rfl ?_
  obtain ⟨q1, hq1, hf⟩ := Option.bind_eq_some_iff.mp hf
  refine g_callS (pc' := 9) (as := [.int x1, .int x2]) (wX3_spotOf g _ x1 x2 hq1) oX3_spotOf ⟨Nat.le_of_ble_eq_true rfl, Nat.le_of_ble_eq_true rfl⟩ dX3_its_6 rfl q1138 q1139 q86 (Nat.le_of_ble_eq_true rfl) (Nat.le_of_ble_eq_true rfl) (g_rI ?_) g_nt rfl
  obtain ⟨v2, hv2, hf⟩ := Option.bind_eq_some_iff.mp hf
  refine gt_iald (pc' := 10) hA (by decide) dX3_its_9 rfl hv2 ?_
  obtain rfl := Option.some.inj hf
  exact g_iret dX3_its_10 rfl rfl ⟨rfl, rfl⟩
def mdX3_thoseAt : bMD := (yX3_thoseAt, cX3_thoseAt, 4, (some FieldType.int), [], 3, 55)
theorem oX3_thoseAt : bOkc mdX3_thoseAt 1 := ⟨by decide +kernel, ⟨by decide +kernel, by decide +kernel⟩, by decide +kernel, q1133⟩
def fX3_thoseAt_l4 (M : tM) (y1 : Int32) (rec : (Int32 × Int32) → Option (Int32 × Int32)) (s : Int32 × Int32) : Option (Int32 × Int32) :=
  Option.bind (rA M 0 0) fun v1 =>
  (if v1 ≤ s.2 then
  some (s.1, s.2)
else
  Option.bind (fX3_its M s.2 4) fun q3 =>
  Option.bind (α := Int32) ((if q3 = y1 then
  some (1 <<< (s.2 &&& 31))
else
  some 0)) fun q4 =>
  rec ((s.1 ||| q4), (s.2 + 1)))
def fX3_thoseAt (M : tM) (x1 : Int32) : Option Int32 :=
  Option.bind (lpF (fX3_thoseAt_l4 M x1) FU (0, 0)) fun q6 =>
  some q6.1
set_option maxHeartbeats 4000000 in
theorem wX3_thoseAt_l4 {g : bGh} {A : tA} (hA : tO A) {w : bWl} {M : tM} {n0 u0 : Nat} {Q : Outcome → bWl → Prop} (y1 : Int32) : ∀ (n : Nat) (s : Int32 × Int32) (r : (Int32 × Int32)), lpF (fX3_thoseAt_l4 M y1) n s = some r → bG (g, mdX3_thoseAt, n0, u0, Q) (tW A M w) 40 [some (.ref A.1), some (.int y1), some (.int r.1), some (.int r.2)] [] → bG (g, mdX3_thoseAt, n0, u0, Q) (tW A M w) 4 [some (.ref A.1), some (.int y1), some (.int s.1), some (.int s.2)] [] := by
  intro n
  induction n with
  | zero => intro s r hf; cases hf
  | succ n ih =>
    intro s r hf kx
    rw [lpF_s] at hf
    unfold fX3_thoseAt_l4 at hf
    refine g_iload_n (pc' := 5) dX3_thoseAt_4 rfl rfl rfl ?_
    refine g_aload_n (pc' := 6) dX3_thoseAt_5 rfl rfl rfl ?_
    refine gt_get (k := 0) (pc' := 9) (by decide) dX3_thoseAt_6 rfl q1048 rfl ?_
    refine g_iconst (pc' := 10) (v := 0) dX3_thoseAt_9 rfl (by decide) ?_
    obtain ⟨v1, hv1, hf⟩ := Option.bind_eq_some_iff.mp hf
    refine gt_iald (pc' := 11) hA (by decide) dX3_thoseAt_10 rfl hv1 ?_
    refine g_icmp_ge (tgt := 40) (pc' := 14) dX3_thoseAt_11 (by decide) rfl (fun h2 => ?_) (fun h2 => ?_)
    · replace hf := (if_pos h2).symm.trans hf
      obtain rfl := Option.some.inj hf
      exact kx
    · replace hf := (if_neg h2).symm.trans hf
      refine g_iload_n (pc' := 15) dX3_thoseAt_14 rfl rfl rfl ?_
      refine g_aload_n (pc' := 16) dX3_thoseAt_15 rfl rfl rfl ?_
      refine g_iload_n (pc' := 17) dX3_thoseAt_16 rfl rfl rfl ?_
      refine g_iconst (pc' := 18) (v := 4) dX3_thoseAt_17 rfl (by decide) ?_
      obtain ⟨q3, hq3, hf⟩ := Option.bind_eq_some_iff.mp hf
      refine g_callV (pc' := 21) (mx := mdX3_its) (as := [.int s.2, .int 4]) (wX3_its g hA _ _ s.2 4 hq3) oX3_its ⟨Nat.le_of_ble_eq_true rfl, Nat.le_of_ble_eq_true rfl⟩ dX3_thoseAt_18 rfl (ci := 3) rfl tC ⟨by decide +kernel, by decide +kernel⟩ oX3_its.2.2.2 rfl q1134 q1136 qs36 qs36 q1136 (Nat.le_of_ble_eq_true rfl) (Nat.le_of_ble_eq_true rfl) (g_rI ?_) g_nt rfl
      refine g_iload_n (pc' := 22) dX3_thoseAt_21 rfl rfl rfl ?_
      obtain ⟨q4, hqq4, hf⟩ := Option.bind_eq_some_iff.mp hf
      have hJq4 : bG (g, mdX3_thoseAt, n0, u0, Q) (tW A M w) 32 [some (.ref A.1), some (.int y1), none, some (.int s.2)] [.int q4, .int s.1] := by
        refine g_ior (pc' := 33) dX3_thoseAt_32 rfl ?_
        refine g_istore_n (pc' := 34) (L' := [some (.ref A.1), some (.int y1), some (.int (s.1 ||| q4)), some (.int s.2)]) dX3_thoseAt_33 rfl rfl (Nat.le_of_ble_eq_true rfl) rfl rfl ?_
        refine g_iinc (pc' := 37) (v := s.2 + 1) (L' := [some (.ref A.1), some (.int y1), some (.int (s.1 ||| q4)), some (.int (s.2 + 1))]) dX3_thoseAt_34 rfl rfl rfl (Nat.le_of_ble_eq_true rfl) rfl rfl ?_
        refine g_goto (tgt := 4) dX3_thoseAt_37 (by decide) ?_
        exact ih _ r hf kx
      replace hf := hqq4
      refine g_icmp_ne (tgt := 31) (pc' := 25) dX3_thoseAt_22 (by decide) rfl (fun h5 => ?_) (fun h5 => ?_)
      · replace hf := (if_neg h5).symm.trans hf
        refine g_iconst (pc' := 32) (v := 0) dX3_thoseAt_31 rfl (by decide) ?_
        obtain rfl := Option.some.inj hf
        refine g_drop [2] (L' := [some (.ref A.1), some (.int y1), none, some (.int s.2)]) rfl ?_
        exact hJq4
      · replace hf := (if_pos h5).symm.trans hf
        refine g_iconst (pc' := 26) (v := 1) dX3_thoseAt_25 rfl (by decide) ?_
        refine g_iload_n (pc' := 27) dX3_thoseAt_26 rfl rfl rfl ?_
        refine g_ishl (pc' := 28) dX3_thoseAt_27 rfl ?_
        refine g_goto (tgt := 32) dX3_thoseAt_28 (by decide) ?_
        obtain rfl := Option.some.inj hf
        refine g_drop [2] (L' := [some (.ref A.1), some (.int y1), none, some (.int s.2)]) rfl ?_
        exact hJq4
set_option maxHeartbeats 4000000 in
theorem wX3_thoseAt (g : bGh) {A : tA} (hA : tO A) (w : bWl) (M : tM) (x1 : Int32) {r : Int32} (hf : fX3_thoseAt M x1 = some r) : bM g mdX3_thoseAt (tW A M w) [.ref A.1, .int x1] (q_ (eI r) (tW A M w)) := by
  unfold fX3_thoseAt at hf
  change bG _ _ 0 [some (.ref A.1), some (.int x1)] []
  refine g_iconst (pc' := 1) (v := 0) dX3_thoseAt_0 rfl (by decide) ?_
  refine g_istore_n (pc' := 2) (L' := [some (.ref A.1), some (.int x1), some (.int 0)]) dX3_thoseAt_1 rfl rfl (Nat.le_of_ble_eq_true rfl) rfl rfl ?_
  refine g_iconst (pc' := 3) (v := 0) dX3_thoseAt_2 rfl (by decide) ?_
  refine g_istore_n (pc' := 4) (L' := [some (.ref A.1), some (.int x1), some (.int 0), some (.int 0)]) dX3_thoseAt_3 rfl rfl (Nat.le_of_ble_eq_true rfl) rfl rfl ?_
  obtain ⟨q6, hq6, hf⟩ := Option.bind_eq_some_iff.mp hf
  refine wX3_thoseAt_l4 hA x1 FU (0, 0) q6 hq6 ?_
  refine g_iload_n (pc' := 41) dX3_thoseAt_40 rfl rfl rfl ?_
  obtain rfl := Option.some.inj hf
  exact g_iret dX3_thoseAt_41 rfl rfl ⟨rfl, rfl⟩
def mdX3_eventsAt : bMD := (yX3_eventsAt, cX3_eventsAt, 4, (some FieldType.int), [], 3, 55)
theorem oX3_eventsAt : bOkc mdX3_eventsAt 1 := ⟨by decide +kernel, ⟨by decide +kernel, by decide +kernel⟩, by decide +kernel, q1144⟩
def fX3_eventsAt_l4 (M : tM) (y1 : Int32) (rec : (Int32 × Int32) → Option (Int32 × Int32)) (s : Int32 × Int32) : Option (Int32 × Int32) :=
  Option.bind (rA M 0 0) fun v1 =>
  (if v1 ≤ s.2 then
  some (s.1, s.2)
else
  Option.bind (fX3_its M s.2 4) fun q3 =>
  Option.bind (α := Int32) ((if q3 = y1 then
  Option.bind (fX3_its M s.2 1) fun q6 =>
  some (1 <<< (q6 &&& 31))
else
  some 0)) fun q4 =>
  rec ((s.1 ||| q4), (s.2 + 1)))
def fX3_eventsAt (M : tM) (x1 : Int32) : Option Int32 :=
  Option.bind (lpF (fX3_eventsAt_l4 M x1) FU (0, 0)) fun q7 =>
  some q7.1
set_option maxHeartbeats 4000000 in
theorem wX3_eventsAt_l4 {g : bGh} {A : tA} (hA : tO A) {w : bWl} {M : tM} {n0 u0 : Nat} {Q : Outcome → bWl → Prop} (y1 : Int32) : ∀ (n : Nat) (s : Int32 × Int32) (r : (Int32 × Int32)), lpF (fX3_eventsAt_l4 M y1) n s = some r → bG (g, mdX3_eventsAt, n0, u0, Q) (tW A M w) 45 [some (.ref A.1), some (.int y1), some (.int r.1), some (.int r.2)] [] → bG (g, mdX3_eventsAt, n0, u0, Q) (tW A M w) 4 [some (.ref A.1), some (.int y1), some (.int s.1), some (.int s.2)] [] := by
  intro n
  induction n with
  | zero => intro s r hf; cases hf
  | succ n ih =>
    intro s r hf kx
    rw [lpF_s] at hf
    unfold fX3_eventsAt_l4 at hf
    refine g_iload_n (pc' := 5) dX3_eventsAt_4 rfl rfl rfl ?_
    refine g_aload_n (pc' := 6) dX3_eventsAt_5 rfl rfl rfl ?_
    refine gt_get (k := 0) (pc' := 9) (by decide) dX3_eventsAt_6 rfl q1048 rfl ?_
    refine g_iconst (pc' := 10) (v := 0) dX3_eventsAt_9 rfl (by decide) ?_
    obtain ⟨v1, hv1, hf⟩ := Option.bind_eq_some_iff.mp hf
    refine gt_iald (pc' := 11) hA (by decide) dX3_eventsAt_10 rfl hv1 ?_
    refine g_icmp_ge (tgt := 45) (pc' := 14) dX3_eventsAt_11 (by decide) rfl (fun h2 => ?_) (fun h2 => ?_)
    · replace hf := (if_pos h2).symm.trans hf
      obtain rfl := Option.some.inj hf
      exact kx
    · replace hf := (if_neg h2).symm.trans hf
      refine g_iload_n (pc' := 15) dX3_eventsAt_14 rfl rfl rfl ?_
      refine g_aload_n (pc' := 16) dX3_eventsAt_15 rfl rfl rfl ?_
      refine g_iload_n (pc' := 17) dX3_eventsAt_16 rfl rfl rfl ?_
      refine g_iconst (pc' := 18) (v := 4) dX3_eventsAt_17 rfl (by decide) ?_
      obtain ⟨q3, hq3, hf⟩ := Option.bind_eq_some_iff.mp hf
      refine g_callV (pc' := 21) (mx := mdX3_its) (as := [.int s.2, .int 4]) (wX3_its g hA _ _ s.2 4 hq3) oX3_its ⟨Nat.le_of_ble_eq_true rfl, Nat.le_of_ble_eq_true rfl⟩ dX3_eventsAt_18 rfl (ci := 3) rfl tC ⟨by decide +kernel, by decide +kernel⟩ oX3_its.2.2.2 rfl q1134 q1136 qs36 qs36 q1136 (Nat.le_of_ble_eq_true rfl) (Nat.le_of_ble_eq_true rfl) (g_rI ?_) g_nt rfl
      refine g_iload_n (pc' := 22) dX3_eventsAt_21 rfl rfl rfl ?_
      obtain ⟨q4, hqq4, hf⟩ := Option.bind_eq_some_iff.mp hf
      have hJq4 : bG (g, mdX3_eventsAt, n0, u0, Q) (tW A M w) 37 [some (.ref A.1), some (.int y1), none, some (.int s.2)] [.int q4, .int s.1] := by
        refine g_ior (pc' := 38) dX3_eventsAt_37 rfl ?_
        refine g_istore_n (pc' := 39) (L' := [some (.ref A.1), some (.int y1), some (.int (s.1 ||| q4)), some (.int s.2)]) dX3_eventsAt_38 rfl rfl (Nat.le_of_ble_eq_true rfl) rfl rfl ?_
        refine g_iinc (pc' := 42) (v := s.2 + 1) (L' := [some (.ref A.1), some (.int y1), some (.int (s.1 ||| q4)), some (.int (s.2 + 1))]) dX3_eventsAt_39 rfl rfl rfl (Nat.le_of_ble_eq_true rfl) rfl rfl ?_
        refine g_goto (tgt := 4) dX3_eventsAt_42 (by decide) ?_
        exact ih _ r hf kx
      replace hf := hqq4
      refine g_icmp_ne (tgt := 36) (pc' := 25) dX3_eventsAt_22 (by decide) rfl (fun h5 => ?_) (fun h5 => ?_)
      · replace hf := (if_neg h5).symm.trans hf
        refine g_iconst (pc' := 37) (v := 0) dX3_eventsAt_36 rfl (by decide) ?_
        obtain rfl := Option.some.inj hf
        refine g_drop [2] (L' := [some (.ref A.1), some (.int y1), none, some (.int s.2)]) rfl ?_
        exact hJq4
      · replace hf := (if_pos h5).symm.trans hf
        refine g_iconst (pc' := 26) (v := 1) dX3_eventsAt_25 rfl (by decide) ?_
        refine g_aload_n (pc' := 27) dX3_eventsAt_26 rfl rfl rfl ?_
        refine g_iload_n (pc' := 28) dX3_eventsAt_27 rfl rfl rfl ?_
        refine g_iconst (pc' := 29) (v := 1) dX3_eventsAt_28 rfl (by decide) ?_
        obtain ⟨q6, hq6, hf⟩ := Option.bind_eq_some_iff.mp hf
        refine g_callV (pc' := 32) (mx := mdX3_its) (as := [.int s.2, .int 1]) (wX3_its g hA _ _ s.2 1 hq6) oX3_its ⟨Nat.le_of_ble_eq_true rfl, Nat.le_of_ble_eq_true rfl⟩ dX3_eventsAt_29 rfl (ci := 3) rfl tC ⟨by decide +kernel, by decide +kernel⟩ oX3_its.2.2.2 rfl q1134 q1136 qs36 qs36 q1136 (Nat.le_of_ble_eq_true rfl) (Nat.le_of_ble_eq_true rfl) (g_rI ?_) g_nt rfl
        refine g_ishl (pc' := 33) dX3_eventsAt_32 rfl ?_
        refine g_goto (tgt := 37) dX3_eventsAt_33 (by decide) ?_
        obtain rfl := Option.some.inj hf
        refine g_drop [2] (L' := [some (.ref A.1), some (.int y1), none, some (.int s.2)]) rfl ?_
        exact hJq4
set_option maxHeartbeats 4000000 in
theorem wX3_eventsAt (g : bGh) {A : tA} (hA : tO A) (w : bWl) (M : tM) (x1 : Int32) {r : Int32} (hf : fX3_eventsAt M x1 = some r) : bM g mdX3_eventsAt (tW A M w) [.ref A.1, .int x1] (q_ (eI r) (tW A M w)) := by
  unfold fX3_eventsAt at hf
  change bG _ _ 0 [some (.ref A.1), some (.int x1)] []
  refine g_iconst (pc' := 1) (v := 0) dX3_eventsAt_0 rfl (by decide) ?_
  refine g_istore_n (pc' := 2) (L' := [some (.ref A.1), some (.int x1), some (.int 0)]) dX3_eventsAt_1 rfl rfl (Nat.le_of_ble_eq_true rfl) rfl rfl ?_
  refine g_iconst (pc' := 3) (v := 0) dX3_eventsAt_2 rfl (by decide) ?_
  refine g_istore_n (pc' := 4) (L' := [some (.ref A.1), some (.int x1), some (.int 0), some (.int 0)]) dX3_eventsAt_3 rfl rfl (Nat.le_of_ble_eq_true rfl) rfl rfl ?_
  obtain ⟨q7, hq7, hf⟩ := Option.bind_eq_some_iff.mp hf
  refine wX3_eventsAt_l4 hA x1 FU (0, 0) q7 hq7 ?_
  refine g_iload_n (pc' := 46) dX3_eventsAt_45 rfl rfl rfl ?_
  obtain rfl := Option.some.inj hf
  exact g_iret dX3_eventsAt_46 rfl rfl ⟨rfl, rfl⟩
def mdX3_eats : bMD := (yX3_eats, cX3_eats, 4, (some FieldType.int), [], 3, 55)
theorem oX3_eats : bOkc mdX3_eats 1 := ⟨by decide +kernel, ⟨by decide +kernel, by decide +kernel⟩, by decide +kernel, q1152⟩
def fX3_eats (M : tM) (x1 : Int32) : Option Int32 :=
  Option.bind (fX3_its M x1 2) fun q1 =>
  Option.bind (fX3_its M x1 3) fun q2 =>
  Option.bind (fX3_its M x1 0) fun q3 =>
  (if q3 = 1 then
  some (2 * ((q1 / 10) + 1))
else
  (if q3 = 2 then
  some 1
else
  (if q3 = 3 then
  (if 0 ≤ (((q1 / 10) + 1) - (q2 / 10)) then
  some (((q1 / 10) + 1) - (q2 / 10))
else
  some 0)
else
  (if q3 = 4 then
  some ((2 * ((q1 / 10) + 1)) + 3)
else
  (if q3 = 5 then
  some 0
else
  some ((q1 / 10) + 1))))))
set_option maxHeartbeats 4000000 in
theorem wX3_eats (g : bGh) {A : tA} (hA : tO A) (w : bWl) (M : tM) (x1 : Int32) {r : Int32} (hf : fX3_eats M x1 = some r) : bM g mdX3_eats (tW A M w) [.ref A.1, .int x1] (q_ (eI r) (tW A M w)) := by
  unfold fX3_eats at hf
  change bG _ _ 0 [some (.ref A.1), some (.int x1)] []
  refine g_aload_n (pc' := 1) dX3_eats_0 rfl rfl rfl ?_
  refine g_iload_n (pc' := 2) dX3_eats_1 rfl rfl rfl ?_
  refine g_iconst (pc' := 3) (v := 2) dX3_eats_2 rfl (by decide) ?_
  obtain ⟨q1, hq1, hf⟩ := Option.bind_eq_some_iff.mp hf
  refine g_callV (pc' := 6) (mx := mdX3_its) (as := [.int x1, .int 2]) (wX3_its g hA _ _ x1 2 hq1) oX3_its ⟨Nat.le_of_ble_eq_true rfl, Nat.le_of_ble_eq_true rfl⟩ dX3_eats_3 rfl (ci := 3) rfl tC ⟨by decide +kernel, by decide +kernel⟩ oX3_its.2.2.2 rfl q1134 q1136 qs36 qs36 q1136 (Nat.le_of_ble_eq_true rfl) (Nat.le_of_ble_eq_true rfl) (g_rI ?_) g_nt rfl
  refine g_bipush (pc' := 8) (v := 10) dX3_eats_6 rfl (by decide) ?_
  refine g_idiv (pc' := 9) dX3_eats_8 rfl (by decide) ?_
  refine g_iconst (pc' := 10) (v := 1) dX3_eats_9 rfl (by decide) ?_
  refine g_iadd (pc' := 11) dX3_eats_10 rfl ?_
  refine g_istore_n (pc' := 12) (L' := [some (.ref A.1), some (.int x1), some (.int ((q1 / 10) + 1))]) dX3_eats_11 rfl rfl (Nat.le_of_ble_eq_true rfl) rfl rfl ?_
  refine g_iload_n (pc' := 13) dX3_eats_12 rfl rfl rfl ?_
  refine g_aload_n (pc' := 14) dX3_eats_13 rfl rfl rfl ?_
  refine g_iload_n (pc' := 15) dX3_eats_14 rfl rfl rfl ?_
  refine g_iconst (pc' := 16) (v := 3) dX3_eats_15 rfl (by decide) ?_
  obtain ⟨q2, hq2, hf⟩ := Option.bind_eq_some_iff.mp hf
  refine g_callV (pc' := 19) (mx := mdX3_its) (as := [.int x1, .int 3]) (wX3_its g hA _ _ x1 3 hq2) oX3_its ⟨Nat.le_of_ble_eq_true rfl, Nat.le_of_ble_eq_true rfl⟩ dX3_eats_16 rfl (ci := 3) rfl tC ⟨by decide +kernel, by decide +kernel⟩ oX3_its.2.2.2 rfl q1134 q1136 qs36 qs36 q1136 (Nat.le_of_ble_eq_true rfl) (Nat.le_of_ble_eq_true rfl) (g_rI ?_) g_nt rfl
  refine g_bipush (pc' := 21) (v := 10) dX3_eats_19 rfl (by decide) ?_
  refine g_idiv (pc' := 22) dX3_eats_21 rfl (by decide) ?_
  refine g_isub (pc' := 23) dX3_eats_22 rfl ?_
  refine g_istore_n (pc' := 24) (L' := [some (.ref A.1), some (.int x1), some (.int ((q1 / 10) + 1)), some (.int (((q1 / 10) + 1) - (q2 / 10)))]) dX3_eats_23 rfl rfl (Nat.le_of_ble_eq_true rfl) rfl rfl ?_
  refine g_aload_n (pc' := 25) dX3_eats_24 rfl rfl rfl ?_
  refine g_iload_n (pc' := 26) dX3_eats_25 rfl rfl rfl ?_
  refine g_iconst (pc' := 27) (v := 0) dX3_eats_26 rfl (by decide) ?_
  obtain ⟨q3, hq3, hf⟩ := Option.bind_eq_some_iff.mp hf
  refine g_callV (pc' := 30) (mx := mdX3_its) (as := [.int x1, .int 0]) (wX3_its g hA _ _ x1 0 hq3) oX3_its ⟨Nat.le_of_ble_eq_true rfl, Nat.le_of_ble_eq_true rfl⟩ dX3_eats_27 rfl (ci := 3) rfl tC ⟨by decide +kernel, by decide +kernel⟩ oX3_its.2.2.2 rfl q1134 q1136 qs36 qs36 q1136 (Nat.le_of_ble_eq_true rfl) (Nat.le_of_ble_eq_true rfl) (g_rI ?_) g_nt rfl
  by_cases h4 : q3 = 1
  · replace hf := (if_pos h4).symm.trans hf
    refine g_tableIn (tgt := 64) dX3_eats_30 (by rw [h4]; decide) (by rw [h4]; decide) (by rw [h4]; rfl) (by decide) ?_
    refine g_iconst (pc' := 65) (v := 2) dX3_eats_64 rfl (by decide) ?_
    refine g_iload_n (pc' := 66) dX3_eats_65 rfl rfl rfl ?_
    refine g_imul (pc' := 67) dX3_eats_66 rfl ?_
    obtain rfl := Option.some.inj hf
    exact g_iret dX3_eats_67 rfl rfl ⟨rfl, rfl⟩
  · replace hf := (if_neg h4).symm.trans hf
    by_cases h5 : q3 = 2
    · replace hf := (if_pos h5).symm.trans hf
      refine g_tableIn (tgt := 68) dX3_eats_30 (by rw [h5]; decide) (by rw [h5]; decide) (by rw [h5]; rfl) (by decide) ?_
      refine g_iconst (pc' := 69) (v := 1) dX3_eats_68 rfl (by decide) ?_
      obtain rfl := Option.some.inj hf
      exact g_iret dX3_eats_69 rfl rfl ⟨rfl, rfl⟩
    · replace hf := (if_neg h5).symm.trans hf
      by_cases h6 : q3 = 3
      · replace hf := (if_pos h6).symm.trans hf
        refine g_tableIn (tgt := 70) dX3_eats_30 (by rw [h6]; decide) (by rw [h6]; decide) (by rw [h6]; rfl) (by decide) ?_
        refine g_iload_n (pc' := 71) dX3_eats_70 rfl rfl rfl ?_
        refine g_if_ge (tgt := 78) (pc' := 74) dX3_eats_71 (by decide) rfl (fun h7 => ?_) (fun h7 => ?_)
        · replace hf := (if_pos h7).symm.trans hf
          refine g_iload_n (pc' := 79) dX3_eats_78 rfl rfl rfl ?_
          obtain rfl := Option.some.inj hf
          exact g_iret dX3_eats_79 rfl rfl ⟨rfl, rfl⟩
        · replace hf := (if_neg h7).symm.trans hf
          refine g_iconst (pc' := 75) (v := 0) dX3_eats_74 rfl (by decide) ?_
          refine g_goto (tgt := 79) dX3_eats_75 (by decide) ?_
          obtain rfl := Option.some.inj hf
          exact g_iret dX3_eats_79 rfl rfl ⟨rfl, rfl⟩
      · replace hf := (if_neg h6).symm.trans hf
        by_cases h8 : q3 = 4
        · replace hf := (if_pos h8).symm.trans hf
          refine g_tableIn (tgt := 80) dX3_eats_30 (by rw [h8]; decide) (by rw [h8]; decide) (by rw [h8]; rfl) (by decide) ?_
          refine g_iconst (pc' := 81) (v := 2) dX3_eats_80 rfl (by decide) ?_
          refine g_iload_n (pc' := 82) dX3_eats_81 rfl rfl rfl ?_
          refine g_imul (pc' := 83) dX3_eats_82 rfl ?_
          refine g_iconst (pc' := 84) (v := 3) dX3_eats_83 rfl (by decide) ?_
          refine g_iadd (pc' := 85) dX3_eats_84 rfl ?_
          obtain rfl := Option.some.inj hf
          exact g_iret dX3_eats_85 rfl rfl ⟨rfl, rfl⟩
        · replace hf := (if_neg h8).symm.trans hf
          by_cases h9 : q3 = 5
          · replace hf := (if_pos h9).symm.trans hf
            refine g_tableIn (tgt := 86) dX3_eats_30 (by rw [h9]; decide) (by rw [h9]; decide) (by rw [h9]; rfl) (by decide) ?_
            refine g_iconst (pc' := 87) (v := 0) dX3_eats_86 rfl (by decide) ?_
            obtain rfl := Option.some.inj hf
            exact g_iret dX3_eats_87 rfl rfl ⟨rfl, rfl⟩
          · replace hf := (if_neg h9).symm.trans hf
            refine g_tableOut (tgt := 88) dX3_eats_30 (by have kh4 := lv_neT h4 (a := 1) rfl; have kh5 := lv_neT h5 (a := 2) rfl; have kh6 := lv_neT h6 (a := 3) rfl; have kh8 := lv_neT h8 (a := 4) rfl; have kh9 := lv_neT h9 (a := 5) rfl; omega) (by decide) ?_
            refine g_iload_n (pc' := 89) dX3_eats_88 rfl rfl rfl ?_
            obtain rfl := Option.some.inj hf
            exact g_iret dX3_eats_89 rfl rfl ⟨rfl, rfl⟩
def mdX3_eatenAt : bMD := (yX3_eatenAt, cX3_eatenAt, 4, (some FieldType.int), [], 4, 78)
theorem oX3_eatenAt : bOkc mdX3_eatenAt 1 := ⟨by decide +kernel, ⟨by decide +kernel, by decide +kernel⟩, by decide +kernel, q1148⟩
def fX3_eatenAt_l4 (M : tM) (y1 : Int32) (rec : (Int32 × Int32) → Option (Int32 × Int32)) (s : Int32 × Int32) : Option (Int32 × Int32) :=
  Option.bind (rA M 0 0) fun v1 =>
  (if v1 ≤ s.2 then
  some (s.1, s.2)
else
  Option.bind (fX3_its M s.2 4) fun q3 =>
  Option.bind (α := Int32) ((if q3 = y1 then
  Option.bind (fX3_eats M s.2) fun q6 =>
  some q6
else
  some 0)) fun q4 =>
  rec ((s.1 + q4), (s.2 + 1)))
def fX3_eatenAt (M : tM) (x1 : Int32) : Option Int32 :=
  Option.bind (lpF (fX3_eatenAt_l4 M x1) FU (0, 0)) fun q7 =>
  some q7.1
set_option maxHeartbeats 4000000 in
theorem wX3_eatenAt_l4 {g : bGh} {A : tA} (hA : tO A) {w : bWl} {M : tM} {n0 u0 : Nat} {Q : Outcome → bWl → Prop} (y1 : Int32) : ∀ (n : Nat) (s : Int32 × Int32) (r : (Int32 × Int32)), lpF (fX3_eatenAt_l4 M y1) n s = some r → bG (g, mdX3_eatenAt, n0, u0, Q) (tW A M w) 42 [some (.ref A.1), some (.int y1), some (.int r.1), some (.int r.2)] [] → bG (g, mdX3_eatenAt, n0, u0, Q) (tW A M w) 4 [some (.ref A.1), some (.int y1), some (.int s.1), some (.int s.2)] [] := by
  intro n
  induction n with
  | zero => intro s r hf; cases hf
  | succ n ih =>
    intro s r hf kx
    rw [lpF_s] at hf
    unfold fX3_eatenAt_l4 at hf
    refine g_iload_n (pc' := 5) dX3_eatenAt_4 rfl rfl rfl ?_
    refine g_aload_n (pc' := 6) dX3_eatenAt_5 rfl rfl rfl ?_
    refine gt_get (k := 0) (pc' := 9) (by decide) dX3_eatenAt_6 rfl q1048 rfl ?_
    refine g_iconst (pc' := 10) (v := 0) dX3_eatenAt_9 rfl (by decide) ?_
    obtain ⟨v1, hv1, hf⟩ := Option.bind_eq_some_iff.mp hf
    refine gt_iald (pc' := 11) hA (by decide) dX3_eatenAt_10 rfl hv1 ?_
    refine g_icmp_ge (tgt := 42) (pc' := 14) dX3_eatenAt_11 (by decide) rfl (fun h2 => ?_) (fun h2 => ?_)
    · replace hf := (if_pos h2).symm.trans hf
      obtain rfl := Option.some.inj hf
      exact kx
    · replace hf := (if_neg h2).symm.trans hf
      refine g_iload_n (pc' := 15) dX3_eatenAt_14 rfl rfl rfl ?_
      refine g_aload_n (pc' := 16) dX3_eatenAt_15 rfl rfl rfl ?_
      refine g_iload_n (pc' := 17) dX3_eatenAt_16 rfl rfl rfl ?_
      refine g_iconst (pc' := 18) (v := 4) dX3_eatenAt_17 rfl (by decide) ?_
      obtain ⟨q3, hq3, hf⟩ := Option.bind_eq_some_iff.mp hf
      refine g_callV (pc' := 21) (mx := mdX3_its) (as := [.int s.2, .int 4]) (wX3_its g hA _ _ s.2 4 hq3) oX3_its ⟨Nat.le_of_ble_eq_true rfl, Nat.le_of_ble_eq_true rfl⟩ dX3_eatenAt_18 rfl (ci := 3) rfl tC ⟨by decide +kernel, by decide +kernel⟩ oX3_its.2.2.2 rfl q1134 q1136 qs36 qs36 q1136 (Nat.le_of_ble_eq_true rfl) (Nat.le_of_ble_eq_true rfl) (g_rI ?_) g_nt rfl
      refine g_iload_n (pc' := 22) dX3_eatenAt_21 rfl rfl rfl ?_
      obtain ⟨q4, hqq4, hf⟩ := Option.bind_eq_some_iff.mp hf
      have hJq4 : bG (g, mdX3_eatenAt, n0, u0, Q) (tW A M w) 34 [some (.ref A.1), some (.int y1), none, some (.int s.2)] [.int q4, .int s.1] := by
        refine g_iadd (pc' := 35) dX3_eatenAt_34 rfl ?_
        refine g_istore_n (pc' := 36) (L' := [some (.ref A.1), some (.int y1), some (.int (s.1 + q4)), some (.int s.2)]) dX3_eatenAt_35 rfl rfl (Nat.le_of_ble_eq_true rfl) rfl rfl ?_
        refine g_iinc (pc' := 39) (v := s.2 + 1) (L' := [some (.ref A.1), some (.int y1), some (.int (s.1 + q4)), some (.int (s.2 + 1))]) dX3_eatenAt_36 rfl rfl rfl (Nat.le_of_ble_eq_true rfl) rfl rfl ?_
        refine g_goto (tgt := 4) dX3_eatenAt_39 (by decide) ?_
        exact ih _ r hf kx
      replace hf := hqq4
      refine g_icmp_ne (tgt := 33) (pc' := 25) dX3_eatenAt_22 (by decide) rfl (fun h5 => ?_) (fun h5 => ?_)
      · replace hf := (if_neg h5).symm.trans hf
        refine g_iconst (pc' := 34) (v := 0) dX3_eatenAt_33 rfl (by decide) ?_
        obtain rfl := Option.some.inj hf
        refine g_drop [2] (L' := [some (.ref A.1), some (.int y1), none, some (.int s.2)]) rfl ?_
        exact hJq4
      · replace hf := (if_pos h5).symm.trans hf
        refine g_aload_n (pc' := 26) dX3_eatenAt_25 rfl rfl rfl ?_
        refine g_iload_n (pc' := 27) dX3_eatenAt_26 rfl rfl rfl ?_
        obtain ⟨q6, hq6, hf⟩ := Option.bind_eq_some_iff.mp hf
        refine g_callV (pc' := 30) (mx := mdX3_eats) (as := [.int s.2]) (wX3_eats g hA _ _ s.2 hq6) oX3_eats ⟨Nat.le_of_ble_eq_true rfl, Nat.le_of_ble_eq_true rfl⟩ dX3_eatenAt_27 rfl (ci := 3) rfl tC ⟨by decide +kernel, by decide +kernel⟩ oX3_eats.2.2.2 rfl q1149 q1151 qs39 qs39 q1151 (Nat.le_of_ble_eq_true rfl) (Nat.le_of_ble_eq_true rfl) (g_rI ?_) g_nt rfl
        refine g_goto (tgt := 34) dX3_eatenAt_30 (by decide) ?_
        obtain rfl := Option.some.inj hf
        refine g_drop [2] (L' := [some (.ref A.1), some (.int y1), none, some (.int s.2)]) rfl ?_
        exact hJq4
set_option maxHeartbeats 4000000 in
theorem wX3_eatenAt (g : bGh) {A : tA} (hA : tO A) (w : bWl) (M : tM) (x1 : Int32) {r : Int32} (hf : fX3_eatenAt M x1 = some r) : bM g mdX3_eatenAt (tW A M w) [.ref A.1, .int x1] (q_ (eI r) (tW A M w)) := by
  unfold fX3_eatenAt at hf
  change bG _ _ 0 [some (.ref A.1), some (.int x1)] []
  refine g_iconst (pc' := 1) (v := 0) dX3_eatenAt_0 rfl (by decide) ?_
  refine g_istore_n (pc' := 2) (L' := [some (.ref A.1), some (.int x1), some (.int 0)]) dX3_eatenAt_1 rfl rfl (Nat.le_of_ble_eq_true rfl) rfl rfl ?_
  refine g_iconst (pc' := 3) (v := 0) dX3_eatenAt_2 rfl (by decide) ?_
  refine g_istore_n (pc' := 4) (L' := [some (.ref A.1), some (.int x1), some (.int 0), some (.int 0)]) dX3_eatenAt_3 rfl rfl (Nat.le_of_ble_eq_true rfl) rfl rfl ?_
  obtain ⟨q7, hq7, hf⟩ := Option.bind_eq_some_iff.mp hf
  refine wX3_eatenAt_l4 hA x1 FU (0, 0) q7 hq7 ?_
  refine g_iload_n (pc' := 43) dX3_eatenAt_42 rfl rfl rfl ?_
  obtain rfl := Option.some.inj hf
  exact g_iret dX3_eatenAt_43 rfl rfl ⟨rfl, rfl⟩
def mdX3_houseOf : bMD := (yX3_houseOf, cX3_houseOf, 3, (some FieldType.int), [], 5, 101)
theorem oX3_houseOf : bOkc mdX3_houseOf 2 := ⟨by decide +kernel, ⟨by decide +kernel, by decide +kernel⟩, by decide +kernel, q1124⟩
def fX3_houseOf (M : tM) (x1 : Int32) (x2 : Int32) : Option (Int32 × tM) :=
  Option.bind (fX3_isHouse x1) fun q1 =>
  (if q1 = 0 then
  Option.bind (fX3_finds M (-1000000001)) fun q3 =>
  some (q3.1, q3.2)
else
  Option.bind (fX3_in ((x2 : Int32).toInt64) 0 5) fun q4 =>
  (if q4 = 0 then
  Option.bind (fX3_finds M (-1000000001)) fun q13 =>
  some (q13.1, q13.2)
else
  (if 2 < x2 then
  (if x2 = 3 then
  Option.bind (fX3_thoseAt M x1) fun q11 =>
  some (q11, M)
else
  (if x2 = 4 then
  Option.bind (fX3_eventsAt M x1) fun q10 =>
  some (q10, M)
else
  Option.bind (fX3_eatenAt M x1) fun q9 =>
  some (q9, M)))
else
  Option.bind (fX3_has M x1 x2) fun q12 =>
  some (q12, M))))
set_option maxHeartbeats 4000000 in
theorem wX3_houseOf (g : bGh) {A : tA} (hA : tO A) (w : bWl) (M : tM) (x1 : Int32) (x2 : Int32) {r : (Int32 × tM)} (hf : fX3_houseOf M x1 x2 = some r) : bM g mdX3_houseOf (tW A M w) [.ref A.1, .int x1, .int x2] (q_ (eI r.1) (tW A r.2 w)) := by
  unfold fX3_houseOf at hf
  change bG _ _ 0 [some (.ref A.1), some (.int x1), some (.int x2)] []
  refine g_iload_n (pc' := 1) dX3_houseOf_0 rfl rfl rfl ?_
  obtain ⟨q1, hq1, hf⟩ := Option.bind_eq_some_iff.mp hf
  refine g_callS (pc' := 4) (as := [.int x1]) (wX3_isHouse g _ x1 hq1) oX3_isHouse ⟨Nat.le_of_ble_eq_true rfl, Nat.le_of_ble_eq_true rfl⟩ dX3_houseOf_1 rfl q1108 q1109 q86 (Nat.le_of_ble_eq_true rfl) (Nat.le_of_ble_eq_true rfl) (g_rI ?_) g_nt rfl
  refine g_if_eq (tgt := 19) (pc' := 7) dX3_houseOf_4 (by decide) rfl (fun h2 => ?_) (fun h2 => ?_)
  · replace hf := (if_pos h2).symm.trans hf
    refine g_aload_n (pc' := 20) dX3_houseOf_19 rfl rfl rfl ?_
    refine g_ldc (pc' := 22) dX3_houseOf_20 rfl q1116 ?_
    obtain ⟨q3, hq3, hf⟩ := Option.bind_eq_some_iff.mp hf
    refine g_callV (pc' := 25) (mx := mdX3_finds) (as := [.int (-1000000001)]) (wX3_finds g hA _ _ (-1000000001) hq3) oX3_finds ⟨Nat.le_of_ble_eq_true rfl, Nat.le_of_ble_eq_true rfl⟩ dX3_houseOf_22 rfl (ci := 3) rfl tC ⟨by decide +kernel, by decide +kernel⟩ oX3_finds.2.2.2 rfl q1117 q1119 qs33 qs33 q1119 (Nat.le_of_ble_eq_true rfl) (Nat.le_of_ble_eq_true rfl) (g_rI ?_) g_nt rfl
    obtain rfl := Option.some.inj hf
    exact g_iret dX3_houseOf_25 rfl rfl ⟨rfl, rfl⟩
  · replace hf := (if_neg h2).symm.trans hf
    refine g_iload_n (pc' := 8) dX3_houseOf_7 rfl rfl rfl ?_
    refine g_i2l (pc' := 9) dX3_houseOf_8 rfl ?_
    refine g_lconst (pc' := 10) (v := 0) dX3_houseOf_9 rfl (by decide) ?_
    refine g_ldc2 (pc' := 13) dX3_houseOf_10 rfl q1125 ?_
    obtain ⟨q4, hq4, hf⟩ := Option.bind_eq_some_iff.mp hf
    refine g_callS (pc' := 16) (as := [.long ((x2 : Int32).toInt64), .long 0, .long 5]) (wX3_in g _ ((x2 : Int32).toInt64) 0 5 hq4) oX3_in ⟨Nat.le_of_ble_eq_true rfl, Nat.le_of_ble_eq_true rfl⟩ dX3_houseOf_13 rfl q1102 q1103 q86 (Nat.le_of_ble_eq_true rfl) (Nat.le_of_ble_eq_true rfl) (g_rI ?_) g_nt rfl
    refine g_if_ne (tgt := 26) (pc' := 19) dX3_houseOf_16 (by decide) rfl (fun h5 => ?_) (fun h5 => ?_)
    · replace hf := (if_neg h5).symm.trans hf
      refine g_iload_n (pc' := 27) dX3_houseOf_26 rfl rfl rfl ?_
      refine g_iconst (pc' := 28) (v := 2) dX3_houseOf_27 rfl (by decide) ?_
      refine g_icmp_gt (tgt := 40) (pc' := 31) dX3_houseOf_28 (by decide) rfl (fun h6 => ?_) (fun h6 => ?_)
      · replace hf := (if_pos h6).symm.trans hf
        refine g_iload_n (pc' := 41) dX3_houseOf_40 rfl rfl rfl ?_
        refine g_iconst (pc' := 42) (v := 3) dX3_houseOf_41 rfl (by decide) ?_
        refine g_icmp_ne (tgt := 53) (pc' := 45) dX3_houseOf_42 (by decide) rfl (fun h7 => ?_) (fun h7 => ?_)
        · replace hf := (if_neg h7).symm.trans hf
          refine g_iload_n (pc' := 54) dX3_houseOf_53 rfl rfl rfl ?_
          refine g_iconst (pc' := 55) (v := 4) dX3_houseOf_54 rfl (by decide) ?_
          refine g_icmp_ne (tgt := 66) (pc' := 58) dX3_houseOf_55 (by decide) rfl (fun h8 => ?_) (fun h8 => ?_)
          · replace hf := (if_neg h8).symm.trans hf
            refine g_aload_n (pc' := 67) dX3_houseOf_66 rfl rfl rfl ?_
            refine g_iload_n (pc' := 68) dX3_houseOf_67 rfl rfl rfl ?_
            obtain ⟨q9, hq9, hf⟩ := Option.bind_eq_some_iff.mp hf
            refine g_callV (pc' := 71) (mx := mdX3_eatenAt) (as := [.int x1]) (wX3_eatenAt g hA _ _ x1 hq9) oX3_eatenAt ⟨Nat.le_of_ble_eq_true rfl, Nat.le_of_ble_eq_true rfl⟩ dX3_houseOf_68 rfl (ci := 3) rfl tC ⟨by decide +kernel, by decide +kernel⟩ oX3_eatenAt.2.2.2 rfl q1145 q1147 qs38 qs38 q1147 (Nat.le_of_ble_eq_true rfl) (Nat.le_of_ble_eq_true rfl) (g_rI ?_) g_nt rfl
            obtain rfl := Option.some.inj hf
            exact g_iret dX3_houseOf_71 rfl rfl ⟨rfl, rfl⟩
          · replace hf := (if_pos h8).symm.trans hf
            refine g_aload_n (pc' := 59) dX3_houseOf_58 rfl rfl rfl ?_
            refine g_iload_n (pc' := 60) dX3_houseOf_59 rfl rfl rfl ?_
            obtain ⟨q10, hq10, hf⟩ := Option.bind_eq_some_iff.mp hf
            refine g_callV (pc' := 63) (mx := mdX3_eventsAt) (as := [.int x1]) (wX3_eventsAt g hA _ _ x1 hq10) oX3_eventsAt ⟨Nat.le_of_ble_eq_true rfl, Nat.le_of_ble_eq_true rfl⟩ dX3_houseOf_60 rfl (ci := 3) rfl tC ⟨by decide +kernel, by decide +kernel⟩ oX3_eventsAt.2.2.2 rfl q1141 q1143 qs37 qs37 q1143 (Nat.le_of_ble_eq_true rfl) (Nat.le_of_ble_eq_true rfl) (g_rI ?_) g_nt rfl
            refine g_goto (tgt := 71) dX3_houseOf_63 (by decide) ?_
            obtain rfl := Option.some.inj hf
            exact g_iret dX3_houseOf_71 rfl rfl ⟨rfl, rfl⟩
        · replace hf := (if_pos h7).symm.trans hf
          refine g_aload_n (pc' := 46) dX3_houseOf_45 rfl rfl rfl ?_
          refine g_iload_n (pc' := 47) dX3_houseOf_46 rfl rfl rfl ?_
          obtain ⟨q11, hq11, hf⟩ := Option.bind_eq_some_iff.mp hf
          refine g_callV (pc' := 50) (mx := mdX3_thoseAt) (as := [.int x1]) (wX3_thoseAt g hA _ _ x1 hq11) oX3_thoseAt ⟨Nat.le_of_ble_eq_true rfl, Nat.le_of_ble_eq_true rfl⟩ dX3_houseOf_47 rfl (ci := 3) rfl tC ⟨by decide +kernel, by decide +kernel⟩ oX3_thoseAt.2.2.2 rfl q1130 q1132 qs35 qs35 q1132 (Nat.le_of_ble_eq_true rfl) (Nat.le_of_ble_eq_true rfl) (g_rI ?_) g_nt rfl
          refine g_goto (tgt := 71) dX3_houseOf_50 (by decide) ?_
          obtain rfl := Option.some.inj hf
          exact g_iret dX3_houseOf_71 rfl rfl ⟨rfl, rfl⟩
      · replace hf := (if_neg h6).symm.trans hf
        refine g_aload_n (pc' := 32) dX3_houseOf_31 rfl rfl rfl ?_
        refine g_iload_n (pc' := 33) dX3_houseOf_32 rfl rfl rfl ?_
        refine g_iload_n (pc' := 34) dX3_houseOf_33 rfl rfl rfl ?_
        obtain ⟨q12, hq12, hf⟩ := Option.bind_eq_some_iff.mp hf
        refine g_callV (pc' := 37) (mx := mdX3_has) (as := [.int x1, .int x2]) (wX3_has g hA _ _ x1 x2 hq12) oX3_has ⟨Nat.le_of_ble_eq_true rfl, Nat.le_of_ble_eq_true rfl⟩ dX3_houseOf_34 rfl (ci := 3) rfl tC ⟨by decide +kernel, by decide +kernel⟩ oX3_has.2.2.2 rfl q1126 q1128 qs34 qs34 q1128 (Nat.le_of_ble_eq_true rfl) (Nat.le_of_ble_eq_true rfl) (g_rI ?_) g_nt rfl
        refine g_goto (tgt := 71) dX3_houseOf_37 (by decide) ?_
        obtain rfl := Option.some.inj hf
        exact g_iret dX3_houseOf_71 rfl rfl ⟨rfl, rfl⟩
    · replace hf := (if_pos h5).symm.trans hf
      refine g_aload_n (pc' := 20) dX3_houseOf_19 rfl rfl rfl ?_
      refine g_ldc (pc' := 22) dX3_houseOf_20 rfl q1116 ?_
      obtain ⟨q13, hq13, hf⟩ := Option.bind_eq_some_iff.mp hf
      refine g_callV (pc' := 25) (mx := mdX3_finds) (as := [.int (-1000000001)]) (wX3_finds g hA _ _ (-1000000001) hq13) oX3_finds ⟨Nat.le_of_ble_eq_true rfl, Nat.le_of_ble_eq_true rfl⟩ dX3_houseOf_22 rfl (ci := 3) rfl tC ⟨by decide +kernel, by decide +kernel⟩ oX3_finds.2.2.2 rfl q1117 q1119 qs33 qs33 q1119 (Nat.le_of_ble_eq_true rfl) (Nat.le_of_ble_eq_true rfl) (g_rI ?_) g_nt rfl
      obtain rfl := Option.some.inj hf
      exact g_iret dX3_houseOf_25 rfl rfl ⟨rfl, rfl⟩
def mdX3_isKind : bMD := (yX3_isKind, cX3_isKind, 1, (some FieldType.boolean), [], 2, 37)
theorem oX3_isKind : bOkc mdX3_isKind 1 := ⟨by decide +kernel, ⟨by decide +kernel, by decide +kernel⟩, by decide +kernel, q1159⟩
def fX3_isKind (x0 : Int32) : Option Int32 :=
  Option.bind (fX3_in ((x0 : Int32).toInt64) 0 5) fun q1 =>
  bz q1 (some q1)
set_option maxHeartbeats 4000000 in
theorem wX3_isKind (g : bGh) (w : bWl) (x0 : Int32) {r : Int32} (hf : fX3_isKind x0 = some r) : bM g mdX3_isKind w [.int x0] (q_ (eI r) w) := by
  unfold fX3_isKind at hf
  change bG _ _ 0 [some (.int x0)] []
  refine g_iload_n (pc' := 1) dX3_isKind_0 rfl rfl rfl ?_
  refine g_i2l (pc' := 2) dX3_isKind_1 rfl ?_
  refine g_lconst (pc' := 3) (v := 0) dX3_isKind_2 rfl (by decide) ?_
  refine g_ldc2 (pc' := 6) dX3_isKind_3 rfl q1125 ?_
  obtain ⟨q1, hq1, hf⟩ := Option.bind_eq_some_iff.mp hf
  refine g_callS (pc' := 9) (as := [.long ((x0 : Int32).toInt64), .long 0, .long 5]) (wX3_in g _ ((x0 : Int32).toInt64) 0 5 hq1) oX3_in ⟨Nat.le_of_ble_eq_true rfl, Nat.le_of_ble_eq_true rfl⟩ dX3_isKind_6 rfl q1102 q1103 q86 (Nat.le_of_ble_eq_true rfl) (Nat.le_of_ble_eq_true rfl) (g_rI ?_) g_nt rfl
  obtain ⟨h2, hf⟩ := bz_spec hf
  obtain rfl := Option.some.inj hf
  exact g_iret dX3_isKind_9 rfl (bz_nar h2) ⟨rfl, rfl⟩
def mdX3_isEvent : bMD := (yX3_isEvent, cX3_isEvent, 1, (some FieldType.boolean), [], 2, 37)
theorem oX3_isEvent : bOkc mdX3_isEvent 1 := ⟨by decide +kernel, ⟨by decide +kernel, by decide +kernel⟩, by decide +kernel, q1162⟩
def fX3_isEvent (x0 : Int32) : Option Int32 :=
  Option.bind (fX3_in ((x0 : Int32).toInt64) 0 15) fun q1 =>
  bz q1 (some q1)
set_option maxHeartbeats 4000000 in
theorem wX3_isEvent (g : bGh) (w : bWl) (x0 : Int32) {r : Int32} (hf : fX3_isEvent x0 = some r) : bM g mdX3_isEvent w [.int x0] (q_ (eI r) w) := by
  unfold fX3_isEvent at hf
  change bG _ _ 0 [some (.int x0)] []
  refine g_iload_n (pc' := 1) dX3_isEvent_0 rfl rfl rfl ?_
  refine g_i2l (pc' := 2) dX3_isEvent_1 rfl ?_
  refine g_lconst (pc' := 3) (v := 0) dX3_isEvent_2 rfl (by decide) ?_
  refine g_ldc2 (pc' := 6) dX3_isEvent_3 rfl q1163 ?_
  obtain ⟨q1, hq1, hf⟩ := Option.bind_eq_some_iff.mp hf
  refine g_callS (pc' := 9) (as := [.long ((x0 : Int32).toInt64), .long 0, .long 15]) (wX3_in g _ ((x0 : Int32).toInt64) 0 15 hq1) oX3_in ⟨Nat.le_of_ble_eq_true rfl, Nat.le_of_ble_eq_true rfl⟩ dX3_isEvent_6 rfl q1102 q1103 q86 (Nat.le_of_ble_eq_true rfl) (Nat.le_of_ble_eq_true rfl) (g_rI ?_) g_nt rfl
  obtain ⟨h2, hf⟩ := bz_spec hf
  obtain rfl := Option.some.inj hf
  exact g_iret dX3_isEvent_9 rfl (bz_nar h2) ⟨rfl, rfl⟩
def mdX3_adds : bMD := (yX3_adds, cX3_adds, 4, (some FieldType.int), [], 2, 33)
theorem oX3_adds : bOkc mdX3_adds 2 := ⟨by decide +kernel, ⟨by decide +kernel, by decide +kernel⟩, by decide +kernel, q1168⟩
def fX3_adds (M : tM) (x1 : Int32) (x2 : Int32) : Option (Int32 × tM) :=
  Option.bind (rA M 0 0) fun v1 =>
  Option.bind (fX3_spotOf v1 0) fun q2 =>
  Option.bind (wA M 0 q2 x1) fun w3 =>
  Option.bind (fX3_spotOf v1 1) fun q4 =>
  Option.bind (wA w3 0 q4 x2) fun w5 =>
  Option.bind (fX3_spotOf v1 2) fun q6 =>
  Option.bind (wA w5 0 q6 10) fun w7 =>
  Option.bind (fX3_spotOf v1 3) fun q8 =>
  Option.bind (wA w7 0 q8 0) fun w9 =>
  Option.bind (fX3_spotOf v1 4) fun q10 =>
  Option.bind (wA w9 0 q10 (-1)) fun w11 =>
  Option.bind (rA w11 0 0) fun v12 =>
  Option.bind (wA w11 0 0 (v12 + 1)) fun w13 =>
  some (v1, w13)
set_option maxHeartbeats 4000000 in
theorem wX3_adds (g : bGh) {A : tA} (hA : tO A) (w : bWl) (M : tM) (x1 : Int32) (x2 : Int32) {r : (Int32 × tM)} (hf : fX3_adds M x1 x2 = some r) : bM g mdX3_adds (tW A M w) [.ref A.1, .int x1, .int x2] (q_ (eI r.1) (tW A r.2 w)) := by
  unfold fX3_adds at hf
  change bG _ _ 0 [some (.ref A.1), some (.int x1), some (.int x2)] []
  refine g_aload_n (pc' := 1) dX3_adds_0 rfl rfl rfl ?_
  refine gt_get (k := 0) (pc' := 4) (by decide) dX3_adds_1 rfl q1048 rfl ?_
  refine g_iconst (pc' := 5) (v := 0) dX3_adds_4 rfl (by decide) ?_
  obtain ⟨v1, hv1, hf⟩ := Option.bind_eq_some_iff.mp hf
  refine gt_iald (pc' := 6) hA (by decide) dX3_adds_5 rfl hv1 ?_
  refine g_istore_n (pc' := 7) (L' := [some (.ref A.1), some (.int x1), some (.int x2), some (.int v1)]) dX3_adds_6 rfl rfl (Nat.le_of_ble_eq_true rfl) rfl rfl ?_
  refine g_aload_n (pc' := 8) dX3_adds_7 rfl rfl rfl ?_
  refine gt_get (k := 0) (pc' := 11) (by decide) dX3_adds_8 rfl q1048 rfl ?_
  refine g_iload_n (pc' := 12) dX3_adds_11 rfl rfl rfl ?_
  refine g_iconst (pc' := 13) (v := 0) dX3_adds_12 rfl (by decide) ?_
  obtain ⟨q2, hq2, hf⟩ := Option.bind_eq_some_iff.mp hf
  refine g_callS (pc' := 16) (as := [.int v1, .int 0]) (wX3_spotOf g _ v1 0 hq2) oX3_spotOf ⟨Nat.le_of_ble_eq_true rfl, Nat.le_of_ble_eq_true rfl⟩ dX3_adds_13 rfl q1138 q1139 q86 (Nat.le_of_ble_eq_true rfl) (Nat.le_of_ble_eq_true rfl) (g_rI ?_) g_nt rfl
  refine g_iload_n (pc' := 17) dX3_adds_16 rfl rfl rfl ?_
  obtain ⟨w3, hw3, hf⟩ := Option.bind_eq_some_iff.mp hf
  refine gt_iast (pc' := 18) hA (by decide) dX3_adds_17 rfl hw3 ?_
  refine g_aload_n (pc' := 19) dX3_adds_18 rfl rfl rfl ?_
  refine gt_get (k := 0) (pc' := 22) (by decide) dX3_adds_19 rfl q1048 rfl ?_
  refine g_iload_n (pc' := 23) dX3_adds_22 rfl rfl rfl ?_
  refine g_iconst (pc' := 24) (v := 1) dX3_adds_23 rfl (by decide) ?_
  obtain ⟨q4, hq4, hf⟩ := Option.bind_eq_some_iff.mp hf
  refine g_callS (pc' := 27) (as := [.int v1, .int 1]) (wX3_spotOf g _ v1 1 hq4) oX3_spotOf ⟨Nat.le_of_ble_eq_true rfl, Nat.le_of_ble_eq_true rfl⟩ dX3_adds_24 rfl q1138 q1139 q86 (Nat.le_of_ble_eq_true rfl) (Nat.le_of_ble_eq_true rfl) (g_rI ?_) g_nt rfl
  refine g_iload_n (pc' := 28) dX3_adds_27 rfl rfl rfl ?_
  obtain ⟨w5, hw5, hf⟩ := Option.bind_eq_some_iff.mp hf
  refine gt_iast (pc' := 29) hA (by decide) dX3_adds_28 rfl hw5 ?_
  refine g_aload_n (pc' := 30) dX3_adds_29 rfl rfl rfl ?_
  refine gt_get (k := 0) (pc' := 33) (by decide) dX3_adds_30 rfl q1048 rfl ?_
  refine g_iload_n (pc' := 34) dX3_adds_33 rfl rfl rfl ?_
  refine g_iconst (pc' := 35) (v := 2) dX3_adds_34 rfl (by decide) ?_
  obtain ⟨q6, hq6, hf⟩ := Option.bind_eq_some_iff.mp hf
  refine g_callS (pc' := 38) (as := [.int v1, .int 2]) (wX3_spotOf g _ v1 2 hq6) oX3_spotOf ⟨Nat.le_of_ble_eq_true rfl, Nat.le_of_ble_eq_true rfl⟩ dX3_adds_35 rfl q1138 q1139 q86 (Nat.le_of_ble_eq_true rfl) (Nat.le_of_ble_eq_true rfl) (g_rI ?_) g_nt rfl
  refine g_bipush (pc' := 40) (v := 10) dX3_adds_38 rfl (by decide) ?_
  obtain ⟨w7, hw7, hf⟩ := Option.bind_eq_some_iff.mp hf
  refine gt_iast (pc' := 41) hA (by decide) dX3_adds_40 rfl hw7 ?_
  refine g_aload_n (pc' := 42) dX3_adds_41 rfl rfl rfl ?_
  refine gt_get (k := 0) (pc' := 45) (by decide) dX3_adds_42 rfl q1048 rfl ?_
  refine g_iload_n (pc' := 46) dX3_adds_45 rfl rfl rfl ?_
  refine g_iconst (pc' := 47) (v := 3) dX3_adds_46 rfl (by decide) ?_
  obtain ⟨q8, hq8, hf⟩ := Option.bind_eq_some_iff.mp hf
  refine g_callS (pc' := 50) (as := [.int v1, .int 3]) (wX3_spotOf g _ v1 3 hq8) oX3_spotOf ⟨Nat.le_of_ble_eq_true rfl, Nat.le_of_ble_eq_true rfl⟩ dX3_adds_47 rfl q1138 q1139 q86 (Nat.le_of_ble_eq_true rfl) (Nat.le_of_ble_eq_true rfl) (g_rI ?_) g_nt rfl
  refine g_iconst (pc' := 51) (v := 0) dX3_adds_50 rfl (by decide) ?_
  obtain ⟨w9, hw9, hf⟩ := Option.bind_eq_some_iff.mp hf
  refine gt_iast (pc' := 52) hA (by decide) dX3_adds_51 rfl hw9 ?_
  refine g_aload_n (pc' := 53) dX3_adds_52 rfl rfl rfl ?_
  refine gt_get (k := 0) (pc' := 56) (by decide) dX3_adds_53 rfl q1048 rfl ?_
  refine g_iload_n (pc' := 57) dX3_adds_56 rfl rfl rfl ?_
  refine g_iconst (pc' := 58) (v := 4) dX3_adds_57 rfl (by decide) ?_
  obtain ⟨q10, hq10, hf⟩ := Option.bind_eq_some_iff.mp hf
  refine g_callS (pc' := 61) (as := [.int v1, .int 4]) (wX3_spotOf g _ v1 4 hq10) oX3_spotOf ⟨Nat.le_of_ble_eq_true rfl, Nat.le_of_ble_eq_true rfl⟩ dX3_adds_58 rfl q1138 q1139 q86 (Nat.le_of_ble_eq_true rfl) (Nat.le_of_ble_eq_true rfl) (g_rI ?_) g_nt rfl
  refine g_iconst (pc' := 62) (v := (-1)) dX3_adds_61 rfl (by decide) ?_
  obtain ⟨w11, hw11, hf⟩ := Option.bind_eq_some_iff.mp hf
  refine gt_iast (pc' := 63) hA (by decide) dX3_adds_62 rfl hw11 ?_
  refine g_aload_n (pc' := 64) dX3_adds_63 rfl rfl rfl ?_
  refine gt_get (k := 0) (pc' := 67) (by decide) dX3_adds_64 rfl q1048 rfl ?_
  refine g_iconst (pc' := 68) (v := 0) dX3_adds_67 rfl (by decide) ?_
  refine g_dup2 (pc' := 69) dX3_adds_68 rfl rfl rfl ?_
  obtain ⟨v12, hv12, hf⟩ := Option.bind_eq_some_iff.mp hf
  refine gt_iald (pc' := 70) hA (by decide) dX3_adds_69 rfl hv12 ?_
  refine g_iconst (pc' := 71) (v := 1) dX3_adds_70 rfl (by decide) ?_
  refine g_iadd (pc' := 72) dX3_adds_71 rfl ?_
  obtain ⟨w13, hw13, hf⟩ := Option.bind_eq_some_iff.mp hf
  refine gt_iast (pc' := 73) hA (by decide) dX3_adds_72 rfl hw13 ?_
  refine g_iload_n (pc' := 74) dX3_adds_73 rfl rfl rfl ?_
  obtain rfl := Option.some.inj hf
  exact g_iret dX3_adds_74 rfl rfl ⟨rfl, rfl⟩
def mdX3_rumour : bMD := (yX3_rumour, cX3_rumour, 3, (some FieldType.int), [], 3, 57)
theorem oX3_rumour : bOkc mdX3_rumour 2 := ⟨by decide +kernel, ⟨by decide +kernel, by decide +kernel⟩, by decide +kernel, q1156⟩
def fX3_rumour (M : tM) (x1 : Int32) (x2 : Int32) : Option (Int32 × tM) :=
  Option.bind (fX3_isKind x1) fun q1 =>
  (if q1 = 0 then
  Option.bind (fX3_finds M (-1000000001)) fun q3 =>
  some (q3.1, q3.2)
else
  Option.bind (fX3_isEvent x2) fun q4 =>
  (if q4 = 0 then
  Option.bind (fX3_finds M (-1000000001)) fun q10 =>
  some (q10.1, q10.2)
else
  Option.bind (rA M 0 0) fun v6 =>
  (if v6 = 10 then
  Option.bind (fX3_finds M (-1000000002)) fun q9 =>
  some (q9.1, q9.2)
else
  Option.bind (fX3_adds M x1 x2) fun q8 =>
  some (q8.1, q8.2))))
set_option maxHeartbeats 4000000 in
theorem wX3_rumour (g : bGh) {A : tA} (hA : tO A) (w : bWl) (M : tM) (x1 : Int32) (x2 : Int32) {r : (Int32 × tM)} (hf : fX3_rumour M x1 x2 = some r) : bM g mdX3_rumour (tW A M w) [.ref A.1, .int x1, .int x2] (q_ (eI r.1) (tW A r.2 w)) := by
  unfold fX3_rumour at hf
  change bG _ _ 0 [some (.ref A.1), some (.int x1), some (.int x2)] []
  refine g_iload_n (pc' := 1) dX3_rumour_0 rfl rfl rfl ?_
  obtain ⟨q1, hq1, hf⟩ := Option.bind_eq_some_iff.mp hf
  refine g_callS (pc' := 4) (as := [.int x1]) (wX3_isKind g _ x1 hq1) oX3_isKind ⟨Nat.le_of_ble_eq_true rfl, Nat.le_of_ble_eq_true rfl⟩ dX3_rumour_1 rfl q1157 q1158 q86 (Nat.le_of_ble_eq_true rfl) (Nat.le_of_ble_eq_true rfl) (g_rI ?_) g_nt rfl
  refine g_if_eq (tgt := 14) (pc' := 7) dX3_rumour_4 (by decide) rfl (fun h2 => ?_) (fun h2 => ?_)
  · replace hf := (if_pos h2).symm.trans hf
    refine g_aload_n (pc' := 15) dX3_rumour_14 rfl rfl rfl ?_
    refine g_ldc (pc' := 17) dX3_rumour_15 rfl q1116 ?_
    obtain ⟨q3, hq3, hf⟩ := Option.bind_eq_some_iff.mp hf
    refine g_callV (pc' := 20) (mx := mdX3_finds) (as := [.int (-1000000001)]) (wX3_finds g hA _ _ (-1000000001) hq3) oX3_finds ⟨Nat.le_of_ble_eq_true rfl, Nat.le_of_ble_eq_true rfl⟩ dX3_rumour_17 rfl (ci := 3) rfl tC ⟨by decide +kernel, by decide +kernel⟩ oX3_finds.2.2.2 rfl q1117 q1119 qs33 qs33 q1119 (Nat.le_of_ble_eq_true rfl) (Nat.le_of_ble_eq_true rfl) (g_rI ?_) g_nt rfl
    obtain rfl := Option.some.inj hf
    exact g_iret dX3_rumour_20 rfl rfl ⟨rfl, rfl⟩
  · replace hf := (if_neg h2).symm.trans hf
    refine g_iload_n (pc' := 8) dX3_rumour_7 rfl rfl rfl ?_
    obtain ⟨q4, hq4, hf⟩ := Option.bind_eq_some_iff.mp hf
    refine g_callS (pc' := 11) (as := [.int x2]) (wX3_isEvent g _ x2 hq4) oX3_isEvent ⟨Nat.le_of_ble_eq_true rfl, Nat.le_of_ble_eq_true rfl⟩ dX3_rumour_8 rfl q1160 q1161 q86 (Nat.le_of_ble_eq_true rfl) (Nat.le_of_ble_eq_true rfl) (g_rI ?_) g_nt rfl
    refine g_if_ne (tgt := 21) (pc' := 14) dX3_rumour_11 (by decide) rfl (fun h5 => ?_) (fun h5 => ?_)
    · replace hf := (if_neg h5).symm.trans hf
      refine g_aload_n (pc' := 22) dX3_rumour_21 rfl rfl rfl ?_
      refine gt_get (k := 0) (pc' := 25) (by decide) dX3_rumour_22 rfl q1048 rfl ?_
      refine g_iconst (pc' := 26) (v := 0) dX3_rumour_25 rfl (by decide) ?_
      obtain ⟨v6, hv6, hf⟩ := Option.bind_eq_some_iff.mp hf
      refine gt_iald (pc' := 27) hA (by decide) dX3_rumour_26 rfl hv6 ?_
      refine g_bipush (pc' := 29) (v := 10) dX3_rumour_27 rfl (by decide) ?_
      refine g_icmp_ne (tgt := 41) (pc' := 32) dX3_rumour_29 (by decide) rfl (fun h7 => ?_) (fun h7 => ?_)
      · replace hf := (if_neg h7).symm.trans hf
        refine g_aload_n (pc' := 42) dX3_rumour_41 rfl rfl rfl ?_
        refine g_iload_n (pc' := 43) dX3_rumour_42 rfl rfl rfl ?_
        refine g_iload_n (pc' := 44) dX3_rumour_43 rfl rfl rfl ?_
        obtain ⟨q8, hq8, hf⟩ := Option.bind_eq_some_iff.mp hf
        refine g_callV (pc' := 47) (mx := mdX3_adds) (as := [.int x1, .int x2]) (wX3_adds g hA _ _ x1 x2 hq8) oX3_adds ⟨Nat.le_of_ble_eq_true rfl, Nat.le_of_ble_eq_true rfl⟩ dX3_rumour_44 rfl (ci := 3) rfl tC ⟨by decide +kernel, by decide +kernel⟩ oX3_adds.2.2.2 rfl q1165 q1167 qs40 qs40 q1167 (Nat.le_of_ble_eq_true rfl) (Nat.le_of_ble_eq_true rfl) (g_rI ?_) g_nt rfl
        obtain rfl := Option.some.inj hf
        exact g_iret dX3_rumour_47 rfl rfl ⟨rfl, rfl⟩
      · replace hf := (if_pos h7).symm.trans hf
        refine g_aload_n (pc' := 33) dX3_rumour_32 rfl rfl rfl ?_
        refine g_ldc (pc' := 35) dX3_rumour_33 rfl q1164 ?_
        obtain ⟨q9, hq9, hf⟩ := Option.bind_eq_some_iff.mp hf
        refine g_callV (pc' := 38) (mx := mdX3_finds) (as := [.int (-1000000002)]) (wX3_finds g hA _ _ (-1000000002) hq9) oX3_finds ⟨Nat.le_of_ble_eq_true rfl, Nat.le_of_ble_eq_true rfl⟩ dX3_rumour_35 rfl (ci := 3) rfl tC ⟨by decide +kernel, by decide +kernel⟩ oX3_finds.2.2.2 rfl q1117 q1119 qs33 qs33 q1119 (Nat.le_of_ble_eq_true rfl) (Nat.le_of_ble_eq_true rfl) (g_rI ?_) g_nt rfl
        refine g_goto (tgt := 47) dX3_rumour_38 (by decide) ?_
        obtain rfl := Option.some.inj hf
        exact g_iret dX3_rumour_47 rfl rfl ⟨rfl, rfl⟩
    · replace hf := (if_pos h5).symm.trans hf
      refine g_aload_n (pc' := 15) dX3_rumour_14 rfl rfl rfl ?_
      refine g_ldc (pc' := 17) dX3_rumour_15 rfl q1116 ?_
      obtain ⟨q10, hq10, hf⟩ := Option.bind_eq_some_iff.mp hf
      refine g_callV (pc' := 20) (mx := mdX3_finds) (as := [.int (-1000000001)]) (wX3_finds g hA _ _ (-1000000001) hq10) oX3_finds ⟨Nat.le_of_ble_eq_true rfl, Nat.le_of_ble_eq_true rfl⟩ dX3_rumour_17 rfl (ci := 3) rfl tC ⟨by decide +kernel, by decide +kernel⟩ oX3_finds.2.2.2 rfl q1117 q1119 qs33 qs33 q1119 (Nat.le_of_ble_eq_true rfl) (Nat.le_of_ble_eq_true rfl) (g_rI ?_) g_nt rfl
      obtain rfl := Option.some.inj hf
      exact g_iret dX3_rumour_20 rfl rfl ⟨rfl, rfl⟩
def mdX3_isRumour : bMD := (yX3_isRumour, cX3_isRumour, 2, (some FieldType.boolean), [], 2, 37)
theorem oX3_isRumour : bOkc mdX3_isRumour 1 := ⟨by decide +kernel, ⟨by decide +kernel, by decide +kernel⟩, by decide +kernel, q1176⟩
def fX3_isRumour (M : tM) (x1 : Int32) : Option Int32 :=
  Option.bind (rA M 0 0) fun v1 =>
  Option.bind (fX3_in ((x1 : Int32).toInt64) 0 (((v1 - 1) : Int32).toInt64)) fun q2 =>
  bz q2 (some q2)
set_option maxHeartbeats 4000000 in
theorem wX3_isRumour (g : bGh) {A : tA} (hA : tO A) (w : bWl) (M : tM) (x1 : Int32) {r : Int32} (hf : fX3_isRumour M x1 = some r) : bM g mdX3_isRumour (tW A M w) [.ref A.1, .int x1] (q_ (eI r) (tW A M w)) := by
  unfold fX3_isRumour at hf
  change bG _ _ 0 [some (.ref A.1), some (.int x1)] []
  refine g_iload_n (pc' := 1) dX3_isRumour_0 rfl rfl rfl ?_
  refine g_i2l (pc' := 2) dX3_isRumour_1 rfl ?_
  refine g_lconst (pc' := 3) (v := 0) dX3_isRumour_2 rfl (by decide) ?_
  refine g_aload_n (pc' := 4) dX3_isRumour_3 rfl rfl rfl ?_
  refine gt_get (k := 0) (pc' := 7) (by decide) dX3_isRumour_4 rfl q1048 rfl ?_
  refine g_iconst (pc' := 8) (v := 0) dX3_isRumour_7 rfl (by decide) ?_
  obtain ⟨v1, hv1, hf⟩ := Option.bind_eq_some_iff.mp hf
  refine gt_iald (pc' := 9) hA (by decide) dX3_isRumour_8 rfl hv1 ?_
  refine g_iconst (pc' := 10) (v := 1) dX3_isRumour_9 rfl (by decide) ?_
  refine g_isub (pc' := 11) dX3_isRumour_10 rfl ?_
  refine g_i2l (pc' := 12) dX3_isRumour_11 rfl ?_
  obtain ⟨q2, hq2, hf⟩ := Option.bind_eq_some_iff.mp hf
  refine g_callS (pc' := 15) (as := [.long ((x1 : Int32).toInt64), .long 0, .long (((v1 - 1) : Int32).toInt64)]) (wX3_in g _ ((x1 : Int32).toInt64) 0 (((v1 - 1) : Int32).toInt64) hq2) oX3_in ⟨Nat.le_of_ble_eq_true rfl, Nat.le_of_ble_eq_true rfl⟩ dX3_isRumour_12 rfl q1102 q1103 q86 (Nat.le_of_ble_eq_true rfl) (Nat.le_of_ble_eq_true rfl) (g_rI ?_) g_nt rfl
  obtain ⟨h3, hf⟩ := bz_spec hf
  obtain rfl := Option.some.inj hf
  exact g_iret dX3_isRumour_15 rfl (bz_nar h3) ⟨rfl, rfl⟩
def mdX3_needs : bMD := (yX3_needs, cX3_needs, 3, (some FieldType.int), [], 3, 55)
theorem oX3_needs : bOkc mdX3_needs 1 := ⟨by decide +kernel, ⟨by decide +kernel, by decide +kernel⟩, by decide +kernel, q1180⟩
def fX3_needs (M : tM) (x1 : Int32) : Option Int32 :=
  Option.bind (fX3_its M x1 2) fun q1 =>
  Option.bind (α := Int32) ((if 20 ≤ q1 then
  some 3
else
  some 1)) fun q2 =>
  Option.bind (fX3_its M x1 0) fun q4 =>
  (if q4 = 1 then
  some q2
else
  (if q4 = 2 then
  some 6
else
  (if q4 = 3 then
  some 4
else
  (if q4 = 4 then
  some (q2 - 1)
else
  (if q4 = 5 then
  some 7
else
  some 3)))))
set_option maxHeartbeats 4000000 in
theorem wX3_needs (g : bGh) {A : tA} (hA : tO A) (w : bWl) (M : tM) (x1 : Int32) {r : Int32} (hf : fX3_needs M x1 = some r) : bM g mdX3_needs (tW A M w) [.ref A.1, .int x1] (q_ (eI r) (tW A M w)) := by
  unfold fX3_needs at hf
  change bG _ _ 0 [some (.ref A.1), some (.int x1)] []
  refine g_aload_n (pc' := 1) dX3_needs_0 rfl rfl rfl ?_
  refine g_iload_n (pc' := 2) dX3_needs_1 rfl rfl rfl ?_
  refine g_iconst (pc' := 3) (v := 2) dX3_needs_2 rfl (by decide) ?_
  obtain ⟨q1, hq1, hf⟩ := Option.bind_eq_some_iff.mp hf
  refine g_callV (pc' := 6) (mx := mdX3_its) (as := [.int x1, .int 2]) (wX3_its g hA _ _ x1 2 hq1) oX3_its ⟨Nat.le_of_ble_eq_true rfl, Nat.le_of_ble_eq_true rfl⟩ dX3_needs_3 rfl (ci := 3) rfl tC ⟨by decide +kernel, by decide +kernel⟩ oX3_its.2.2.2 rfl q1134 q1136 qs36 qs36 q1136 (Nat.le_of_ble_eq_true rfl) (Nat.le_of_ble_eq_true rfl) (g_rI ?_) g_nt rfl
  refine g_bipush (pc' := 8) (v := 20) dX3_needs_6 rfl (by decide) ?_
  obtain ⟨q2, hqq2, hf⟩ := Option.bind_eq_some_iff.mp hf
  have hJq2 : bG (g, mdX3_needs, (tW A M w).2.1, (tW A M w).2.2.1, (q_ (eI r) (tW A M w))) (tW A M w) 16 [some (.ref A.1), some (.int x1)] [.int q2] := by
    refine g_istore_n (pc' := 17) (L' := [some (.ref A.1), some (.int x1), some (.int q2)]) dX3_needs_16 rfl rfl (Nat.le_of_ble_eq_true rfl) rfl rfl ?_
    refine g_aload_n (pc' := 18) dX3_needs_17 rfl rfl rfl ?_
    refine g_iload_n (pc' := 19) dX3_needs_18 rfl rfl rfl ?_
    refine g_iconst (pc' := 20) (v := 0) dX3_needs_19 rfl (by decide) ?_
    obtain ⟨q4, hq4, hf⟩ := Option.bind_eq_some_iff.mp hf
    refine g_callV (pc' := 23) (mx := mdX3_its) (as := [.int x1, .int 0]) (wX3_its g hA _ _ x1 0 hq4) oX3_its ⟨Nat.le_of_ble_eq_true rfl, Nat.le_of_ble_eq_true rfl⟩ dX3_needs_20 rfl (ci := 3) rfl tC ⟨by decide +kernel, by decide +kernel⟩ oX3_its.2.2.2 rfl q1134 q1136 qs36 qs36 q1136 (Nat.le_of_ble_eq_true rfl) (Nat.le_of_ble_eq_true rfl) (g_rI ?_) g_nt rfl
    by_cases h5 : q4 = 1
    · replace hf := (if_pos h5).symm.trans hf
      refine g_tableIn (tgt := 56) dX3_needs_23 (by rw [h5]; decide) (by rw [h5]; decide) (by rw [h5]; rfl) (by decide) ?_
      refine g_iload_n (pc' := 57) dX3_needs_56 rfl rfl rfl ?_
      obtain rfl := Option.some.inj hf
      exact g_iret dX3_needs_57 rfl rfl ⟨rfl, rfl⟩
    · replace hf := (if_neg h5).symm.trans hf
      by_cases h6 : q4 = 2
      · replace hf := (if_pos h6).symm.trans hf
        refine g_tableIn (tgt := 58) dX3_needs_23 (by rw [h6]; decide) (by rw [h6]; decide) (by rw [h6]; rfl) (by decide) ?_
        refine g_bipush (pc' := 60) (v := 6) dX3_needs_58 rfl (by decide) ?_
        obtain rfl := Option.some.inj hf
        exact g_iret dX3_needs_60 rfl rfl ⟨rfl, rfl⟩
      · replace hf := (if_neg h6).symm.trans hf
        by_cases h7 : q4 = 3
        · replace hf := (if_pos h7).symm.trans hf
          refine g_tableIn (tgt := 61) dX3_needs_23 (by rw [h7]; decide) (by rw [h7]; decide) (by rw [h7]; rfl) (by decide) ?_
          refine g_iconst (pc' := 62) (v := 4) dX3_needs_61 rfl (by decide) ?_
          obtain rfl := Option.some.inj hf
          exact g_iret dX3_needs_62 rfl rfl ⟨rfl, rfl⟩
        · replace hf := (if_neg h7).symm.trans hf
          by_cases h8 : q4 = 4
          · replace hf := (if_pos h8).symm.trans hf
            refine g_tableIn (tgt := 63) dX3_needs_23 (by rw [h8]; decide) (by rw [h8]; decide) (by rw [h8]; rfl) (by decide) ?_
            refine g_iload_n (pc' := 64) dX3_needs_63 rfl rfl rfl ?_
            refine g_iconst (pc' := 65) (v := 1) dX3_needs_64 rfl (by decide) ?_
            refine g_isub (pc' := 66) dX3_needs_65 rfl ?_
            obtain rfl := Option.some.inj hf
            exact g_iret dX3_needs_66 rfl rfl ⟨rfl, rfl⟩
          · replace hf := (if_neg h8).symm.trans hf
            by_cases h9 : q4 = 5
            · replace hf := (if_pos h9).symm.trans hf
              refine g_tableIn (tgt := 67) dX3_needs_23 (by rw [h9]; decide) (by rw [h9]; decide) (by rw [h9]; rfl) (by decide) ?_
              refine g_bipush (pc' := 69) (v := 7) dX3_needs_67 rfl (by decide) ?_
              obtain rfl := Option.some.inj hf
              exact g_iret dX3_needs_69 rfl rfl ⟨rfl, rfl⟩
            · replace hf := (if_neg h9).symm.trans hf
              refine g_tableOut (tgt := 70) dX3_needs_23 (by have kh5 := lv_neT h5 (a := 1) rfl; have kh6 := lv_neT h6 (a := 2) rfl; have kh7 := lv_neT h7 (a := 3) rfl; have kh8 := lv_neT h8 (a := 4) rfl; have kh9 := lv_neT h9 (a := 5) rfl; omega) (by decide) ?_
              refine g_iconst (pc' := 71) (v := 3) dX3_needs_70 rfl (by decide) ?_
              obtain rfl := Option.some.inj hf
              exact g_iret dX3_needs_71 rfl rfl ⟨rfl, rfl⟩
  replace hf := hqq2
  refine g_icmp_ge (tgt := 15) (pc' := 11) dX3_needs_8 (by decide) rfl (fun h3 => ?_) (fun h3 => ?_)
  · replace hf := (if_pos h3).symm.trans hf
    refine g_iconst (pc' := 16) (v := 3) dX3_needs_15 rfl (by decide) ?_
    obtain rfl := Option.some.inj hf
    exact hJq2
  · replace hf := (if_neg h3).symm.trans hf
    refine g_iconst (pc' := 12) (v := 1) dX3_needs_11 rfl (by decide) ?_
    refine g_goto (tgt := 16) dX3_needs_12 (by decide) ?_
    obtain rfl := Option.some.inj hf
    exact hJq2
def mdX3_grows : bMD := (yX3_grows, cX3_grows, 2, (some FieldType.int), [], 3, 55)
theorem oX3_grows : bOkc mdX3_grows 1 := ⟨by decide +kernel, ⟨by decide +kernel, by decide +kernel⟩, by decide +kernel, q1184⟩
def fX3_grows (M : tM) (x1 : Int32) : Option Int32 :=
  Option.bind (fX3_its M x1 0) fun q1 =>
  (if q1 = 1 then
  Option.bind (fX3_its M x1 2) fun q3 =>
  some ((q3 / 10) + 1)
else
  (if q1 = 2 then
  some 0
else
  (if q1 = 3 then
  Option.bind (fX3_its M x1 3) fun q6 =>
  (if (q6 - q6 / 2 * 2) = 0 then
  some 1
else
  some 0)
else
  (if q1 = 4 then
  Option.bind (fX3_its M x1 2) fun q9 =>
  some ((q9 / 10) + 1)
else
  (if q1 = 5 then
  some 0
else
  some 1)))))
set_option maxHeartbeats 4000000 in
theorem wX3_grows (g : bGh) {A : tA} (hA : tO A) (w : bWl) (M : tM) (x1 : Int32) {r : Int32} (hf : fX3_grows M x1 = some r) : bM g mdX3_grows (tW A M w) [.ref A.1, .int x1] (q_ (eI r) (tW A M w)) := by
  unfold fX3_grows at hf
  change bG _ _ 0 [some (.ref A.1), some (.int x1)] []
  refine g_aload_n (pc' := 1) dX3_grows_0 rfl rfl rfl ?_
  refine g_iload_n (pc' := 2) dX3_grows_1 rfl rfl rfl ?_
  refine g_iconst (pc' := 3) (v := 0) dX3_grows_2 rfl (by decide) ?_
  obtain ⟨q1, hq1, hf⟩ := Option.bind_eq_some_iff.mp hf
  refine g_callV (pc' := 6) (mx := mdX3_its) (as := [.int x1, .int 0]) (wX3_its g hA _ _ x1 0 hq1) oX3_its ⟨Nat.le_of_ble_eq_true rfl, Nat.le_of_ble_eq_true rfl⟩ dX3_grows_3 rfl (ci := 3) rfl tC ⟨by decide +kernel, by decide +kernel⟩ oX3_its.2.2.2 rfl q1134 q1136 qs36 qs36 q1136 (Nat.le_of_ble_eq_true rfl) (Nat.le_of_ble_eq_true rfl) (g_rI ?_) g_nt rfl
  by_cases h2 : q1 = 1
  · replace hf := (if_pos h2).symm.trans hf
    refine g_tableIn (tgt := 40) dX3_grows_6 (by rw [h2]; decide) (by rw [h2]; decide) (by rw [h2]; rfl) (by decide) ?_
    refine g_aload_n (pc' := 41) dX3_grows_40 rfl rfl rfl ?_
    refine g_iload_n (pc' := 42) dX3_grows_41 rfl rfl rfl ?_
    refine g_iconst (pc' := 43) (v := 2) dX3_grows_42 rfl (by decide) ?_
    obtain ⟨q3, hq3, hf⟩ := Option.bind_eq_some_iff.mp hf
    refine g_callV (pc' := 46) (mx := mdX3_its) (as := [.int x1, .int 2]) (wX3_its g hA _ _ x1 2 hq3) oX3_its ⟨Nat.le_of_ble_eq_true rfl, Nat.le_of_ble_eq_true rfl⟩ dX3_grows_43 rfl (ci := 3) rfl tC ⟨by decide +kernel, by decide +kernel⟩ oX3_its.2.2.2 rfl q1134 q1136 qs36 qs36 q1136 (Nat.le_of_ble_eq_true rfl) (Nat.le_of_ble_eq_true rfl) (g_rI ?_) g_nt rfl
    refine g_bipush (pc' := 48) (v := 10) dX3_grows_46 rfl (by decide) ?_
    refine g_idiv (pc' := 49) dX3_grows_48 rfl (by decide) ?_
    refine g_iconst (pc' := 50) (v := 1) dX3_grows_49 rfl (by decide) ?_
    refine g_iadd (pc' := 51) dX3_grows_50 rfl ?_
    obtain rfl := Option.some.inj hf
    exact g_iret dX3_grows_51 rfl rfl ⟨rfl, rfl⟩
  · replace hf := (if_neg h2).symm.trans hf
    by_cases h4 : q1 = 2
    · replace hf := (if_pos h4).symm.trans hf
      refine g_tableIn (tgt := 52) dX3_grows_6 (by rw [h4]; decide) (by rw [h4]; decide) (by rw [h4]; rfl) (by decide) ?_
      refine g_iconst (pc' := 53) (v := 0) dX3_grows_52 rfl (by decide) ?_
      obtain rfl := Option.some.inj hf
      exact g_iret dX3_grows_53 rfl rfl ⟨rfl, rfl⟩
    · replace hf := (if_neg h4).symm.trans hf
      by_cases h5 : q1 = 3
      · replace hf := (if_pos h5).symm.trans hf
        refine g_tableIn (tgt := 54) dX3_grows_6 (by rw [h5]; decide) (by rw [h5]; decide) (by rw [h5]; rfl) (by decide) ?_
        refine g_aload_n (pc' := 55) dX3_grows_54 rfl rfl rfl ?_
        refine g_iload_n (pc' := 56) dX3_grows_55 rfl rfl rfl ?_
        refine g_iconst (pc' := 57) (v := 3) dX3_grows_56 rfl (by decide) ?_
        obtain ⟨q6, hq6, hf⟩ := Option.bind_eq_some_iff.mp hf
        refine g_callV (pc' := 60) (mx := mdX3_its) (as := [.int x1, .int 3]) (wX3_its g hA _ _ x1 3 hq6) oX3_its ⟨Nat.le_of_ble_eq_true rfl, Nat.le_of_ble_eq_true rfl⟩ dX3_grows_57 rfl (ci := 3) rfl tC ⟨by decide +kernel, by decide +kernel⟩ oX3_its.2.2.2 rfl q1134 q1136 qs36 qs36 q1136 (Nat.le_of_ble_eq_true rfl) (Nat.le_of_ble_eq_true rfl) (g_rI ?_) g_nt rfl
        refine g_iconst (pc' := 61) (v := 2) dX3_grows_60 rfl (by decide) ?_
        refine g_irem (pc' := 62) dX3_grows_61 rfl (by decide) ?_
        refine g_if_ne (tgt := 69) (pc' := 65) dX3_grows_62 (by decide) rfl (fun h7 => ?_) (fun h7 => ?_)
        · replace hf := (if_neg h7).symm.trans hf
          refine g_iconst (pc' := 70) (v := 0) dX3_grows_69 rfl (by decide) ?_
          obtain rfl := Option.some.inj hf
          exact g_iret dX3_grows_70 rfl rfl ⟨rfl, rfl⟩
        · replace hf := (if_pos h7).symm.trans hf
          refine g_iconst (pc' := 66) (v := 1) dX3_grows_65 rfl (by decide) ?_
          refine g_goto (tgt := 70) dX3_grows_66 (by decide) ?_
          obtain rfl := Option.some.inj hf
          exact g_iret dX3_grows_70 rfl rfl ⟨rfl, rfl⟩
      · replace hf := (if_neg h5).symm.trans hf
        by_cases h8 : q1 = 4
        · replace hf := (if_pos h8).symm.trans hf
          refine g_tableIn (tgt := 40) dX3_grows_6 (by rw [h8]; decide) (by rw [h8]; decide) (by rw [h8]; rfl) (by decide) ?_
          refine g_aload_n (pc' := 41) dX3_grows_40 rfl rfl rfl ?_
          refine g_iload_n (pc' := 42) dX3_grows_41 rfl rfl rfl ?_
          refine g_iconst (pc' := 43) (v := 2) dX3_grows_42 rfl (by decide) ?_
          obtain ⟨q9, hq9, hf⟩ := Option.bind_eq_some_iff.mp hf
          refine g_callV (pc' := 46) (mx := mdX3_its) (as := [.int x1, .int 2]) (wX3_its g hA _ _ x1 2 hq9) oX3_its ⟨Nat.le_of_ble_eq_true rfl, Nat.le_of_ble_eq_true rfl⟩ dX3_grows_43 rfl (ci := 3) rfl tC ⟨by decide +kernel, by decide +kernel⟩ oX3_its.2.2.2 rfl q1134 q1136 qs36 qs36 q1136 (Nat.le_of_ble_eq_true rfl) (Nat.le_of_ble_eq_true rfl) (g_rI ?_) g_nt rfl
          refine g_bipush (pc' := 48) (v := 10) dX3_grows_46 rfl (by decide) ?_
          refine g_idiv (pc' := 49) dX3_grows_48 rfl (by decide) ?_
          refine g_iconst (pc' := 50) (v := 1) dX3_grows_49 rfl (by decide) ?_
          refine g_iadd (pc' := 51) dX3_grows_50 rfl ?_
          obtain rfl := Option.some.inj hf
          exact g_iret dX3_grows_51 rfl rfl ⟨rfl, rfl⟩
        · replace hf := (if_neg h8).symm.trans hf
          by_cases h10 : q1 = 5
          · replace hf := (if_pos h10).symm.trans hf
            refine g_tableIn (tgt := 52) dX3_grows_6 (by rw [h10]; decide) (by rw [h10]; decide) (by rw [h10]; rfl) (by decide) ?_
            refine g_iconst (pc' := 53) (v := 0) dX3_grows_52 rfl (by decide) ?_
            obtain rfl := Option.some.inj hf
            exact g_iret dX3_grows_53 rfl rfl ⟨rfl, rfl⟩
          · replace hf := (if_neg h10).symm.trans hf
            refine g_tableOut (tgt := 71) dX3_grows_6 (by have kh2 := lv_neT h2 (a := 1) rfl; have kh4 := lv_neT h4 (a := 2) rfl; have kh5 := lv_neT h5 (a := 3) rfl; have kh8 := lv_neT h8 (a := 4) rfl; have kh10 := lv_neT h10 (a := 5) rfl; omega) (by decide) ?_
            refine g_iconst (pc' := 72) (v := 1) dX3_grows_71 rfl (by decide) ?_
            obtain rfl := Option.some.inj hf
            exact g_iret dX3_grows_72 rfl rfl ⟨rfl, rfl⟩
def mdX3_of : bMD := (yX3_of, cX3_of, 3, (some FieldType.int), [], 4, 78)
theorem oX3_of : bOkc mdX3_of 2 := ⟨by decide +kernel, ⟨by decide +kernel, by decide +kernel⟩, by decide +kernel, q1172⟩
def fX3_of (M : tM) (x1 : Int32) (x2 : Int32) : Option (Int32 × tM) :=
  Option.bind (fX3_isRumour M x1) fun q1 =>
  (if q1 = 0 then
  Option.bind (fX3_finds M (-1000000001)) fun q3 =>
  some (q3.1, q3.2)
else
  Option.bind (fX3_in ((x2 : Int32).toInt64) 0 7) fun q4 =>
  (if q4 = 0 then
  Option.bind (fX3_finds M (-1000000001)) fun q13 =>
  some (q13.1, q13.2)
else
  (if 4 < x2 then
  (if x2 = 5 then
  Option.bind (fX3_eats M x1) fun q11 =>
  some (q11, M)
else
  (if x2 = 6 then
  Option.bind (fX3_needs M x1) fun q10 =>
  some (q10, M)
else
  Option.bind (fX3_grows M x1) fun q9 =>
  some (q9, M)))
else
  Option.bind (fX3_its M x1 x2) fun q12 =>
  some (q12, M))))
set_option maxHeartbeats 4000000 in
theorem wX3_of (g : bGh) {A : tA} (hA : tO A) (w : bWl) (M : tM) (x1 : Int32) (x2 : Int32) {r : (Int32 × tM)} (hf : fX3_of M x1 x2 = some r) : bM g mdX3_of (tW A M w) [.ref A.1, .int x1, .int x2] (q_ (eI r.1) (tW A r.2 w)) := by
  unfold fX3_of at hf
  change bG _ _ 0 [some (.ref A.1), some (.int x1), some (.int x2)] []
  refine g_aload_n (pc' := 1) dX3_of_0 rfl rfl rfl ?_
  refine g_iload_n (pc' := 2) dX3_of_1 rfl rfl rfl ?_
  obtain ⟨q1, hq1, hf⟩ := Option.bind_eq_some_iff.mp hf
  refine g_callV (pc' := 5) (mx := mdX3_isRumour) (as := [.int x1]) (wX3_isRumour g hA _ _ x1 hq1) oX3_isRumour ⟨Nat.le_of_ble_eq_true rfl, Nat.le_of_ble_eq_true rfl⟩ dX3_of_2 rfl (ci := 3) rfl tC ⟨by decide +kernel, by decide +kernel⟩ oX3_isRumour.2.2.2 rfl q1173 q1175 qs41 qs41 q1175 (Nat.le_of_ble_eq_true rfl) (Nat.le_of_ble_eq_true rfl) (g_rI ?_) g_nt rfl
  refine g_if_eq (tgt := 20) (pc' := 8) dX3_of_5 (by decide) rfl (fun h2 => ?_) (fun h2 => ?_)
  · replace hf := (if_pos h2).symm.trans hf
    refine g_aload_n (pc' := 21) dX3_of_20 rfl rfl rfl ?_
    refine g_ldc (pc' := 23) dX3_of_21 rfl q1116 ?_
    obtain ⟨q3, hq3, hf⟩ := Option.bind_eq_some_iff.mp hf
    refine g_callV (pc' := 26) (mx := mdX3_finds) (as := [.int (-1000000001)]) (wX3_finds g hA _ _ (-1000000001) hq3) oX3_finds ⟨Nat.le_of_ble_eq_true rfl, Nat.le_of_ble_eq_true rfl⟩ dX3_of_23 rfl (ci := 3) rfl tC ⟨by decide +kernel, by decide +kernel⟩ oX3_finds.2.2.2 rfl q1117 q1119 qs33 qs33 q1119 (Nat.le_of_ble_eq_true rfl) (Nat.le_of_ble_eq_true rfl) (g_rI ?_) g_nt rfl
    obtain rfl := Option.some.inj hf
    exact g_iret dX3_of_26 rfl rfl ⟨rfl, rfl⟩
  · replace hf := (if_neg h2).symm.trans hf
    refine g_iload_n (pc' := 9) dX3_of_8 rfl rfl rfl ?_
    refine g_i2l (pc' := 10) dX3_of_9 rfl ?_
    refine g_lconst (pc' := 11) (v := 0) dX3_of_10 rfl (by decide) ?_
    refine g_ldc2 (pc' := 14) dX3_of_11 rfl q1111 ?_
    obtain ⟨q4, hq4, hf⟩ := Option.bind_eq_some_iff.mp hf
    refine g_callS (pc' := 17) (as := [.long ((x2 : Int32).toInt64), .long 0, .long 7]) (wX3_in g _ ((x2 : Int32).toInt64) 0 7 hq4) oX3_in ⟨Nat.le_of_ble_eq_true rfl, Nat.le_of_ble_eq_true rfl⟩ dX3_of_14 rfl q1102 q1103 q86 (Nat.le_of_ble_eq_true rfl) (Nat.le_of_ble_eq_true rfl) (g_rI ?_) g_nt rfl
    refine g_if_ne (tgt := 27) (pc' := 20) dX3_of_17 (by decide) rfl (fun h5 => ?_) (fun h5 => ?_)
    · replace hf := (if_neg h5).symm.trans hf
      refine g_iload_n (pc' := 28) dX3_of_27 rfl rfl rfl ?_
      refine g_iconst (pc' := 29) (v := 4) dX3_of_28 rfl (by decide) ?_
      refine g_icmp_gt (tgt := 41) (pc' := 32) dX3_of_29 (by decide) rfl (fun h6 => ?_) (fun h6 => ?_)
      · replace hf := (if_pos h6).symm.trans hf
        refine g_iload_n (pc' := 42) dX3_of_41 rfl rfl rfl ?_
        refine g_iconst (pc' := 43) (v := 5) dX3_of_42 rfl (by decide) ?_
        refine g_icmp_ne (tgt := 54) (pc' := 46) dX3_of_43 (by decide) rfl (fun h7 => ?_) (fun h7 => ?_)
        · replace hf := (if_neg h7).symm.trans hf
          refine g_iload_n (pc' := 55) dX3_of_54 rfl rfl rfl ?_
          refine g_bipush (pc' := 57) (v := 6) dX3_of_55 rfl (by decide) ?_
          refine g_icmp_ne (tgt := 68) (pc' := 60) dX3_of_57 (by decide) rfl (fun h8 => ?_) (fun h8 => ?_)
          · replace hf := (if_neg h8).symm.trans hf
            refine g_aload_n (pc' := 69) dX3_of_68 rfl rfl rfl ?_
            refine g_iload_n (pc' := 70) dX3_of_69 rfl rfl rfl ?_
            obtain ⟨q9, hq9, hf⟩ := Option.bind_eq_some_iff.mp hf
            refine g_callV (pc' := 73) (mx := mdX3_grows) (as := [.int x1]) (wX3_grows g hA _ _ x1 hq9) oX3_grows ⟨Nat.le_of_ble_eq_true rfl, Nat.le_of_ble_eq_true rfl⟩ dX3_of_70 rfl (ci := 3) rfl tC ⟨by decide +kernel, by decide +kernel⟩ oX3_grows.2.2.2 rfl q1181 q1183 qs43 qs43 q1183 (Nat.le_of_ble_eq_true rfl) (Nat.le_of_ble_eq_true rfl) (g_rI ?_) g_nt rfl
            obtain rfl := Option.some.inj hf
            exact g_iret dX3_of_73 rfl rfl ⟨rfl, rfl⟩
          · replace hf := (if_pos h8).symm.trans hf
            refine g_aload_n (pc' := 61) dX3_of_60 rfl rfl rfl ?_
            refine g_iload_n (pc' := 62) dX3_of_61 rfl rfl rfl ?_
            obtain ⟨q10, hq10, hf⟩ := Option.bind_eq_some_iff.mp hf
            refine g_callV (pc' := 65) (mx := mdX3_needs) (as := [.int x1]) (wX3_needs g hA _ _ x1 hq10) oX3_needs ⟨Nat.le_of_ble_eq_true rfl, Nat.le_of_ble_eq_true rfl⟩ dX3_of_62 rfl (ci := 3) rfl tC ⟨by decide +kernel, by decide +kernel⟩ oX3_needs.2.2.2 rfl q1177 q1179 qs42 qs42 q1179 (Nat.le_of_ble_eq_true rfl) (Nat.le_of_ble_eq_true rfl) (g_rI ?_) g_nt rfl
            refine g_goto (tgt := 73) dX3_of_65 (by decide) ?_
            obtain rfl := Option.some.inj hf
            exact g_iret dX3_of_73 rfl rfl ⟨rfl, rfl⟩
        · replace hf := (if_pos h7).symm.trans hf
          refine g_aload_n (pc' := 47) dX3_of_46 rfl rfl rfl ?_
          refine g_iload_n (pc' := 48) dX3_of_47 rfl rfl rfl ?_
          obtain ⟨q11, hq11, hf⟩ := Option.bind_eq_some_iff.mp hf
          refine g_callV (pc' := 51) (mx := mdX3_eats) (as := [.int x1]) (wX3_eats g hA _ _ x1 hq11) oX3_eats ⟨Nat.le_of_ble_eq_true rfl, Nat.le_of_ble_eq_true rfl⟩ dX3_of_48 rfl (ci := 3) rfl tC ⟨by decide +kernel, by decide +kernel⟩ oX3_eats.2.2.2 rfl q1149 q1151 qs39 qs39 q1151 (Nat.le_of_ble_eq_true rfl) (Nat.le_of_ble_eq_true rfl) (g_rI ?_) g_nt rfl
          refine g_goto (tgt := 73) dX3_of_51 (by decide) ?_
          obtain rfl := Option.some.inj hf
          exact g_iret dX3_of_73 rfl rfl ⟨rfl, rfl⟩
      · replace hf := (if_neg h6).symm.trans hf
        refine g_aload_n (pc' := 33) dX3_of_32 rfl rfl rfl ?_
        refine g_iload_n (pc' := 34) dX3_of_33 rfl rfl rfl ?_
        refine g_iload_n (pc' := 35) dX3_of_34 rfl rfl rfl ?_
        obtain ⟨q12, hq12, hf⟩ := Option.bind_eq_some_iff.mp hf
        refine g_callV (pc' := 38) (mx := mdX3_its) (as := [.int x1, .int x2]) (wX3_its g hA _ _ x1 x2 hq12) oX3_its ⟨Nat.le_of_ble_eq_true rfl, Nat.le_of_ble_eq_true rfl⟩ dX3_of_35 rfl (ci := 3) rfl tC ⟨by decide +kernel, by decide +kernel⟩ oX3_its.2.2.2 rfl q1134 q1136 qs36 qs36 q1136 (Nat.le_of_ble_eq_true rfl) (Nat.le_of_ble_eq_true rfl) (g_rI ?_) g_nt rfl
        refine g_goto (tgt := 73) dX3_of_38 (by decide) ?_
        obtain rfl := Option.some.inj hf
        exact g_iret dX3_of_73 rfl rfl ⟨rfl, rfl⟩
    · replace hf := (if_pos h5).symm.trans hf
      refine g_aload_n (pc' := 21) dX3_of_20 rfl rfl rfl ?_
      refine g_ldc (pc' := 23) dX3_of_21 rfl q1116 ?_
      obtain ⟨q13, hq13, hf⟩ := Option.bind_eq_some_iff.mp hf
      refine g_callV (pc' := 26) (mx := mdX3_finds) (as := [.int (-1000000001)]) (wX3_finds g hA _ _ (-1000000001) hq13) oX3_finds ⟨Nat.le_of_ble_eq_true rfl, Nat.le_of_ble_eq_true rfl⟩ dX3_of_23 rfl (ci := 3) rfl tC ⟨by decide +kernel, by decide +kernel⟩ oX3_finds.2.2.2 rfl q1117 q1119 qs33 qs33 q1119 (Nat.le_of_ble_eq_true rfl) (Nat.le_of_ble_eq_true rfl) (g_rI ?_) g_nt rfl
      obtain rfl := Option.some.inj hf
      exact g_iret dX3_of_26 rfl rfl ⟨rfl, rfl⟩
def mdX3_set : bMD := (yX3_set, cX3_set, 5, (some FieldType.int), [], 3, 58)
theorem oX3_set : bOkc mdX3_set 3 := ⟨by decide +kernel, ⟨by decide +kernel, by decide +kernel⟩, by decide +kernel, q1188⟩
def fX3_set (M : tM) (x1 : Int32) (x2 : Int32) (x3 : Int32) : Option (Int32 × tM) :=
  Option.bind (fX3_in ((x2 : Int32).toInt64) 1 3) fun q1 =>
  Option.bind (α := Int32) ((if q1 = 0 then
  some 0
else
  Option.bind (α := Int64) ((if x2 = 1 then
  some 15
else
  (if x2 = 2 then
  some 99
else
  some 999))) fun q4 =>
  Option.bind (fX3_in ((x3 : Int32).toInt64) 0 q4) fun q7 =>
  (if q7 = 0 then
  some 0
else
  some 1))) fun q2 =>
  Option.bind (fX3_isRumour M x1) fun q9 =>
  (if q9 = 0 then
  Option.bind (fX3_finds M (-1000000001)) fun q11 =>
  some (q11.1, q11.2)
else
  (if q2 = 0 then
  Option.bind (fX3_finds M (-1000000001)) fun q13 =>
  some (q13.1, q13.2)
else
  Option.bind (fX3_spotOf x1 x2) fun q14 =>
  Option.bind (fX3_becomes M q14 x3) fun q15 =>
  some (q15.1, q15.2)))
set_option maxHeartbeats 4000000 in
theorem wX3_set (g : bGh) {A : tA} (hA : tO A) (w : bWl) (M : tM) (x1 : Int32) (x2 : Int32) (x3 : Int32) {r : (Int32 × tM)} (hf : fX3_set M x1 x2 x3 = some r) : bM g mdX3_set (tW A M w) [.ref A.1, .int x1, .int x2, .int x3] (q_ (eI r.1) (tW A r.2 w)) := by
  unfold fX3_set at hf
  change bG _ _ 0 [some (.ref A.1), some (.int x1), some (.int x2), some (.int x3)] []
  refine g_iload_n (pc' := 1) dX3_set_0 rfl rfl rfl ?_
  refine g_i2l (pc' := 2) dX3_set_1 rfl ?_
  refine g_lconst (pc' := 3) (v := 1) dX3_set_2 rfl (by decide) ?_
  refine g_ldc2 (pc' := 6) dX3_set_3 rfl q1105 ?_
  obtain ⟨q1, hq1, hf⟩ := Option.bind_eq_some_iff.mp hf
  refine g_callS (pc' := 9) (as := [.long ((x2 : Int32).toInt64), .long 1, .long 3]) (wX3_in g _ ((x2 : Int32).toInt64) 1 3 hq1) oX3_in ⟨Nat.le_of_ble_eq_true rfl, Nat.le_of_ble_eq_true rfl⟩ dX3_set_6 rfl q1102 q1103 q86 (Nat.le_of_ble_eq_true rfl) (Nat.le_of_ble_eq_true rfl) (g_rI ?_) g_nt rfl
  obtain ⟨q2, hqq2, hf⟩ := Option.bind_eq_some_iff.mp hf
  have hJq2 : bG (g, mdX3_set, (tW A M w).2.1, (tW A M w).2.2.1, (q_ (eI r.1) (tW A r.2 w))) (tW A M w) 51 [some (.ref A.1), some (.int x1), some (.int x2), some (.int x3)] [.int q2] := by
    refine g_istore (pc' := 53) (L' := [some (.ref A.1), some (.int x1), some (.int x2), some (.int x3), some (.int q2)]) dX3_set_51 rfl (Nat.le_of_ble_eq_true rfl) rfl rfl ?_
    refine g_aload_n (pc' := 54) dX3_set_53 rfl rfl rfl ?_
    refine g_iload_n (pc' := 55) dX3_set_54 rfl rfl rfl ?_
    obtain ⟨q9, hq9, hf⟩ := Option.bind_eq_some_iff.mp hf
    refine g_callV (pc' := 58) (mx := mdX3_isRumour) (as := [.int x1]) (wX3_isRumour g hA _ _ x1 hq9) oX3_isRumour ⟨Nat.le_of_ble_eq_true rfl, Nat.le_of_ble_eq_true rfl⟩ dX3_set_55 rfl (ci := 3) rfl tC ⟨by decide +kernel, by decide +kernel⟩ oX3_isRumour.2.2.2 rfl q1173 q1175 qs41 qs41 q1175 (Nat.le_of_ble_eq_true rfl) (Nat.le_of_ble_eq_true rfl) (g_rI ?_) g_nt rfl
    refine g_if_eq (tgt := 79) (pc' := 61) dX3_set_58 (by decide) rfl (fun h10 => ?_) (fun h10 => ?_)
    · replace hf := (if_pos h10).symm.trans hf
      refine g_aload_n (pc' := 80) dX3_set_79 rfl rfl rfl ?_
      refine g_ldc (pc' := 82) dX3_set_80 rfl q1116 ?_
      obtain ⟨q11, hq11, hf⟩ := Option.bind_eq_some_iff.mp hf
      refine g_callV (pc' := 85) (mx := mdX3_finds) (as := [.int (-1000000001)]) (wX3_finds g hA _ _ (-1000000001) hq11) oX3_finds ⟨Nat.le_of_ble_eq_true rfl, Nat.le_of_ble_eq_true rfl⟩ dX3_set_82 rfl (ci := 3) rfl tC ⟨by decide +kernel, by decide +kernel⟩ oX3_finds.2.2.2 rfl q1117 q1119 qs33 qs33 q1119 (Nat.le_of_ble_eq_true rfl) (Nat.le_of_ble_eq_true rfl) (g_rI ?_) g_nt rfl
      obtain rfl := Option.some.inj hf
      exact g_iret dX3_set_85 rfl rfl ⟨rfl, rfl⟩
    · replace hf := (if_neg h10).symm.trans hf
      refine g_iload (pc' := 63) dX3_set_61 rfl rfl ?_
      refine g_if_eq (tgt := 79) (pc' := 66) dX3_set_63 (by decide) rfl (fun h12 => ?_) (fun h12 => ?_)
      · replace hf := (if_pos h12).symm.trans hf
        refine g_aload_n (pc' := 80) dX3_set_79 rfl rfl rfl ?_
        refine g_ldc (pc' := 82) dX3_set_80 rfl q1116 ?_
        obtain ⟨q13, hq13, hf⟩ := Option.bind_eq_some_iff.mp hf
        refine g_callV (pc' := 85) (mx := mdX3_finds) (as := [.int (-1000000001)]) (wX3_finds g hA _ _ (-1000000001) hq13) oX3_finds ⟨Nat.le_of_ble_eq_true rfl, Nat.le_of_ble_eq_true rfl⟩ dX3_set_82 rfl (ci := 3) rfl tC ⟨by decide +kernel, by decide +kernel⟩ oX3_finds.2.2.2 rfl q1117 q1119 qs33 qs33 q1119 (Nat.le_of_ble_eq_true rfl) (Nat.le_of_ble_eq_true rfl) (g_rI ?_) g_nt rfl
        obtain rfl := Option.some.inj hf
        exact g_iret dX3_set_85 rfl rfl ⟨rfl, rfl⟩
      · replace hf := (if_neg h12).symm.trans hf
        refine g_aload_n (pc' := 67) dX3_set_66 rfl rfl rfl ?_
        refine g_iload_n (pc' := 68) dX3_set_67 rfl rfl rfl ?_
        refine g_iload_n (pc' := 69) dX3_set_68 rfl rfl rfl ?_
        obtain ⟨q14, hq14, hf⟩ := Option.bind_eq_some_iff.mp hf
        refine g_callS (pc' := 72) (as := [.int x1, .int x2]) (wX3_spotOf g _ x1 x2 hq14) oX3_spotOf ⟨Nat.le_of_ble_eq_true rfl, Nat.le_of_ble_eq_true rfl⟩ dX3_set_69 rfl q1138 q1139 q86 (Nat.le_of_ble_eq_true rfl) (Nat.le_of_ble_eq_true rfl) (g_rI ?_) g_nt rfl
        refine g_iload_n (pc' := 73) dX3_set_72 rfl rfl rfl ?_
        obtain ⟨q15, hq15, hf⟩ := Option.bind_eq_some_iff.mp hf
        refine g_callV (pc' := 76) (mx := mdX3_becomes) (as := [.int q14, .int x3]) (wX3_becomes g hA _ _ q14 x3 hq15) oX3_becomes ⟨Nat.le_of_ble_eq_true rfl, Nat.le_of_ble_eq_true rfl⟩ dX3_set_73 rfl (ci := 3) rfl tC ⟨by decide +kernel, by decide +kernel⟩ oX3_becomes.2.2.2 rfl q1112 q1114 qs32 qs32 q1114 (Nat.le_of_ble_eq_true rfl) (Nat.le_of_ble_eq_true rfl) (g_rI ?_) g_nt rfl
        refine g_goto (tgt := 85) dX3_set_76 (by decide) ?_
        obtain rfl := Option.some.inj hf
        exact g_iret dX3_set_85 rfl rfl ⟨rfl, rfl⟩
  replace hf := hqq2
  refine g_if_eq (tgt := 50) (pc' := 12) dX3_set_9 (by decide) rfl (fun h3 => ?_) (fun h3 => ?_)
  · replace hf := (if_pos h3).symm.trans hf
    refine g_iconst (pc' := 51) (v := 0) dX3_set_50 rfl (by decide) ?_
    obtain rfl := Option.some.inj hf
    exact hJq2
  · replace hf := (if_neg h3).symm.trans hf
    refine g_iload_n (pc' := 13) dX3_set_12 rfl rfl rfl ?_
    refine g_i2l (pc' := 14) dX3_set_13 rfl ?_
    refine g_lconst (pc' := 15) (v := 0) dX3_set_14 rfl (by decide) ?_
    refine g_iload_n (pc' := 16) dX3_set_15 rfl rfl rfl ?_
    refine g_iconst (pc' := 17) (v := 1) dX3_set_16 rfl (by decide) ?_
    obtain ⟨q4, hqq4, hf⟩ := Option.bind_eq_some_iff.mp hf
    have hJq4 : bG (g, mdX3_set, (tW A M w).2.1, (tW A M w).2.2.1, (q_ (eI r.1) (tW A r.2 w))) (tW A M w) 40 [some (.ref A.1), some (.int x1), some (.int x2), some (.int x3)] [.long q4, .long 0, .long ((x3 : Int32).toInt64)] := by
      obtain ⟨q7, hq7, hf⟩ := Option.bind_eq_some_iff.mp hf
      refine g_callS (pc' := 43) (as := [.long ((x3 : Int32).toInt64), .long 0, .long q4]) (wX3_in g _ ((x3 : Int32).toInt64) 0 q4 hq7) oX3_in ⟨Nat.le_of_ble_eq_true rfl, Nat.le_of_ble_eq_true rfl⟩ dX3_set_40 rfl q1102 q1103 q86 (Nat.le_of_ble_eq_true rfl) (Nat.le_of_ble_eq_true rfl) (g_rI ?_) g_nt rfl
      refine g_if_eq (tgt := 50) (pc' := 46) dX3_set_43 (by decide) rfl (fun h8 => ?_) (fun h8 => ?_)
      · replace hf := (if_pos h8).symm.trans hf
        refine g_iconst (pc' := 51) (v := 0) dX3_set_50 rfl (by decide) ?_
        obtain rfl := Option.some.inj hf
        exact hJq2
      · replace hf := (if_neg h8).symm.trans hf
        refine g_iconst (pc' := 47) (v := 1) dX3_set_46 rfl (by decide) ?_
        refine g_goto (tgt := 51) dX3_set_47 (by decide) ?_
        obtain rfl := Option.some.inj hf
        exact hJq2
    replace hf := hqq4
    refine g_icmp_ne (tgt := 26) (pc' := 20) dX3_set_17 (by decide) rfl (fun h5 => ?_) (fun h5 => ?_)
    · replace hf := (if_neg h5).symm.trans hf
      refine g_iload_n (pc' := 27) dX3_set_26 rfl rfl rfl ?_
      refine g_iconst (pc' := 28) (v := 2) dX3_set_27 rfl (by decide) ?_
      refine g_icmp_ne (tgt := 37) (pc' := 31) dX3_set_28 (by decide) rfl (fun h6 => ?_) (fun h6 => ?_)
      · replace hf := (if_neg h6).symm.trans hf
        refine g_ldc2 (pc' := 40) dX3_set_37 rfl q1106 ?_
        obtain rfl := Option.some.inj hf
        exact hJq4
      · replace hf := (if_pos h6).symm.trans hf
        refine g_ldc2 (pc' := 34) dX3_set_31 rfl q1189 ?_
        refine g_goto (tgt := 40) dX3_set_34 (by decide) ?_
        obtain rfl := Option.some.inj hf
        exact hJq4
    · replace hf := (if_pos h5).symm.trans hf
      refine g_ldc2 (pc' := 23) dX3_set_20 rfl q1163 ?_
      refine g_goto (tgt := 40) dX3_set_23 (by decide) ?_
      obtain rfl := Option.some.inj hf
      exact hJq4
def mdX3_turn : bMD := (yX3_turn, cX3_turn, 3, (some FieldType.int), [], 3, 58)
theorem oX3_turn : bOkc mdX3_turn 2 := ⟨by decide +kernel, ⟨by decide +kernel, by decide +kernel⟩, by decide +kernel, q1193⟩
def fX3_turn (M : tM) (x1 : Int32) (x2 : Int32) : Option (Int32 × tM) :=
  Option.bind (fX3_isRumour M x1) fun q1 =>
  (if q1 = 0 then
  Option.bind (fX3_finds M (-1000000001)) fun q3 =>
  some (q3.1, q3.2)
else
  Option.bind (fX3_isKind x2) fun q4 =>
  (if q4 = 0 then
  Option.bind (fX3_finds M (-1000000001)) fun q6 =>
  some (q6.1, q6.2)
else
  Option.bind (fX3_spotOf x1 0) fun q7 =>
  Option.bind (fX3_becomes M q7 x2) fun q8 =>
  some (q8.1, q8.2)))
set_option maxHeartbeats 4000000 in
theorem wX3_turn (g : bGh) {A : tA} (hA : tO A) (w : bWl) (M : tM) (x1 : Int32) (x2 : Int32) {r : (Int32 × tM)} (hf : fX3_turn M x1 x2 = some r) : bM g mdX3_turn (tW A M w) [.ref A.1, .int x1, .int x2] (q_ (eI r.1) (tW A r.2 w)) := by
  unfold fX3_turn at hf
  change bG _ _ 0 [some (.ref A.1), some (.int x1), some (.int x2)] []
  refine g_aload_n (pc' := 1) dX3_turn_0 rfl rfl rfl ?_
  refine g_iload_n (pc' := 2) dX3_turn_1 rfl rfl rfl ?_
  obtain ⟨q1, hq1, hf⟩ := Option.bind_eq_some_iff.mp hf
  refine g_callV (pc' := 5) (mx := mdX3_isRumour) (as := [.int x1]) (wX3_isRumour g hA _ _ x1 hq1) oX3_isRumour ⟨Nat.le_of_ble_eq_true rfl, Nat.le_of_ble_eq_true rfl⟩ dX3_turn_2 rfl (ci := 3) rfl tC ⟨by decide +kernel, by decide +kernel⟩ oX3_isRumour.2.2.2 rfl q1173 q1175 qs41 qs41 q1175 (Nat.le_of_ble_eq_true rfl) (Nat.le_of_ble_eq_true rfl) (g_rI ?_) g_nt rfl
  refine g_if_eq (tgt := 28) (pc' := 8) dX3_turn_5 (by decide) rfl (fun h2 => ?_) (fun h2 => ?_)
  · replace hf := (if_pos h2).symm.trans hf
    refine g_aload_n (pc' := 29) dX3_turn_28 rfl rfl rfl ?_
    refine g_ldc (pc' := 31) dX3_turn_29 rfl q1116 ?_
    obtain ⟨q3, hq3, hf⟩ := Option.bind_eq_some_iff.mp hf
    refine g_callV (pc' := 34) (mx := mdX3_finds) (as := [.int (-1000000001)]) (wX3_finds g hA _ _ (-1000000001) hq3) oX3_finds ⟨Nat.le_of_ble_eq_true rfl, Nat.le_of_ble_eq_true rfl⟩ dX3_turn_31 rfl (ci := 3) rfl tC ⟨by decide +kernel, by decide +kernel⟩ oX3_finds.2.2.2 rfl q1117 q1119 qs33 qs33 q1119 (Nat.le_of_ble_eq_true rfl) (Nat.le_of_ble_eq_true rfl) (g_rI ?_) g_nt rfl
    obtain rfl := Option.some.inj hf
    exact g_iret dX3_turn_34 rfl rfl ⟨rfl, rfl⟩
  · replace hf := (if_neg h2).symm.trans hf
    refine g_iload_n (pc' := 9) dX3_turn_8 rfl rfl rfl ?_
    obtain ⟨q4, hq4, hf⟩ := Option.bind_eq_some_iff.mp hf
    refine g_callS (pc' := 12) (as := [.int x2]) (wX3_isKind g _ x2 hq4) oX3_isKind ⟨Nat.le_of_ble_eq_true rfl, Nat.le_of_ble_eq_true rfl⟩ dX3_turn_9 rfl q1157 q1158 q86 (Nat.le_of_ble_eq_true rfl) (Nat.le_of_ble_eq_true rfl) (g_rI ?_) g_nt rfl
    refine g_if_eq (tgt := 28) (pc' := 15) dX3_turn_12 (by decide) rfl (fun h5 => ?_) (fun h5 => ?_)
    · replace hf := (if_pos h5).symm.trans hf
      refine g_aload_n (pc' := 29) dX3_turn_28 rfl rfl rfl ?_
      refine g_ldc (pc' := 31) dX3_turn_29 rfl q1116 ?_
      obtain ⟨q6, hq6, hf⟩ := Option.bind_eq_some_iff.mp hf
      refine g_callV (pc' := 34) (mx := mdX3_finds) (as := [.int (-1000000001)]) (wX3_finds g hA _ _ (-1000000001) hq6) oX3_finds ⟨Nat.le_of_ble_eq_true rfl, Nat.le_of_ble_eq_true rfl⟩ dX3_turn_31 rfl (ci := 3) rfl tC ⟨by decide +kernel, by decide +kernel⟩ oX3_finds.2.2.2 rfl q1117 q1119 qs33 qs33 q1119 (Nat.le_of_ble_eq_true rfl) (Nat.le_of_ble_eq_true rfl) (g_rI ?_) g_nt rfl
      obtain rfl := Option.some.inj hf
      exact g_iret dX3_turn_34 rfl rfl ⟨rfl, rfl⟩
    · replace hf := (if_neg h5).symm.trans hf
      refine g_aload_n (pc' := 16) dX3_turn_15 rfl rfl rfl ?_
      refine g_iload_n (pc' := 17) dX3_turn_16 rfl rfl rfl ?_
      refine g_iconst (pc' := 18) (v := 0) dX3_turn_17 rfl (by decide) ?_
      obtain ⟨q7, hq7, hf⟩ := Option.bind_eq_some_iff.mp hf
      refine g_callS (pc' := 21) (as := [.int x1, .int 0]) (wX3_spotOf g _ x1 0 hq7) oX3_spotOf ⟨Nat.le_of_ble_eq_true rfl, Nat.le_of_ble_eq_true rfl⟩ dX3_turn_18 rfl q1138 q1139 q86 (Nat.le_of_ble_eq_true rfl) (Nat.le_of_ble_eq_true rfl) (g_rI ?_) g_nt rfl
      refine g_iload_n (pc' := 22) dX3_turn_21 rfl rfl rfl ?_
      obtain ⟨q8, hq8, hf⟩ := Option.bind_eq_some_iff.mp hf
      refine g_callV (pc' := 25) (mx := mdX3_becomes) (as := [.int q7, .int x2]) (wX3_becomes g hA _ _ q7 x2 hq8) oX3_becomes ⟨Nat.le_of_ble_eq_true rfl, Nat.le_of_ble_eq_true rfl⟩ dX3_turn_22 rfl (ci := 3) rfl tC ⟨by decide +kernel, by decide +kernel⟩ oX3_becomes.2.2.2 rfl q1112 q1114 qs32 qs32 q1114 (Nat.le_of_ble_eq_true rfl) (Nat.le_of_ble_eq_true rfl) (g_rI ?_) g_nt rfl
      refine g_goto (tgt := 34) dX3_turn_25 (by decide) ?_
      obtain rfl := Option.some.inj hf
      exact g_iret dX3_turn_34 rfl rfl ⟨rfl, rfl⟩
def mdX3_isUnder : bMD := (yX3_isUnder, cX3_isUnder, 2, (some FieldType.boolean), [], 1, 12)
theorem oX3_isUnder : bOkc mdX3_isUnder 2 := ⟨by decide +kernel, ⟨by decide +kernel, by decide +kernel⟩, by decide +kernel, q1200⟩
def fX3_isUnder (x0 : Int32) (x1 : Int32) : Option Int32 :=
  (if x1 = 0 then
  some 1
else
  (if x0 = x1 then
  some 1
else
  (if x0 ≤ 3 then
  some 0
else
  (if (x0 - 3) = x1 then
  some 1
else
  some 0))))
set_option maxHeartbeats 4000000 in
theorem wX3_isUnder (g : bGh) (w : bWl) (x0 : Int32) (x1 : Int32) {r : Int32} (hf : fX3_isUnder x0 x1 = some r) : bM g mdX3_isUnder w [.int x0, .int x1] (q_ (eI r) w) := by
  unfold fX3_isUnder at hf
  change bG _ _ 0 [some (.int x0), some (.int x1)] []
  refine g_iload_n (pc' := 1) dX3_isUnder_0 rfl rfl rfl ?_
  refine g_if_eq (tgt := 21) (pc' := 4) dX3_isUnder_1 (by decide) rfl (fun h1 => ?_) (fun h1 => ?_)
  · replace hf := (if_pos h1).symm.trans hf
    refine g_iconst (pc' := 22) (v := 1) dX3_isUnder_21 rfl (by decide) ?_
    refine g_goto (tgt := 26) dX3_isUnder_22 (by decide) ?_
    obtain rfl := Option.some.inj hf
    exact g_iret dX3_isUnder_26 rfl (by decide +kernel) ⟨rfl, rfl⟩
  · replace hf := (if_neg h1).symm.trans hf
    refine g_iload_n (pc' := 5) dX3_isUnder_4 rfl rfl rfl ?_
    refine g_iload_n (pc' := 6) dX3_isUnder_5 rfl rfl rfl ?_
    refine g_icmp_eq (tgt := 21) (pc' := 9) dX3_isUnder_6 (by decide) rfl (fun h2 => ?_) (fun h2 => ?_)
    · replace hf := (if_pos h2).symm.trans hf
      refine g_iconst (pc' := 22) (v := 1) dX3_isUnder_21 rfl (by decide) ?_
      refine g_goto (tgt := 26) dX3_isUnder_22 (by decide) ?_
      obtain rfl := Option.some.inj hf
      exact g_iret dX3_isUnder_26 rfl (by decide +kernel) ⟨rfl, rfl⟩
    · replace hf := (if_neg h2).symm.trans hf
      refine g_iload_n (pc' := 10) dX3_isUnder_9 rfl rfl rfl ?_
      refine g_iconst (pc' := 11) (v := 3) dX3_isUnder_10 rfl (by decide) ?_
      refine g_icmp_le (tgt := 25) (pc' := 14) dX3_isUnder_11 (by decide) rfl (fun h3 => ?_) (fun h3 => ?_)
      · replace hf := (if_pos h3).symm.trans hf
        refine g_iconst (pc' := 26) (v := 0) dX3_isUnder_25 rfl (by decide) ?_
        obtain rfl := Option.some.inj hf
        exact g_iret dX3_isUnder_26 rfl (by decide +kernel) ⟨rfl, rfl⟩
      · replace hf := (if_neg h3).symm.trans hf
        refine g_iload_n (pc' := 15) dX3_isUnder_14 rfl rfl rfl ?_
        refine g_iconst (pc' := 16) (v := 3) dX3_isUnder_15 rfl (by decide) ?_
        refine g_isub (pc' := 17) dX3_isUnder_16 rfl ?_
        refine g_iload_n (pc' := 18) dX3_isUnder_17 rfl rfl rfl ?_
        refine g_icmp_ne (tgt := 25) (pc' := 21) dX3_isUnder_18 (by decide) rfl (fun h4 => ?_) (fun h4 => ?_)
        · replace hf := (if_neg h4).symm.trans hf
          refine g_iconst (pc' := 26) (v := 0) dX3_isUnder_25 rfl (by decide) ?_
          obtain rfl := Option.some.inj hf
          exact g_iret dX3_isUnder_26 rfl (by decide +kernel) ⟨rfl, rfl⟩
        · replace hf := (if_pos h4).symm.trans hf
          refine g_iconst (pc' := 22) (v := 1) dX3_isUnder_21 rfl (by decide) ?_
          refine g_goto (tgt := 26) dX3_isUnder_22 (by decide) ?_
          obtain rfl := Option.some.inj hf
          exact g_iret dX3_isUnder_26 rfl (by decide +kernel) ⟨rfl, rfl⟩
def mdX3_as : bMD := (yX3_as, cX3_as, 3, (some FieldType.int), [], 3, 58)
theorem oX3_as : bOkc mdX3_as 2 := ⟨by decide +kernel, ⟨by decide +kernel, by decide +kernel⟩, by decide +kernel, q1197⟩
def fX3_as (M : tM) (x1 : Int32) (x2 : Int32) : Option (Int32 × tM) :=
  Option.bind (fX3_isRumour M x1) fun q1 =>
  (if q1 = 0 then
  Option.bind (fX3_finds M (-1000000001)) fun q3 =>
  some (q3.1, q3.2)
else
  Option.bind (fX3_isKind x2) fun q4 =>
  (if q4 = 0 then
  Option.bind (fX3_finds M (-1000000001)) fun q11 =>
  some (q11.1, q11.2)
else
  Option.bind (fX3_its M x1 0) fun q6 =>
  Option.bind (fX3_isUnder q6 x2) fun q7 =>
  (if q7 = 0 then
  Option.bind (fX3_finds M (-1000000003)) fun q9 =>
  some (q9.1, q9.2)
else
  Option.bind (fX3_its M x1 2) fun q10 =>
  some (q10, M))))
set_option maxHeartbeats 4000000 in
theorem wX3_as (g : bGh) {A : tA} (hA : tO A) (w : bWl) (M : tM) (x1 : Int32) (x2 : Int32) {r : (Int32 × tM)} (hf : fX3_as M x1 x2 = some r) : bM g mdX3_as (tW A M w) [.ref A.1, .int x1, .int x2] (q_ (eI r.1) (tW A r.2 w)) := by
  unfold fX3_as at hf
  change bG _ _ 0 [some (.ref A.1), some (.int x1), some (.int x2)] []
  refine g_aload_n (pc' := 1) dX3_as_0 rfl rfl rfl ?_
  refine g_iload_n (pc' := 2) dX3_as_1 rfl rfl rfl ?_
  obtain ⟨q1, hq1, hf⟩ := Option.bind_eq_some_iff.mp hf
  refine g_callV (pc' := 5) (mx := mdX3_isRumour) (as := [.int x1]) (wX3_isRumour g hA _ _ x1 hq1) oX3_isRumour ⟨Nat.le_of_ble_eq_true rfl, Nat.le_of_ble_eq_true rfl⟩ dX3_as_2 rfl (ci := 3) rfl tC ⟨by decide +kernel, by decide +kernel⟩ oX3_isRumour.2.2.2 rfl q1173 q1175 qs41 qs41 q1175 (Nat.le_of_ble_eq_true rfl) (Nat.le_of_ble_eq_true rfl) (g_rI ?_) g_nt rfl
  refine g_if_eq (tgt := 15) (pc' := 8) dX3_as_5 (by decide) rfl (fun h2 => ?_) (fun h2 => ?_)
  · replace hf := (if_pos h2).symm.trans hf
    refine g_aload_n (pc' := 16) dX3_as_15 rfl rfl rfl ?_
    refine g_ldc (pc' := 18) dX3_as_16 rfl q1116 ?_
    obtain ⟨q3, hq3, hf⟩ := Option.bind_eq_some_iff.mp hf
    refine g_callV (pc' := 21) (mx := mdX3_finds) (as := [.int (-1000000001)]) (wX3_finds g hA _ _ (-1000000001) hq3) oX3_finds ⟨Nat.le_of_ble_eq_true rfl, Nat.le_of_ble_eq_true rfl⟩ dX3_as_18 rfl (ci := 3) rfl tC ⟨by decide +kernel, by decide +kernel⟩ oX3_finds.2.2.2 rfl q1117 q1119 qs33 qs33 q1119 (Nat.le_of_ble_eq_true rfl) (Nat.le_of_ble_eq_true rfl) (g_rI ?_) g_nt rfl
    obtain rfl := Option.some.inj hf
    exact g_iret dX3_as_21 rfl rfl ⟨rfl, rfl⟩
  · replace hf := (if_neg h2).symm.trans hf
    refine g_iload_n (pc' := 9) dX3_as_8 rfl rfl rfl ?_
    obtain ⟨q4, hq4, hf⟩ := Option.bind_eq_some_iff.mp hf
    refine g_callS (pc' := 12) (as := [.int x2]) (wX3_isKind g _ x2 hq4) oX3_isKind ⟨Nat.le_of_ble_eq_true rfl, Nat.le_of_ble_eq_true rfl⟩ dX3_as_9 rfl q1157 q1158 q86 (Nat.le_of_ble_eq_true rfl) (Nat.le_of_ble_eq_true rfl) (g_rI ?_) g_nt rfl
    refine g_if_ne (tgt := 22) (pc' := 15) dX3_as_12 (by decide) rfl (fun h5 => ?_) (fun h5 => ?_)
    · replace hf := (if_neg h5).symm.trans hf
      refine g_aload_n (pc' := 23) dX3_as_22 rfl rfl rfl ?_
      refine g_iload_n (pc' := 24) dX3_as_23 rfl rfl rfl ?_
      refine g_iconst (pc' := 25) (v := 0) dX3_as_24 rfl (by decide) ?_
      obtain ⟨q6, hq6, hf⟩ := Option.bind_eq_some_iff.mp hf
      refine g_callV (pc' := 28) (mx := mdX3_its) (as := [.int x1, .int 0]) (wX3_its g hA _ _ x1 0 hq6) oX3_its ⟨Nat.le_of_ble_eq_true rfl, Nat.le_of_ble_eq_true rfl⟩ dX3_as_25 rfl (ci := 3) rfl tC ⟨by decide +kernel, by decide +kernel⟩ oX3_its.2.2.2 rfl q1134 q1136 qs36 qs36 q1136 (Nat.le_of_ble_eq_true rfl) (Nat.le_of_ble_eq_true rfl) (g_rI ?_) g_nt rfl
      refine g_iload_n (pc' := 29) dX3_as_28 rfl rfl rfl ?_
      obtain ⟨q7, hq7, hf⟩ := Option.bind_eq_some_iff.mp hf
      refine g_callS (pc' := 32) (as := [.int q6, .int x2]) (wX3_isUnder g _ q6 x2 hq7) oX3_isUnder ⟨Nat.le_of_ble_eq_true rfl, Nat.le_of_ble_eq_true rfl⟩ dX3_as_29 rfl q1198 q1199 q86 (Nat.le_of_ble_eq_true rfl) (Nat.le_of_ble_eq_true rfl) (g_rI ?_) g_nt rfl
      refine g_if_eq (tgt := 44) (pc' := 35) dX3_as_32 (by decide) rfl (fun h8 => ?_) (fun h8 => ?_)
      · replace hf := (if_pos h8).symm.trans hf
        refine g_aload_n (pc' := 45) dX3_as_44 rfl rfl rfl ?_
        refine g_ldc (pc' := 47) dX3_as_45 rfl q1201 ?_
        obtain ⟨q9, hq9, hf⟩ := Option.bind_eq_some_iff.mp hf
        refine g_callV (pc' := 50) (mx := mdX3_finds) (as := [.int (-1000000003)]) (wX3_finds g hA _ _ (-1000000003) hq9) oX3_finds ⟨Nat.le_of_ble_eq_true rfl, Nat.le_of_ble_eq_true rfl⟩ dX3_as_47 rfl (ci := 3) rfl tC ⟨by decide +kernel, by decide +kernel⟩ oX3_finds.2.2.2 rfl q1117 q1119 qs33 qs33 q1119 (Nat.le_of_ble_eq_true rfl) (Nat.le_of_ble_eq_true rfl) (g_rI ?_) g_nt rfl
        obtain rfl := Option.some.inj hf
        exact g_iret dX3_as_50 rfl rfl ⟨rfl, rfl⟩
      · replace hf := (if_neg h8).symm.trans hf
        refine g_aload_n (pc' := 36) dX3_as_35 rfl rfl rfl ?_
        refine g_iload_n (pc' := 37) dX3_as_36 rfl rfl rfl ?_
        refine g_iconst (pc' := 38) (v := 2) dX3_as_37 rfl (by decide) ?_
        obtain ⟨q10, hq10, hf⟩ := Option.bind_eq_some_iff.mp hf
        refine g_callV (pc' := 41) (mx := mdX3_its) (as := [.int x1, .int 2]) (wX3_its g hA _ _ x1 2 hq10) oX3_its ⟨Nat.le_of_ble_eq_true rfl, Nat.le_of_ble_eq_true rfl⟩ dX3_as_38 rfl (ci := 3) rfl tC ⟨by decide +kernel, by decide +kernel⟩ oX3_its.2.2.2 rfl q1134 q1136 qs36 qs36 q1136 (Nat.le_of_ble_eq_true rfl) (Nat.le_of_ble_eq_true rfl) (g_rI ?_) g_nt rfl
        refine g_goto (tgt := 50) dX3_as_41 (by decide) ?_
        obtain rfl := Option.some.inj hf
        exact g_iret dX3_as_50 rfl rfl ⟨rfl, rfl⟩
    · replace hf := (if_pos h5).symm.trans hf
      refine g_aload_n (pc' := 16) dX3_as_15 rfl rfl rfl ?_
      refine g_ldc (pc' := 18) dX3_as_16 rfl q1116 ?_
      obtain ⟨q11, hq11, hf⟩ := Option.bind_eq_some_iff.mp hf
      refine g_callV (pc' := 21) (mx := mdX3_finds) (as := [.int (-1000000001)]) (wX3_finds g hA _ _ (-1000000001) hq11) oX3_finds ⟨Nat.le_of_ble_eq_true rfl, Nat.le_of_ble_eq_true rfl⟩ dX3_as_18 rfl (ci := 3) rfl tC ⟨by decide +kernel, by decide +kernel⟩ oX3_finds.2.2.2 rfl q1117 q1119 qs33 qs33 q1119 (Nat.le_of_ble_eq_true rfl) (Nat.le_of_ble_eq_true rfl) (g_rI ?_) g_nt rfl
      obtain rfl := Option.some.inj hf
      exact g_iret dX3_as_21 rfl rfl ⟨rfl, rfl⟩
def mdX3_ones : bMD := (yX3_ones, cX3_ones, 3, (some FieldType.int), [], 1, 12)
theorem oX3_ones : bOkc mdX3_ones 1 := ⟨by decide +kernel, ⟨by decide +kernel, by decide +kernel⟩, by decide +kernel, q1216⟩
def fX3_ones_l4  (rec : (Int32 × Int32) → Option (Int32 × Int32)) (s : Int32 × Int32) : Option (Int32 × Int32) :=
  (if s.2 = 0 then
  some (s.1, s.2)
else
  rec ((s.1 + 1), (s.2 &&& (s.2 - 1))))
def fX3_ones (x0 : Int32) : Option Int32 :=
  Option.bind (lpF (fX3_ones_l4) FU (0, x0)) fun q2 =>
  some q2.1
set_option maxHeartbeats 4000000 in
theorem wX3_ones_l4 {g : bGh} {w : bWl} {n0 u0 : Nat} {Q : Outcome → bWl → Prop}  : ∀ (n : Nat) (s : Int32 × Int32) (r : (Int32 × Int32)), lpF (fX3_ones_l4) n s = some r → bG (g, mdX3_ones, n0, u0, Q) w 20 [none, some (.int r.1), some (.int r.2)] [] → bG (g, mdX3_ones, n0, u0, Q) w 4 [none, some (.int s.1), some (.int s.2)] [] := by
  intro n
  induction n with
  | zero => intro s r hf; cases hf
  | succ n ih =>
    intro s r hf kx
    rw [lpF_s] at hf
    unfold fX3_ones_l4 at hf
    refine g_iload_n (pc' := 5) dX3_ones_4 rfl rfl rfl ?_
    refine g_if_eq (tgt := 20) (pc' := 8) dX3_ones_5 (by decide) rfl (fun h1 => ?_) (fun h1 => ?_)
    · replace hf := (if_pos h1).symm.trans hf
      obtain rfl := Option.some.inj hf
      exact kx
    · replace hf := (if_neg h1).symm.trans hf
      refine g_iinc (pc' := 11) (v := s.1 + 1) (L' := [none, some (.int (s.1 + 1)), some (.int s.2)]) dX3_ones_8 rfl rfl rfl (Nat.le_of_ble_eq_true rfl) rfl rfl ?_
      refine g_iload_n (pc' := 12) dX3_ones_11 rfl rfl rfl ?_
      refine g_iload_n (pc' := 13) dX3_ones_12 rfl rfl rfl ?_
      refine g_iconst (pc' := 14) (v := 1) dX3_ones_13 rfl (by decide) ?_
      refine g_isub (pc' := 15) dX3_ones_14 rfl ?_
      refine g_iand (pc' := 16) dX3_ones_15 rfl ?_
      refine g_istore_n (pc' := 17) (L' := [none, some (.int (s.1 + 1)), some (.int (s.2 &&& (s.2 - 1)))]) dX3_ones_16 rfl rfl (Nat.le_of_ble_eq_true rfl) rfl rfl ?_
      refine g_goto (tgt := 4) dX3_ones_17 (by decide) ?_
      exact ih _ r hf kx
set_option maxHeartbeats 4000000 in
theorem wX3_ones (g : bGh) (w : bWl) (x0 : Int32) {r : Int32} (hf : fX3_ones x0 = some r) : bM g mdX3_ones w [.int x0] (q_ (eI r) w) := by
  unfold fX3_ones at hf
  change bG _ _ 0 [some (.int x0)] []
  refine g_iconst (pc' := 1) (v := 0) dX3_ones_0 rfl (by decide) ?_
  refine g_istore_n (pc' := 2) (L' := [some (.int x0), some (.int 0)]) dX3_ones_1 rfl rfl (Nat.le_of_ble_eq_true rfl) rfl rfl ?_
  refine g_iload_n (pc' := 3) dX3_ones_2 rfl rfl rfl ?_
  refine g_istore_n (pc' := 4) (L' := [some (.int x0), some (.int 0), some (.int x0)]) dX3_ones_3 rfl rfl (Nat.le_of_ble_eq_true rfl) rfl rfl ?_
  refine g_drop [0] (L' := [none, some (.int 0), some (.int x0)]) rfl ?_
  obtain ⟨q2, hq2, hf⟩ := Option.bind_eq_some_iff.mp hf
  refine wX3_ones_l4 FU (0, x0) q2 hq2 ?_
  refine g_iload_n (pc' := 21) dX3_ones_20 rfl rfl rfl ?_
  obtain rfl := Option.some.inj hf
  exact g_iret dX3_ones_21 rfl rfl ⟨rfl, rfl⟩
def mdX3_isFree : bMD := (yX3_isFree, cX3_isFree, 2, (some FieldType.boolean), [], 4, 78)
theorem oX3_isFree : bOkc mdX3_isFree 1 := ⟨by decide +kernel, ⟨by decide +kernel, by decide +kernel⟩, by decide +kernel, q1213⟩
def fX3_isFree (M : tM) (x1 : Int32) : Option Int32 :=
  Option.bind (fX3_thoseAt M x1) fun q1 =>
  Option.bind (fX3_ones q1) fun q2 =>
  Option.bind (fX3_has M x1 0) fun q3 =>
  (if q3 ≤ q2 then
  some 0
else
  some 1)
set_option maxHeartbeats 4000000 in
theorem wX3_isFree (g : bGh) {A : tA} (hA : tO A) (w : bWl) (M : tM) (x1 : Int32) {r : Int32} (hf : fX3_isFree M x1 = some r) : bM g mdX3_isFree (tW A M w) [.ref A.1, .int x1] (q_ (eI r) (tW A M w)) := by
  unfold fX3_isFree at hf
  change bG _ _ 0 [some (.ref A.1), some (.int x1)] []
  refine g_aload_n (pc' := 1) dX3_isFree_0 rfl rfl rfl ?_
  refine g_iload_n (pc' := 2) dX3_isFree_1 rfl rfl rfl ?_
  obtain ⟨q1, hq1, hf⟩ := Option.bind_eq_some_iff.mp hf
  refine g_callV (pc' := 5) (mx := mdX3_thoseAt) (as := [.int x1]) (wX3_thoseAt g hA _ _ x1 hq1) oX3_thoseAt ⟨Nat.le_of_ble_eq_true rfl, Nat.le_of_ble_eq_true rfl⟩ dX3_isFree_2 rfl (ci := 3) rfl tC ⟨by decide +kernel, by decide +kernel⟩ oX3_thoseAt.2.2.2 rfl q1130 q1132 qs35 qs35 q1132 (Nat.le_of_ble_eq_true rfl) (Nat.le_of_ble_eq_true rfl) (g_rI ?_) g_nt rfl
  obtain ⟨q2, hq2, hf⟩ := Option.bind_eq_some_iff.mp hf
  refine g_callS (pc' := 8) (as := [.int q1]) (wX3_ones g _ q1 hq2) oX3_ones ⟨Nat.le_of_ble_eq_true rfl, Nat.le_of_ble_eq_true rfl⟩ dX3_isFree_5 rfl q1214 q1215 q86 (Nat.le_of_ble_eq_true rfl) (Nat.le_of_ble_eq_true rfl) (g_rI ?_) g_nt rfl
  refine g_aload_n (pc' := 9) dX3_isFree_8 rfl rfl rfl ?_
  refine g_iload_n (pc' := 10) dX3_isFree_9 rfl rfl rfl ?_
  refine g_iconst (pc' := 11) (v := 0) dX3_isFree_10 rfl (by decide) ?_
  obtain ⟨q3, hq3, hf⟩ := Option.bind_eq_some_iff.mp hf
  refine g_callV (pc' := 14) (mx := mdX3_has) (as := [.int x1, .int 0]) (wX3_has g hA _ _ x1 0 hq3) oX3_has ⟨Nat.le_of_ble_eq_true rfl, Nat.le_of_ble_eq_true rfl⟩ dX3_isFree_11 rfl (ci := 3) rfl tC ⟨by decide +kernel, by decide +kernel⟩ oX3_has.2.2.2 rfl q1126 q1128 qs34 qs34 q1128 (Nat.le_of_ble_eq_true rfl) (Nat.le_of_ble_eq_true rfl) (g_rI ?_) g_nt rfl
  refine g_icmp_ge (tgt := 21) (pc' := 17) dX3_isFree_14 (by decide) rfl (fun h4 => ?_) (fun h4 => ?_)
  · replace hf := (if_pos h4).symm.trans hf
    refine g_iconst (pc' := 22) (v := 0) dX3_isFree_21 rfl (by decide) ?_
    obtain rfl := Option.some.inj hf
    exact g_iret dX3_isFree_22 rfl (by decide +kernel) ⟨rfl, rfl⟩
  · replace hf := (if_neg h4).symm.trans hf
    refine g_iconst (pc' := 18) (v := 1) dX3_isFree_17 rfl (by decide) ?_
    refine g_goto (tgt := 22) dX3_isFree_18 (by decide) ?_
    obtain rfl := Option.some.inj hf
    exact g_iret dX3_isFree_22 rfl (by decide +kernel) ⟨rfl, rfl⟩
