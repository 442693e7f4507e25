/-! printed by tools/gen.py: 33.twin3 -/
set_option maxRecDepth 100000
def mdX3_rumourItem : bMD := (yX3_rumourItem, cX3_rumourItem, 4, none, [], 7, 149)
theorem oX3_rumourItem : bOkc mdX3_rumourItem 1 := ⟨by decide +kernel, ⟨by decide +kernel, by decide +kernel⟩, by decide +kernel, q1440⟩
def fX3_rumourItem (M : tM) (x1 : Int32) : Option tM :=
  Option.bind (rA M 0 0) fun v1 =>
  Option.bind (α := Int32) ((if 10 ≤ v1 then
  some 0
else
  some 1)) fun q2 =>
  Option.bind (fX3_must M q2) fun q4 =>
  Option.bind (fX3_word q4) fun q5 =>
  Option.bind (α := Int32) ((if (lg_cmp q5 486) = 0 then
  some 1
else
  some 0)) fun q6 =>
  Option.bind (fX3_must q4 q6) fun q8 =>
  Option.bind (fX3_number q8 0 15) fun q9 =>
  (if (q9.1 11) = 0 then
  Option.bind (fX3_adds q9 x1 (q9.1 10)) fun q11 =>
  Option.bind (fX3_spotOf q11.1 2) fun q12 =>
  Option.bind (fX3_partItem q11.2 87435 q12 99) fun q13 =>
  Option.bind (fX3_word q13) fun q14 =>
  (if (lg_cmp q14 302) = 0 then
  Option.bind (fX3_must q13 1) fun q16 =>
  Option.bind (fX3_peeked q16) fun q17 =>
  Option.bind (fX3_isHouse q17) fun q18 =>
  Option.bind (α := Int32) ((if q18 = 0 then
  some 0
else
  Option.bind (fX3_isFree q16 q17) fun q21 =>
  (if q21 = 0 then
  some 0
else
  some 1))) fun q19 =>
  Option.bind (fX3_must q16 q19) fun q23 =>
  Option.bind (fX3_spotOf q11.1 4) fun q24 =>
  (if (q23.1 11) = 0 then
  Option.bind (wA q23 0 q24 q17) fun w26 =>
  some w26
else
  Option.bind (wA q23 0 q24 (-1)) fun w27 =>
  some w27)
else
  some q13)
else
  some q9)
set_option maxHeartbeats 4000000 in
theorem wX3_rumourItem (g : bGh) {A : tA} (hA : tO A) (w : bWl) (M : tM) (x1 : Int32) {r : tM} (hf : fX3_rumourItem M x1 = some r) : bM g mdX3_rumourItem (tW A M w) [.ref A.1, .int x1] (q_ none (tW A r w)) := by
  unfold fX3_rumourItem at hf
  change bG _ _ 0 [some (.ref A.1), some (.int x1)] []
  refine g_aload_n (pc' := 1) dX3_rumourItem_0 rfl rfl rfl ?_
  refine g_aload_n (pc' := 2) dX3_rumourItem_1 rfl rfl rfl ?_
  refine gt_get (k := 0) (pc' := 5) (by decide) dX3_rumourItem_2 rfl q1048 rfl ?_
  refine g_iconst (pc' := 6) (v := 0) dX3_rumourItem_5 rfl (by decide) ?_
  obtain ⟨v1, hv1, hf⟩ := Option.bind_eq_some_iff.mp hf
  refine gt_iald (pc' := 7) hA (by decide) dX3_rumourItem_6 rfl hv1 ?_
  refine g_bipush (pc' := 9) (v := 10) dX3_rumourItem_7 rfl (by decide) ?_
  obtain ⟨q2, hqq2, hf⟩ := Option.bind_eq_some_iff.mp hf
  have hJq2 : bG (g, mdX3_rumourItem, (tW A M w).2.1, (tW A M w).2.2.1, (q_ none (tW A r w))) (tW A M w) 17 [some (.ref A.1), some (.int x1)] [.int q2, .ref A.1] := by
    obtain ⟨q4, hq4, hf⟩ := Option.bind_eq_some_iff.mp hf
    refine g_callV (pc' := 20) (mx := mdX3_must) (as := [.int q2]) (wX3_must g hA _ _ q2 hq4) oX3_must ⟨Nat.le_of_ble_eq_true rfl, Nat.le_of_ble_eq_true rfl⟩ dX3_rumourItem_17 rfl (ci := 3) rfl tC ⟨by decide +kernel, by decide +kernel⟩ oX3_must.2.2.2 rfl q1441 q1443 qs72 qs72 q1443 (Nat.le_of_ble_eq_true rfl) (Nat.le_of_ble_eq_true rfl) (g_rV ?_) g_nt rfl
    refine g_aload_n (pc' := 21) dX3_rumourItem_20 rfl rfl rfl ?_
    refine g_aload_n (pc' := 22) dX3_rumourItem_21 rfl rfl rfl ?_
    obtain ⟨q5, hq5, hf⟩ := Option.bind_eq_some_iff.mp hf
    refine g_callV (pc' := 25) (mx := mdX3_word) (as := []) (wX3_word g hA _ _ hq5) oX3_word ⟨Nat.le_of_ble_eq_true rfl, Nat.le_of_ble_eq_true rfl⟩ dX3_rumourItem_22 rfl (ci := 3) rfl tC ⟨by decide +kernel, by decide +kernel⟩ oX3_word.2.2.2 rfl q1425 q1427 qs70 qs70 q1427 (Nat.le_of_ble_eq_true rfl) (Nat.le_of_ble_eq_true rfl) (g_rJ ?_) g_nt rfl
    refine g_ldc2 (pc' := 28) dX3_rumourItem_25 rfl q1445 ?_
    refine g_lcmp (pc' := 29) dX3_rumourItem_28 rfl ?_
    obtain ⟨q6, hqq6, hf⟩ := Option.bind_eq_some_iff.mp hf
    have hJq6 : bG (g, mdX3_rumourItem, (tW A M w).2.1, (tW A M w).2.2.1, (q_ none (tW A r w))) (tW A q4 w) 37 [some (.ref A.1), some (.int x1)] [.int q6, .ref A.1] := by
      obtain ⟨q8, hq8, hf⟩ := Option.bind_eq_some_iff.mp hf
      refine g_callV (pc' := 40) (mx := mdX3_must) (as := [.int q6]) (wX3_must g hA _ _ q6 hq8) oX3_must ⟨Nat.le_of_ble_eq_true rfl, Nat.le_of_ble_eq_true rfl⟩ dX3_rumourItem_37 rfl (ci := 3) rfl tC ⟨by decide +kernel, by decide +kernel⟩ oX3_must.2.2.2 rfl q1441 q1443 qs72 qs72 q1443 (Nat.le_of_ble_eq_true rfl) (Nat.le_of_ble_eq_true rfl) (g_rV ?_) g_nt rfl
      refine g_aload_n (pc' := 41) dX3_rumourItem_40 rfl rfl rfl ?_
      refine g_iconst (pc' := 42) (v := 0) dX3_rumourItem_41 rfl (by decide) ?_
      refine g_bipush (pc' := 44) (v := 15) dX3_rumourItem_42 rfl (by decide) ?_
      obtain ⟨q9, hq9, hf⟩ := Option.bind_eq_some_iff.mp hf
      refine g_callV (pc' := 47) (mx := mdX3_number) (as := [.int 0, .int 15]) (wX3_number g hA _ _ 0 15 hq9) oX3_number ⟨Nat.le_of_ble_eq_true rfl, Nat.le_of_ble_eq_true rfl⟩ dX3_rumourItem_44 rfl (ci := 3) rfl tC ⟨by decide +kernel, by decide +kernel⟩ oX3_number.2.2.2 rfl q1446 q1448 qs73 qs73 q1448 (Nat.le_of_ble_eq_true rfl) (Nat.le_of_ble_eq_true rfl) (g_rV ?_) g_nt rfl
      refine g_aload_n (pc' := 48) dX3_rumourItem_47 rfl rfl rfl ?_
      refine gt_get (k := 11) (pc' := 51) (by decide) dX3_rumourItem_48 rfl q1059 rfl ?_
      refine g_if_eq (tgt := 55) (pc' := 54) dX3_rumourItem_51 (by decide) rfl (fun h10 => ?_) (fun h10 => ?_)
      · replace hf := (if_pos h10).symm.trans hf
        refine g_aload_n (pc' := 56) dX3_rumourItem_55 rfl rfl rfl ?_
        refine g_iload_n (pc' := 57) dX3_rumourItem_56 rfl rfl rfl ?_
        refine g_aload_n (pc' := 58) dX3_rumourItem_57 rfl rfl rfl ?_
        refine gt_get (k := 10) (pc' := 61) (by decide) dX3_rumourItem_58 rfl q1058 rfl ?_
        obtain ⟨q11, hq11, hf⟩ := Option.bind_eq_some_iff.mp hf
        refine g_callV (pc' := 64) (mx := mdX3_adds) (as := [.int x1, .int (q9.1 10)]) (wX3_adds g hA _ _ x1 (q9.1 10) hq11) oX3_adds ⟨Nat.le_of_ble_eq_true rfl, Nat.le_of_ble_eq_true rfl⟩ dX3_rumourItem_61 rfl (ci := 3) rfl tC ⟨by decide +kernel, by decide +kernel⟩ oX3_adds.2.2.2 rfl q1165 q1167 qs40 qs40 q1167 (Nat.le_of_ble_eq_true rfl) (Nat.le_of_ble_eq_true rfl) (g_rI ?_) g_nt rfl
        refine g_istore_n (pc' := 65) (L' := [some (.ref A.1), some (.int x1), some (.int q11.1)]) dX3_rumourItem_64 rfl rfl (Nat.le_of_ble_eq_true rfl) rfl rfl ?_
        refine g_aload_n (pc' := 66) dX3_rumourItem_65 rfl rfl rfl ?_
        refine g_ldc2 (pc' := 69) dX3_rumourItem_66 rfl q1450 ?_
        refine g_iload_n (pc' := 70) dX3_rumourItem_69 rfl rfl rfl ?_
        refine g_iconst (pc' := 71) (v := 2) dX3_rumourItem_70 rfl (by decide) ?_
        obtain ⟨q12, hq12, hf⟩ := Option.bind_eq_some_iff.mp hf
        refine g_callS (pc' := 74) (as := [.int q11.1, .int 2]) (wX3_spotOf g _ q11.1 2 hq12) oX3_spotOf ⟨Nat.le_of_ble_eq_true rfl, Nat.le_of_ble_eq_true rfl⟩ dX3_rumourItem_71 rfl q1138 q1139 q86 (Nat.le_of_ble_eq_true rfl) (Nat.le_of_ble_eq_true rfl) (g_rI ?_) g_nt rfl
        refine g_bipush (pc' := 76) (v := 99) dX3_rumourItem_74 rfl (by decide) ?_
        obtain ⟨q13, hq13, hf⟩ := Option.bind_eq_some_iff.mp hf
        refine g_callV (pc' := 79) (mx := mdX3_partItem) (as := [.long 87435, .int q12, .int 99]) (wX3_partItem g hA _ _ 87435 q12 99 hq13) oX3_partItem ⟨Nat.le_of_ble_eq_true rfl, Nat.le_of_ble_eq_true rfl⟩ dX3_rumourItem_76 rfl (ci := 3) rfl tC ⟨by decide +kernel, by decide +kernel⟩ oX3_partItem.2.2.2 rfl q1451 q1453 qs74 qs74 q1453 (Nat.le_of_ble_eq_true rfl) (Nat.le_of_ble_eq_true rfl) (g_rV ?_) g_nt rfl
        refine g_aload_n (pc' := 80) dX3_rumourItem_79 rfl rfl rfl ?_
        obtain ⟨q14, hq14, hf⟩ := Option.bind_eq_some_iff.mp hf
        refine g_callV (pc' := 83) (mx := mdX3_word) (as := []) (wX3_word g hA _ _ hq14) oX3_word ⟨Nat.le_of_ble_eq_true rfl, Nat.le_of_ble_eq_true rfl⟩ dX3_rumourItem_80 rfl (ci := 3) rfl tC ⟨by decide +kernel, by decide +kernel⟩ oX3_word.2.2.2 rfl q1425 q1427 qs70 qs70 q1427 (Nat.le_of_ble_eq_true rfl) (Nat.le_of_ble_eq_true rfl) (g_rJ ?_) g_nt rfl
        refine g_ldc2 (pc' := 86) dX3_rumourItem_83 rfl q1455 ?_
        refine g_lcmp (pc' := 87) dX3_rumourItem_86 rfl ?_
        refine g_if_ne (tgt := 146) (pc' := 90) dX3_rumourItem_87 (by decide) rfl (fun h15 => ?_) (fun h15 => ?_)
        · replace hf := (if_neg h15).symm.trans hf
          obtain rfl := Option.some.inj hf
          exact g_vret dX3_rumourItem_146 rfl ⟨rfl, rfl⟩
        · replace hf := (if_pos h15).symm.trans hf
          refine g_aload_n (pc' := 91) dX3_rumourItem_90 rfl rfl rfl ?_
          refine g_iconst (pc' := 92) (v := 1) dX3_rumourItem_91 rfl (by decide) ?_
          obtain ⟨q16, hq16, hf⟩ := Option.bind_eq_some_iff.mp hf
          refine g_callV (pc' := 95) (mx := mdX3_must) (as := [.int 1]) (wX3_must g hA _ _ 1 hq16) oX3_must ⟨Nat.le_of_ble_eq_true rfl, Nat.le_of_ble_eq_true rfl⟩ dX3_rumourItem_92 rfl (ci := 3) rfl tC ⟨by decide +kernel, by decide +kernel⟩ oX3_must.2.2.2 rfl q1441 q1443 qs72 qs72 q1443 (Nat.le_of_ble_eq_true rfl) (Nat.le_of_ble_eq_true rfl) (g_rV ?_) g_nt rfl
          refine g_aload_n (pc' := 96) dX3_rumourItem_95 rfl rfl rfl ?_
          obtain ⟨q17, hq17, hf⟩ := Option.bind_eq_some_iff.mp hf
          refine g_callV (pc' := 99) (mx := mdX3_peeked) (as := []) (wX3_peeked g hA _ _ hq17) oX3_peeked ⟨Nat.le_of_ble_eq_true rfl, Nat.le_of_ble_eq_true rfl⟩ dX3_rumourItem_96 rfl (ci := 3) rfl tC ⟨by decide +kernel, by decide +kernel⟩ oX3_peeked.2.2.2 rfl q1456 q1458 qs75 qs75 q1458 (Nat.le_of_ble_eq_true rfl) (Nat.le_of_ble_eq_true rfl) (g_rI ?_) g_nt rfl
          refine g_istore_n (pc' := 100) (L' := [some (.ref A.1), some (.int x1), some (.int q11.1), some (.int q17)]) dX3_rumourItem_99 rfl rfl (Nat.le_of_ble_eq_true rfl) rfl rfl ?_
          refine g_aload_n (pc' := 101) dX3_rumourItem_100 rfl rfl rfl ?_
          refine g_iload_n (pc' := 102) dX3_rumourItem_101 rfl rfl rfl ?_
          obtain ⟨q18, hq18, hf⟩ := Option.bind_eq_some_iff.mp hf
          refine g_callS (pc' := 105) (as := [.int q17]) (wX3_isHouse g _ q17 hq18) oX3_isHouse ⟨Nat.le_of_ble_eq_true rfl, Nat.le_of_ble_eq_true rfl⟩ dX3_rumourItem_102 rfl q1108 q1109 q86 (Nat.le_of_ble_eq_true rfl) (Nat.le_of_ble_eq_true rfl) (g_rI ?_) g_nt rfl
          obtain ⟨q19, hqq19, hf⟩ := Option.bind_eq_some_iff.mp hf
          have hJq19 : bG (g, mdX3_rumourItem, (tW A M w).2.1, (tW A M w).2.2.1, (q_ none (tW A r w))) (tW A q16 w) 121 [some (.ref A.1), none, some (.int q11.1), some (.int q17)] [.int q19, .ref A.1] := by
            obtain ⟨q23, hq23, hf⟩ := Option.bind_eq_some_iff.mp hf
            refine g_callV (pc' := 124) (mx := mdX3_must) (as := [.int q19]) (wX3_must g hA _ _ q19 hq23) oX3_must ⟨Nat.le_of_ble_eq_true rfl, Nat.le_of_ble_eq_true rfl⟩ dX3_rumourItem_121 rfl (ci := 3) rfl tC ⟨by decide +kernel, by decide +kernel⟩ oX3_must.2.2.2 rfl q1441 q1443 qs72 qs72 q1443 (Nat.le_of_ble_eq_true rfl) (Nat.le_of_ble_eq_true rfl) (g_rV ?_) g_nt rfl
            refine g_aload_n (pc' := 125) dX3_rumourItem_124 rfl rfl rfl ?_
            refine gt_get (k := 0) (pc' := 128) (by decide) dX3_rumourItem_125 rfl q1048 rfl ?_
            refine g_iload_n (pc' := 129) dX3_rumourItem_128 rfl rfl rfl ?_
            refine g_iconst (pc' := 130) (v := 4) dX3_rumourItem_129 rfl (by decide) ?_
            obtain ⟨q24, hq24, hf⟩ := Option.bind_eq_some_iff.mp hf
            refine g_callS (pc' := 133) (as := [.int q11.1, .int 4]) (wX3_spotOf g _ q11.1 4 hq24) oX3_spotOf ⟨Nat.le_of_ble_eq_true rfl, Nat.le_of_ble_eq_true rfl⟩ dX3_rumourItem_130 rfl q1138 q1139 q86 (Nat.le_of_ble_eq_true rfl) (Nat.le_of_ble_eq_true rfl) (g_rI ?_) g_nt rfl
            refine g_aload_n (pc' := 134) dX3_rumourItem_133 rfl rfl rfl ?_
            refine gt_get (k := 11) (pc' := 137) (by decide) dX3_rumourItem_134 rfl q1059 rfl ?_
            refine g_if_eq (tgt := 144) (pc' := 140) dX3_rumourItem_137 (by decide) rfl (fun h25 => ?_) (fun h25 => ?_)
            · replace hf := (if_pos h25).symm.trans hf
              refine g_iload_n (pc' := 145) dX3_rumourItem_144 rfl rfl rfl ?_
              obtain ⟨w26, hw26, hf⟩ := Option.bind_eq_some_iff.mp hf
              refine gt_iast (pc' := 146) hA (by decide) dX3_rumourItem_145 rfl hw26 ?_
              obtain rfl := Option.some.inj hf
              exact g_vret dX3_rumourItem_146 rfl ⟨rfl, rfl⟩
            · replace hf := (if_neg h25).symm.trans hf
              refine g_iconst (pc' := 141) (v := (-1)) dX3_rumourItem_140 rfl (by decide) ?_
              refine g_goto (tgt := 145) dX3_rumourItem_141 (by decide) ?_
              obtain ⟨w27, hw27, hf⟩ := Option.bind_eq_some_iff.mp hf
              refine gt_iast (pc' := 146) hA (by decide) dX3_rumourItem_145 rfl hw27 ?_
              obtain rfl := Option.some.inj hf
              exact g_vret dX3_rumourItem_146 rfl ⟨rfl, rfl⟩
          replace hf := hqq19
          refine g_if_eq (tgt := 120) (pc' := 108) dX3_rumourItem_105 (by decide) rfl (fun h20 => ?_) (fun h20 => ?_)
          · replace hf := (if_pos h20).symm.trans hf
            refine g_iconst (pc' := 121) (v := 0) dX3_rumourItem_120 rfl (by decide) ?_
            obtain rfl := Option.some.inj hf
            refine g_drop [1] (L' := [some (.ref A.1), none, some (.int q11.1), some (.int q17)]) rfl ?_
            exact hJq19
          · replace hf := (if_neg h20).symm.trans hf
            refine g_aload_n (pc' := 109) dX3_rumourItem_108 rfl rfl rfl ?_
            refine g_iload_n (pc' := 110) dX3_rumourItem_109 rfl rfl rfl ?_
            obtain ⟨q21, hq21, hf⟩ := Option.bind_eq_some_iff.mp hf
            refine g_callV (pc' := 113) (mx := mdX3_isFree) (as := [.int q17]) (wX3_isFree g hA _ _ q17 hq21) oX3_isFree ⟨Nat.le_of_ble_eq_true rfl, Nat.le_of_ble_eq_true rfl⟩ dX3_rumourItem_110 rfl (ci := 3) rfl tC ⟨by decide +kernel, by decide +kernel⟩ oX3_isFree.2.2.2 rfl q1210 q1212 qs45 qs45 q1212 (Nat.le_of_ble_eq_true rfl) (Nat.le_of_ble_eq_true rfl) (g_rI ?_) g_nt rfl
            refine g_if_eq (tgt := 120) (pc' := 116) dX3_rumourItem_113 (by decide) rfl (fun h22 => ?_) (fun h22 => ?_)
            · replace hf := (if_pos h22).symm.trans hf
              refine g_iconst (pc' := 121) (v := 0) dX3_rumourItem_120 rfl (by decide) ?_
              obtain rfl := Option.some.inj hf
              refine g_drop [1] (L' := [some (.ref A.1), none, some (.int q11.1), some (.int q17)]) rfl ?_
              exact hJq19
            · replace hf := (if_neg h22).symm.trans hf
              refine g_iconst (pc' := 117) (v := 1) dX3_rumourItem_116 rfl (by decide) ?_
              refine g_goto (tgt := 121) dX3_rumourItem_117 (by decide) ?_
              obtain rfl := Option.some.inj hf
              refine g_drop [1] (L' := [some (.ref A.1), none, some (.int q11.1), some (.int q17)]) rfl ?_
              exact hJq19
      · replace hf := (if_neg h10).symm.trans hf
        obtain rfl := Option.some.inj hf
        exact g_vret dX3_rumourItem_54 rfl ⟨rfl, rfl⟩
    replace hf := hqq6
    refine g_if_ne (tgt := 36) (pc' := 32) dX3_rumourItem_29 (by decide) rfl (fun h7 => ?_) (fun h7 => ?_)
    · replace hf := (if_neg h7).symm.trans hf
      refine g_iconst (pc' := 37) (v := 0) dX3_rumourItem_36 rfl (by decide) ?_
      obtain rfl := Option.some.inj hf
      exact hJq6
    · replace hf := (if_pos h7).symm.trans hf
      refine g_iconst (pc' := 33) (v := 1) dX3_rumourItem_32 rfl (by decide) ?_
      refine g_goto (tgt := 37) dX3_rumourItem_33 (by decide) ?_
      obtain rfl := Option.some.inj hf
      exact hJq6
  replace hf := hqq2
  refine g_icmp_ge (tgt := 16) (pc' := 12) dX3_rumourItem_9 (by decide) rfl (fun h3 => ?_) (fun h3 => ?_)
  · replace hf := (if_pos h3).symm.trans hf
    refine g_iconst (pc' := 17) (v := 0) dX3_rumourItem_16 rfl (by decide) ?_
    obtain rfl := Option.some.inj hf
    exact hJq2
  · replace hf := (if_neg h3).symm.trans hf
    refine g_iconst (pc' := 13) (v := 1) dX3_rumourItem_12 rfl (by decide) ?_
    refine g_goto (tgt := 17) dX3_rumourItem_13 (by decide) ?_
    obtain rfl := Option.some.inj hf
    exact hJq2
def mdX3_houseItem : bMD := (yX3_houseItem, cX3_houseItem, 2, none, [], 7, 149)
theorem oX3_houseItem : bOkc mdX3_houseItem 0 := ⟨by decide +kernel, ⟨by decide +kernel, by decide +kernel⟩, by decide +kernel, q1464⟩
def fX3_houseItem (M : tM)  : Option tM :=
  Option.bind (fX3_must M 1) fun q1 =>
  Option.bind (fX3_number q1 0 7) fun q2 =>
  Option.bind (α := Int32) ((if (q2.1 11) = 0 then
  some (q2.1 10)
else
  some 0)) fun q3 =>
  Option.bind (fX3_partOf q3 0) fun q5 =>
  Option.bind (fX3_partItem q2 70803 q5 3) fun q6 =>
  Option.bind (fX3_partOf q3 1) fun q7 =>
  Option.bind (fX3_partItem q6 404295858 q7 999) fun q8 =>
  Option.bind (fX3_partOf q3 2) fun q9 =>
  Option.bind (fX3_partItem q8 12748243 q9 9) fun q10 =>
  some q10
set_option maxHeartbeats 4000000 in
theorem wX3_houseItem (g : bGh) {A : tA} (hA : tO A) (w : bWl) (M : tM)  {r : tM} (hf : fX3_houseItem M  = some r) : bM g mdX3_houseItem (tW A M w) [.ref A.1] (q_ none (tW A r w)) := by
  unfold fX3_houseItem at hf
  change bG _ _ 0 [some (.ref A.1)] []
  refine g_aload_n (pc' := 1) dX3_houseItem_0 rfl rfl rfl ?_
  refine g_iconst (pc' := 2) (v := 1) dX3_houseItem_1 rfl (by decide) ?_
  obtain ⟨q1, hq1, hf⟩ := Option.bind_eq_some_iff.mp hf
  refine g_callV (pc' := 5) (mx := mdX3_must) (as := [.int 1]) (wX3_must g hA _ _ 1 hq1) oX3_must ⟨Nat.le_of_ble_eq_true rfl, Nat.le_of_ble_eq_true rfl⟩ dX3_houseItem_2 rfl (ci := 3) rfl tC ⟨by decide +kernel, by decide +kernel⟩ oX3_must.2.2.2 rfl q1441 q1443 qs72 qs72 q1443 (Nat.le_of_ble_eq_true rfl) (Nat.le_of_ble_eq_true rfl) (g_rV ?_) g_nt rfl
  refine g_aload_n (pc' := 6) dX3_houseItem_5 rfl rfl rfl ?_
  refine g_iconst (pc' := 7) (v := 0) dX3_houseItem_6 rfl (by decide) ?_
  refine g_bipush (pc' := 9) (v := 7) dX3_houseItem_7 rfl (by decide) ?_
  obtain ⟨q2, hq2, hf⟩ := Option.bind_eq_some_iff.mp hf
  refine g_callV (pc' := 12) (mx := mdX3_number) (as := [.int 0, .int 7]) (wX3_number g hA _ _ 0 7 hq2) oX3_number ⟨Nat.le_of_ble_eq_true rfl, Nat.le_of_ble_eq_true rfl⟩ dX3_houseItem_9 rfl (ci := 3) rfl tC ⟨by decide +kernel, by decide +kernel⟩ oX3_number.2.2.2 rfl q1446 q1448 qs73 qs73 q1448 (Nat.le_of_ble_eq_true rfl) (Nat.le_of_ble_eq_true rfl) (g_rV ?_) g_nt rfl
  refine g_aload_n (pc' := 13) dX3_houseItem_12 rfl rfl rfl ?_
  refine gt_get (k := 11) (pc' := 16) (by decide) dX3_houseItem_13 rfl q1059 rfl ?_
  obtain ⟨q3, hqq3, hf⟩ := Option.bind_eq_some_iff.mp hf
  have hJq3 : bG (g, mdX3_houseItem, (tW A M w).2.1, (tW A M w).2.2.1, (q_ none (tW A r w))) (tW A q2 w) 27 [some (.ref A.1)] [.int q3] := by
    refine g_istore_n (pc' := 28) (L' := [some (.ref A.1), some (.int q3)]) dX3_houseItem_27 rfl rfl (Nat.le_of_ble_eq_true rfl) rfl rfl ?_
    refine g_aload_n (pc' := 29) dX3_houseItem_28 rfl rfl rfl ?_
    refine g_ldc2 (pc' := 32) dX3_houseItem_29 rfl q1465 ?_
    refine g_iload_n (pc' := 33) dX3_houseItem_32 rfl rfl rfl ?_
    refine g_iconst (pc' := 34) (v := 0) dX3_houseItem_33 rfl (by decide) ?_
    obtain ⟨q5, hq5, hf⟩ := Option.bind_eq_some_iff.mp hf
    refine g_callS (pc' := 37) (as := [.int q3, .int 0]) (wX3_partOf g _ q3 0 hq5) oX3_partOf ⟨Nat.le_of_ble_eq_true rfl, Nat.le_of_ble_eq_true rfl⟩ dX3_houseItem_34 rfl q1045 q1046 q86 (Nat.le_of_ble_eq_true rfl) (Nat.le_of_ble_eq_true rfl) (g_rI ?_) g_nt rfl
    refine g_iconst (pc' := 38) (v := 3) dX3_houseItem_37 rfl (by decide) ?_
    obtain ⟨q6, hq6, hf⟩ := Option.bind_eq_some_iff.mp hf
    refine g_callV (pc' := 41) (mx := mdX3_partItem) (as := [.long 70803, .int q5, .int 3]) (wX3_partItem g hA _ _ 70803 q5 3 hq6) oX3_partItem ⟨Nat.le_of_ble_eq_true rfl, Nat.le_of_ble_eq_true rfl⟩ dX3_houseItem_38 rfl (ci := 3) rfl tC ⟨by decide +kernel, by decide +kernel⟩ oX3_partItem.2.2.2 rfl q1451 q1453 qs74 qs74 q1453 (Nat.le_of_ble_eq_true rfl) (Nat.le_of_ble_eq_true rfl) (g_rV ?_) g_nt rfl
    refine g_aload_n (pc' := 42) dX3_houseItem_41 rfl rfl rfl ?_
    refine g_ldc2 (pc' := 45) dX3_houseItem_42 rfl q1466 ?_
    refine g_iload_n (pc' := 46) dX3_houseItem_45 rfl rfl rfl ?_
    refine g_iconst (pc' := 47) (v := 1) dX3_houseItem_46 rfl (by decide) ?_
    obtain ⟨q7, hq7, hf⟩ := Option.bind_eq_some_iff.mp hf
    refine g_callS (pc' := 50) (as := [.int q3, .int 1]) (wX3_partOf g _ q3 1 hq7) oX3_partOf ⟨Nat.le_of_ble_eq_true rfl, Nat.le_of_ble_eq_true rfl⟩ dX3_houseItem_47 rfl q1045 q1046 q86 (Nat.le_of_ble_eq_true rfl) (Nat.le_of_ble_eq_true rfl) (g_rI ?_) g_nt rfl
    refine g_sipush (pc' := 53) (v := 999) dX3_houseItem_50 rfl (by decide) ?_
    obtain ⟨q8, hq8, hf⟩ := Option.bind_eq_some_iff.mp hf
    refine g_callV (pc' := 56) (mx := mdX3_partItem) (as := [.long 404295858, .int q7, .int 999]) (wX3_partItem g hA _ _ 404295858 q7 999 hq8) oX3_partItem ⟨Nat.le_of_ble_eq_true rfl, Nat.le_of_ble_eq_true rfl⟩ dX3_houseItem_53 rfl (ci := 3) rfl tC ⟨by decide +kernel, by decide +kernel⟩ oX3_partItem.2.2.2 rfl q1451 q1453 qs74 qs74 q1453 (Nat.le_of_ble_eq_true rfl) (Nat.le_of_ble_eq_true rfl) (g_rV ?_) g_nt rfl
    refine g_aload_n (pc' := 57) dX3_houseItem_56 rfl rfl rfl ?_
    refine g_ldc2 (pc' := 60) dX3_houseItem_57 rfl q1467 ?_
    refine g_iload_n (pc' := 61) dX3_houseItem_60 rfl rfl rfl ?_
    refine g_iconst (pc' := 62) (v := 2) dX3_houseItem_61 rfl (by decide) ?_
    obtain ⟨q9, hq9, hf⟩ := Option.bind_eq_some_iff.mp hf
    refine g_callS (pc' := 65) (as := [.int q3, .int 2]) (wX3_partOf g _ q3 2 hq9) oX3_partOf ⟨Nat.le_of_ble_eq_true rfl, Nat.le_of_ble_eq_true rfl⟩ dX3_houseItem_62 rfl q1045 q1046 q86 (Nat.le_of_ble_eq_true rfl) (Nat.le_of_ble_eq_true rfl) (g_rI ?_) g_nt rfl
    refine g_bipush (pc' := 67) (v := 9) dX3_houseItem_65 rfl (by decide) ?_
    obtain ⟨q10, hq10, hf⟩ := Option.bind_eq_some_iff.mp hf
    refine g_callV (pc' := 70) (mx := mdX3_partItem) (as := [.long 12748243, .int q9, .int 9]) (wX3_partItem g hA _ _ 12748243 q9 9 hq10) oX3_partItem ⟨Nat.le_of_ble_eq_true rfl, Nat.le_of_ble_eq_true rfl⟩ dX3_houseItem_67 rfl (ci := 3) rfl tC ⟨by decide +kernel, by decide +kernel⟩ oX3_partItem.2.2.2 rfl q1451 q1453 qs74 qs74 q1453 (Nat.le_of_ble_eq_true rfl) (Nat.le_of_ble_eq_true rfl) (g_rV ?_) g_nt rfl
    obtain rfl := Option.some.inj hf
    exact g_vret dX3_houseItem_70 rfl ⟨rfl, rfl⟩
  replace hf := hqq3
  refine g_if_eq (tgt := 23) (pc' := 19) dX3_houseItem_16 (by decide) rfl (fun h4 => ?_) (fun h4 => ?_)
  · replace hf := (if_pos h4).symm.trans hf
    refine g_aload_n (pc' := 24) dX3_houseItem_23 rfl rfl rfl ?_
    refine gt_get (k := 10) (pc' := 27) (by decide) dX3_houseItem_24 rfl q1058 rfl ?_
    obtain rfl := Option.some.inj hf
    exact hJq3
  · replace hf := (if_neg h4).symm.trans hf
    refine g_iconst (pc' := 20) (v := 0) dX3_houseItem_19 rfl (by decide) ?_
    refine g_goto (tgt := 27) dX3_houseItem_20 (by decide) ?_
    obtain rfl := Option.some.inj hf
    exact hJq3
def mdX3_item : bMD := (yX3_item, cX3_item, 5, none, [], 8, 172)
theorem oX3_item : bOkc mdX3_item 0 := ⟨by decide +kernel, ⟨by decide +kernel, by decide +kernel⟩, by decide +kernel, q1420⟩
def fX3_item (M : tM)  : Option tM :=
  Option.bind (fX3_kindHere M) fun q1 =>
  Option.bind (fX3_word M) fun q2 =>
  (if q1 < 0 then
  (if (lg_cmp q2 8902245) = 0 then
  Option.bind (fX3_houseItem M) fun q11 =>
  some q11
else
  Option.bind (α := Int32) ((if (lg_cmp q2 674469) = 0 then
  some 1
else
  some 0)) fun q5 =>
  Option.bind (fX3_must M q5) fun q7 =>
  Option.bind (fX3_number q7 0 15) fun q8 =>
  (if (q8.1 11) = 0 then
  Option.bind (fX3_becomesTrue q8 (q8.1 10)) fun q10 =>
  some q10.2
else
  some q8))
else
  Option.bind (fX3_rumourItem M q1) fun q12 =>
  some q12)
set_option maxHeartbeats 4000000 in
theorem wX3_item (g : bGh) {A : tA} (hA : tO A) (w : bWl) (M : tM)  {r : tM} (hf : fX3_item M  = some r) : bM g mdX3_item (tW A M w) [.ref A.1] (q_ none (tW A r w)) := by
  unfold fX3_item at hf
  change bG _ _ 0 [some (.ref A.1)] []
  refine g_aload_n (pc' := 1) dX3_item_0 rfl rfl rfl ?_
  obtain ⟨q1, hq1, hf⟩ := Option.bind_eq_some_iff.mp hf
  refine g_callV (pc' := 4) (mx := mdX3_kindHere) (as := []) (wX3_kindHere g hA _ _ hq1) oX3_kindHere ⟨Nat.le_of_ble_eq_true rfl, Nat.le_of_ble_eq_true rfl⟩ dX3_item_1 rfl (ci := 3) rfl tC ⟨by decide +kernel, by decide +kernel⟩ oX3_kindHere.2.2.2 rfl q1421 q1423 qs69 qs69 q1423 (Nat.le_of_ble_eq_true rfl) (Nat.le_of_ble_eq_true rfl) (g_rI ?_) g_nt rfl
  refine g_istore_n (pc' := 5) (L' := [some (.ref A.1), some (.int q1)]) dX3_item_4 rfl rfl (Nat.le_of_ble_eq_true rfl) rfl rfl ?_
  refine g_aload_n (pc' := 6) dX3_item_5 rfl rfl rfl ?_
  obtain ⟨q2, hq2, hf⟩ := Option.bind_eq_some_iff.mp hf
  refine g_callV (pc' := 9) (mx := mdX3_word) (as := []) (wX3_word g hA _ _ hq2) oX3_word ⟨Nat.le_of_ble_eq_true rfl, Nat.le_of_ble_eq_true rfl⟩ dX3_item_6 rfl (ci := 3) rfl tC ⟨by decide +kernel, by decide +kernel⟩ oX3_word.2.2.2 rfl q1425 q1427 qs70 qs70 q1427 (Nat.le_of_ble_eq_true rfl) (Nat.le_of_ble_eq_true rfl) (g_rJ ?_) g_nt rfl
  refine g_lstore_n (pc' := 10) (L' := [some (.ref A.1), some (.int q1), some (.long q2), none]) dX3_item_9 rfl rfl (Nat.le_of_ble_eq_true rfl) rfl rfl ?_
  refine g_iload_n (pc' := 11) dX3_item_10 rfl rfl rfl ?_
  refine g_if_lt (tgt := 22) (pc' := 14) dX3_item_11 (by decide) rfl (fun h3 => ?_) (fun h3 => ?_)
  · replace hf := (if_pos h3).symm.trans hf
    refine g_lload_n (pc' := 23) dX3_item_22 rfl rfl rfl ?_
    refine g_ldc2 (pc' := 26) dX3_item_23 rfl q1460 ?_
    refine g_lcmp (pc' := 27) dX3_item_26 rfl ?_
    refine g_if_ne (tgt := 37) (pc' := 30) dX3_item_27 (by decide) rfl (fun h4 => ?_) (fun h4 => ?_)
    · replace hf := (if_neg h4).symm.trans hf
      refine g_aload_n (pc' := 38) dX3_item_37 rfl rfl rfl ?_
      refine g_lload_n (pc' := 39) dX3_item_38 rfl rfl rfl ?_
      refine g_ldc2 (pc' := 42) dX3_item_39 rfl q1468 ?_
      refine g_lcmp (pc' := 43) dX3_item_42 rfl ?_
      obtain ⟨q5, hqq5, hf⟩ := Option.bind_eq_some_iff.mp hf
      have hJq5 : bG (g, mdX3_item, (tW A M w).2.1, (tW A M w).2.2.1, (q_ none (tW A r w))) (tW A M w) 51 [some (.ref A.1), none, none, none] [.int q5, .ref A.1] := by
        obtain ⟨q7, hq7, hf⟩ := Option.bind_eq_some_iff.mp hf
        refine g_callV (pc' := 54) (mx := mdX3_must) (as := [.int q5]) (wX3_must g hA _ _ q5 hq7) oX3_must ⟨Nat.le_of_ble_eq_true rfl, Nat.le_of_ble_eq_true rfl⟩ dX3_item_51 rfl (ci := 3) rfl tC ⟨by decide +kernel, by decide +kernel⟩ oX3_must.2.2.2 rfl q1441 q1443 qs72 qs72 q1443 (Nat.le_of_ble_eq_true rfl) (Nat.le_of_ble_eq_true rfl) (g_rV ?_) g_nt rfl
        refine g_aload_n (pc' := 55) dX3_item_54 rfl rfl rfl ?_
        refine g_iconst (pc' := 56) (v := 0) dX3_item_55 rfl (by decide) ?_
        refine g_bipush (pc' := 58) (v := 15) dX3_item_56 rfl (by decide) ?_
        obtain ⟨q8, hq8, hf⟩ := Option.bind_eq_some_iff.mp hf
        refine g_callV (pc' := 61) (mx := mdX3_number) (as := [.int 0, .int 15]) (wX3_number g hA _ _ 0 15 hq8) oX3_number ⟨Nat.le_of_ble_eq_true rfl, Nat.le_of_ble_eq_true rfl⟩ dX3_item_58 rfl (ci := 3) rfl tC ⟨by decide +kernel, by decide +kernel⟩ oX3_number.2.2.2 rfl q1446 q1448 qs73 qs73 q1448 (Nat.le_of_ble_eq_true rfl) (Nat.le_of_ble_eq_true rfl) (g_rV ?_) g_nt rfl
        refine g_aload_n (pc' := 62) dX3_item_61 rfl rfl rfl ?_
        refine gt_get (k := 11) (pc' := 65) (by decide) dX3_item_62 rfl q1059 rfl ?_
        refine g_if_ne (tgt := 78) (pc' := 68) dX3_item_65 (by decide) rfl (fun h9 => ?_) (fun h9 => ?_)
        · replace hf := (if_neg h9).symm.trans hf
          obtain rfl := Option.some.inj hf
          exact g_vret dX3_item_78 rfl ⟨rfl, rfl⟩
        · replace hf := (if_pos h9).symm.trans hf
          refine g_aload_n (pc' := 69) dX3_item_68 rfl rfl rfl ?_
          refine g_aload_n (pc' := 70) dX3_item_69 rfl rfl rfl ?_
          refine gt_get (k := 10) (pc' := 73) (by decide) dX3_item_70 rfl q1058 rfl ?_
          obtain ⟨q10, hq10, hf⟩ := Option.bind_eq_some_iff.mp hf
          refine g_callV (pc' := 76) (mx := mdX3_becomesTrue) (as := [.int (q8.1 10)]) (wX3_becomesTrue g hA _ _ (q8.1 10) hq10) oX3_becomesTrue ⟨Nat.le_of_ble_eq_true rfl, Nat.le_of_ble_eq_true rfl⟩ dX3_item_73 rfl (ci := 3) rfl tC ⟨by decide +kernel, by decide +kernel⟩ oX3_becomesTrue.2.2.2 rfl q1246 q1248 qs49 qs49 q1248 (Nat.le_of_ble_eq_true rfl) (Nat.le_of_ble_eq_true rfl) (g_rI ?_) g_nt rfl
          refine g_istore (pc' := 78) (L' := [some (.ref A.1), none, none, none, some (.int q10.1)]) dX3_item_76 rfl (Nat.le_of_ble_eq_true rfl) rfl rfl ?_
          obtain rfl := Option.some.inj hf
          exact g_vret dX3_item_78 rfl ⟨rfl, rfl⟩
      replace hf := hqq5
      refine g_if_ne (tgt := 50) (pc' := 46) dX3_item_43 (by decide) rfl (fun h6 => ?_) (fun h6 => ?_)
      · replace hf := (if_neg h6).symm.trans hf
        refine g_iconst (pc' := 51) (v := 0) dX3_item_50 rfl (by decide) ?_
        obtain rfl := Option.some.inj hf
        refine g_drop [1, 2] (L' := [some (.ref A.1), none, none, none]) rfl ?_
        exact hJq5
      · replace hf := (if_pos h6).symm.trans hf
        refine g_iconst (pc' := 47) (v := 1) dX3_item_46 rfl (by decide) ?_
        refine g_goto (tgt := 51) dX3_item_47 (by decide) ?_
        obtain rfl := Option.some.inj hf
        refine g_drop [1, 2] (L' := [some (.ref A.1), none, none, none]) rfl ?_
        exact hJq5
    · replace hf := (if_pos h4).symm.trans hf
      refine g_aload_n (pc' := 31) dX3_item_30 rfl rfl rfl ?_
      obtain ⟨q11, hq11, hf⟩ := Option.bind_eq_some_iff.mp hf
      refine g_callV (pc' := 34) (mx := mdX3_houseItem) (as := []) (wX3_houseItem g hA _ _ hq11) oX3_houseItem ⟨Nat.le_of_ble_eq_true rfl, Nat.le_of_ble_eq_true rfl⟩ dX3_item_31 rfl (ci := 3) rfl tC ⟨by decide +kernel, by decide +kernel⟩ oX3_houseItem.2.2.2 rfl q1461 q1463 qs76 qs76 q1463 (Nat.le_of_ble_eq_true rfl) (Nat.le_of_ble_eq_true rfl) (g_rV ?_) g_nt rfl
      refine g_goto (tgt := 78) dX3_item_34 (by decide) ?_
      obtain rfl := Option.some.inj hf
      exact g_vret dX3_item_78 rfl ⟨rfl, rfl⟩
  · replace hf := (if_neg h3).symm.trans hf
    refine g_aload_n (pc' := 15) dX3_item_14 rfl rfl rfl ?_
    refine g_iload_n (pc' := 16) dX3_item_15 rfl rfl rfl ?_
    obtain ⟨q12, hq12, hf⟩ := Option.bind_eq_some_iff.mp hf
    refine g_callV (pc' := 19) (mx := mdX3_rumourItem) (as := [.int q1]) (wX3_rumourItem g hA _ _ q1 hq12) oX3_rumourItem ⟨Nat.le_of_ble_eq_true rfl, Nat.le_of_ble_eq_true rfl⟩ dX3_item_16 rfl (ci := 3) rfl tC ⟨by decide +kernel, by decide +kernel⟩ oX3_rumourItem.2.2.2 rfl q1437 q1439 qs71 qs71 q1439 (Nat.le_of_ble_eq_true rfl) (Nat.le_of_ble_eq_true rfl) (g_rV ?_) g_nt rfl
    refine g_goto (tgt := 78) dX3_item_19 (by decide) ?_
    obtain rfl := Option.some.inj hf
    exact g_vret dX3_item_78 rfl ⟨rfl, rfl⟩
def mdX3_putsBack : bMD := (yX3_putsBack, cX3_putsBack, 2, none, [], 1, 12)
theorem oX3_putsBack : bOkc mdX3_putsBack 0 := ⟨by decide +kernel, ⟨by decide +kernel, by decide +kernel⟩, by decide +kernel, q1472⟩
def fX3_putsBack_l2  (rec : (Int32 × tM) → Option (Int32 × tM)) (s : Int32 × tM) : Option (Int32 × tM) :=
  (if 77 ≤ s.1 then
  some (s.1, s.2)
else
  Option.bind (rA s.2 2 s.1) fun v2 =>
  Option.bind (wA s.2 0 s.1 v2) fun w3 =>
  rec ((s.1 + 1), w3))
def fX3_putsBack (M : tM)  : Option tM :=
  Option.bind (lpF (fX3_putsBack_l2) FU (0, M)) fun q4 =>
  some q4.2
set_option maxHeartbeats 4000000 in
theorem wX3_putsBack_l2 {g : bGh} {A : tA} (hA : tO A) {w : bWl} {n0 u0 : Nat} {Q : Outcome → bWl → Prop}  : ∀ (n : Nat) (s : Int32 × tM) (r : (Int32 × tM)), lpF (fX3_putsBack_l2) n s = some r → bG (g, mdX3_putsBack, n0, u0, Q) (tW A r.2 w) 26 [some (.ref A.1), some (.int r.1)] [] → bG (g, mdX3_putsBack, n0, u0, Q) (tW A s.2 w) 2 [some (.ref A.1), some (.int s.1)] [] := by
  intro n
  induction n with
  | zero => intro s r hf; cases hf
  | succ n ih =>
    intro s r hf kx
    rw [lpF_s] at hf
    unfold fX3_putsBack_l2 at hf
    refine g_iload_n (pc' := 3) dX3_putsBack_2 rfl rfl rfl ?_
    refine g_bipush (pc' := 5) (v := 77) dX3_putsBack_3 rfl (by decide) ?_
    refine g_icmp_ge (tgt := 26) (pc' := 8) dX3_putsBack_5 (by decide) rfl (fun h1 => ?_) (fun h1 => ?_)
    · replace hf := (if_pos h1).symm.trans hf
      obtain rfl := Option.some.inj hf
      exact kx
    · replace hf := (if_neg h1).symm.trans hf
      refine g_aload_n (pc' := 9) dX3_putsBack_8 rfl rfl rfl ?_
      refine gt_get (k := 0) (pc' := 12) (by decide) dX3_putsBack_9 rfl q1048 rfl ?_
      refine g_iload_n (pc' := 13) dX3_putsBack_12 rfl rfl rfl ?_
      refine g_aload_n (pc' := 14) dX3_putsBack_13 rfl rfl rfl ?_
      refine gt_get (k := 2) (pc' := 17) (by decide) dX3_putsBack_14 rfl q1050 rfl ?_
      refine g_iload_n (pc' := 18) dX3_putsBack_17 rfl rfl rfl ?_
      obtain ⟨v2, hv2, hf⟩ := Option.bind_eq_some_iff.mp hf
      refine gt_iald (pc' := 19) hA (by decide) dX3_putsBack_18 rfl hv2 ?_
      obtain ⟨w3, hw3, hf⟩ := Option.bind_eq_some_iff.mp hf
      refine gt_iast (pc' := 20) hA (by decide) dX3_putsBack_19 rfl hw3 ?_
      refine g_iinc (pc' := 23) (v := s.1 + 1) (L' := [some (.ref A.1), some (.int (s.1 + 1))]) dX3_putsBack_20 rfl rfl rfl (Nat.le_of_ble_eq_true rfl) rfl rfl ?_
      refine g_goto (tgt := 2) dX3_putsBack_23 (by decide) ?_
      exact ih _ r hf kx
set_option maxHeartbeats 4000000 in
theorem wX3_putsBack (g : bGh) {A : tA} (hA : tO A) (w : bWl) (M : tM)  {r : tM} (hf : fX3_putsBack M  = some r) : bM g mdX3_putsBack (tW A M w) [.ref A.1] (q_ none (tW A r w)) := by
  unfold fX3_putsBack at hf
  change bG _ _ 0 [some (.ref A.1)] []
  refine g_iconst (pc' := 1) (v := 0) dX3_putsBack_0 rfl (by decide) ?_
  refine g_istore_n (pc' := 2) (L' := [some (.ref A.1), some (.int 0)]) dX3_putsBack_1 rfl rfl (Nat.le_of_ble_eq_true rfl) rfl rfl ?_
  obtain ⟨q4, hq4, hf⟩ := Option.bind_eq_some_iff.mp hf
  refine wX3_putsBack_l2 hA FU (0, M) q4 hq4 ?_
  obtain rfl := Option.some.inj hf
  exact g_vret dX3_putsBack_26 rfl ⟨rfl, rfl⟩
def mdX3_town : bMD := (yX3_town, cX3_town, 2, (some FieldType.int), [], 9, 196)
theorem oX3_town : bOkc mdX3_town 0 := ⟨by decide +kernel, ⟨by decide +kernel, by decide +kernel⟩, by decide +kernel, q1394⟩
def fX3_town_l24  (rec : (Int32 × tM) → Option (Int32 × tM)) (s : Int32 × tM) : Option (Int32 × tM) :=
  (if (s.2.1 11) = 0 then
  Option.bind (fX3_byteAt s.2 (s.2.1 8)) fun q5 =>
  (if q5 = 59 then
  Option.bind (fX3_must s.2 1) fun q7 =>
  Option.bind (fX3_item q7) fun q8 =>
  rec ((s.1 + 1), q8)
else
  some (s.1, s.2))
else
  some (s.1, s.2))
def fX3_town (M : tM)  : Option (Int32 × tM) :=
  Option.bind (fX3_saves M) fun q1 =>
  Option.bind (fX3_token (wI (wI q1 11 0) 9 0)) fun q2 =>
  Option.bind (fX3_item q2) fun q3 =>
  Option.bind (lpF (fX3_town_l24) FU (1, q3)) fun q9 =>
  Option.bind (α := Int32) ((if (q9.2.1 11) = 0 then
  (if (q9.2.1 7) ≤ (q9.2.1 8) then
  some 0
else
  some 1)
else
  some 1)) fun q10 =>
  bz q10 (Option.bind (α := tM) ((if ((wI q9.2 11 q10).1 11) = 0 then
  some (wI q9.2 11 q10)
else
  Option.bind (fX3_putsBack (wI q9.2 11 q10)) fun q16 =>
  some q16)) fun q14 =>
  (if ((wI q14 7 0).1 11) = 0 then
  some (q9.1, (wI q14 7 0))
else
  some (((-1) - ((wI q14 7 0).1 8)), (wI q14 7 0))))
set_option maxHeartbeats 4000000 in
theorem wX3_town_l24 {g : bGh} {A : tA} (hA : tO A) {w : bWl} {n0 u0 : Nat} {Q : Outcome → bWl → Prop}  : ∀ (n : Nat) (s : Int32 × tM) (r : (Int32 × tM)), lpF (fX3_town_l24) n s = some r → bG (g, mdX3_town, n0, u0, Q) (tW A r.2 w) 59 [some (.ref A.1), some (.int r.1)] [] → bG (g, mdX3_town, n0, u0, Q) (tW A s.2 w) 24 [some (.ref A.1), some (.int s.1)] [] := by
  intro n
  induction n with
  | zero => intro s r hf; cases hf
  | succ n ih =>
    intro s r hf kx
    rw [lpF_s] at hf
    unfold fX3_town_l24 at hf
    refine g_aload_n (pc' := 25) dX3_town_24 rfl rfl rfl ?_
    refine gt_get (k := 11) (pc' := 28) (by decide) dX3_town_25 rfl q1059 rfl ?_
    refine g_if_ne (tgt := 59) (pc' := 31) dX3_town_28 (by decide) rfl (fun h4 => ?_) (fun h4 => ?_)
    · replace hf := (if_neg h4).symm.trans hf
      obtain rfl := Option.some.inj hf
      exact kx
    · replace hf := (if_pos h4).symm.trans hf
      refine g_aload_n (pc' := 32) dX3_town_31 rfl rfl rfl ?_
      refine g_aload_n (pc' := 33) dX3_town_32 rfl rfl rfl ?_
      refine gt_get (k := 8) (pc' := 36) (by decide) dX3_town_33 rfl q1056 rfl ?_
      obtain ⟨q5, hq5, hf⟩ := Option.bind_eq_some_iff.mp hf
      refine g_callV (pc' := 39) (mx := mdX3_byteAt) (as := [.int (s.2.1 8)]) (wX3_byteAt g hA _ _ (s.2.1 8) hq5) oX3_byteAt ⟨Nat.le_of_ble_eq_true rfl, Nat.le_of_ble_eq_true rfl⟩ dX3_town_36 rfl (ci := 3) rfl tC ⟨by decide +kernel, by decide +kernel⟩ oX3_byteAt.2.2.2 rfl q1403 q1405 qs67 qs67 q1405 (Nat.le_of_ble_eq_true rfl) (Nat.le_of_ble_eq_true rfl) (g_rI ?_) g_nt rfl
      refine g_bipush (pc' := 41) (v := 59) dX3_town_39 rfl (by decide) ?_
      refine g_icmp_ne (tgt := 59) (pc' := 44) dX3_town_41 (by decide) rfl (fun h6 => ?_) (fun h6 => ?_)
      · replace hf := (if_neg h6).symm.trans hf
        obtain rfl := Option.some.inj hf
        exact kx
      · replace hf := (if_pos h6).symm.trans hf
        refine g_aload_n (pc' := 45) dX3_town_44 rfl rfl rfl ?_
        refine g_iconst (pc' := 46) (v := 1) dX3_town_45 rfl (by decide) ?_
        obtain ⟨q7, hq7, hf⟩ := Option.bind_eq_some_iff.mp hf
        refine g_callV (pc' := 49) (mx := mdX3_must) (as := [.int 1]) (wX3_must g hA _ _ 1 hq7) oX3_must ⟨Nat.le_of_ble_eq_true rfl, Nat.le_of_ble_eq_true rfl⟩ dX3_town_46 rfl (ci := 3) rfl tC ⟨by decide +kernel, by decide +kernel⟩ oX3_must.2.2.2 rfl q1441 q1443 qs72 qs72 q1443 (Nat.le_of_ble_eq_true rfl) (Nat.le_of_ble_eq_true rfl) (g_rV ?_) g_nt rfl
        refine g_aload_n (pc' := 50) dX3_town_49 rfl rfl rfl ?_
        obtain ⟨q8, hq8, hf⟩ := Option.bind_eq_some_iff.mp hf
        refine g_callV (pc' := 53) (mx := mdX3_item) (as := []) (wX3_item g hA _ _ hq8) oX3_item ⟨Nat.le_of_ble_eq_true rfl, Nat.le_of_ble_eq_true rfl⟩ dX3_town_50 rfl (ci := 3) rfl tC ⟨by decide +kernel, by decide +kernel⟩ oX3_item.2.2.2 rfl q1417 q1419 qs68 qs68 q1419 (Nat.le_of_ble_eq_true rfl) (Nat.le_of_ble_eq_true rfl) (g_rV ?_) g_nt rfl
        refine g_iinc (pc' := 56) (v := s.1 + 1) (L' := [some (.ref A.1), some (.int (s.1 + 1))]) dX3_town_53 rfl rfl rfl (Nat.le_of_ble_eq_true rfl) rfl rfl ?_
        refine g_goto (tgt := 24) dX3_town_56 (by decide) ?_
        exact ih _ r hf kx
set_option maxHeartbeats 4000000 in
theorem wX3_town (g : bGh) {A : tA} (hA : tO A) (w : bWl) (M : tM)  {r : (Int32 × tM)} (hf : fX3_town M  = some r) : bM g mdX3_town (tW A M w) [.ref A.1] (q_ (eI r.1) (tW A r.2 w)) := by
  unfold fX3_town at hf
  change bG _ _ 0 [some (.ref A.1)] []
  refine g_aload_n (pc' := 1) dX3_town_0 rfl rfl rfl ?_
  obtain ⟨q1, hq1, hf⟩ := Option.bind_eq_some_iff.mp hf
  refine g_callV (pc' := 4) (mx := mdX3_saves) (as := []) (wX3_saves g hA _ _ hq1) oX3_saves ⟨Nat.le_of_ble_eq_true rfl, Nat.le_of_ble_eq_true rfl⟩ dX3_town_1 rfl (ci := 3) rfl tC ⟨by decide +kernel, by decide +kernel⟩ oX3_saves.2.2.2 rfl q1395 q1397 qs65 qs65 q1397 (Nat.le_of_ble_eq_true rfl) (Nat.le_of_ble_eq_true rfl) (g_rV ?_) g_nt rfl
  refine g_aload_n (pc' := 5) dX3_town_4 rfl rfl rfl ?_
  refine g_iconst (pc' := 6) (v := 0) dX3_town_5 rfl (by decide) ?_
  refine gt_put (k := 11) (ty := .boolean) (pc' := 9) (by decide) rfl dX3_town_6 rfl q1059 (by decide +kernel) (by decide +kernel) (by decide +kernel) rfl ?_
  refine g_aload_n (pc' := 10) dX3_town_9 rfl rfl rfl ?_
  refine g_iconst (pc' := 11) (v := 0) dX3_town_10 rfl (by decide) ?_
  refine gt_put (k := 9) (ty := .int) (pc' := 14) (by decide) rfl dX3_town_11 rfl q1057 (by decide +kernel) rfl rfl rfl ?_
  refine g_aload_n (pc' := 15) dX3_town_14 rfl rfl rfl ?_
  obtain ⟨q2, hq2, hf⟩ := Option.bind_eq_some_iff.mp hf
  refine g_callV (pc' := 18) (mx := mdX3_token) (as := []) (wX3_token g hA _ _ hq2) oX3_token ⟨Nat.le_of_ble_eq_true rfl, Nat.le_of_ble_eq_true rfl⟩ dX3_town_15 rfl (ci := 3) rfl tC ⟨by decide +kernel, by decide +kernel⟩ oX3_token.2.2.2 rfl q1399 q1401 qs66 qs66 q1401 (Nat.le_of_ble_eq_true rfl) (Nat.le_of_ble_eq_true rfl) (g_rV ?_) g_nt rfl
  refine g_iconst (pc' := 19) (v := 1) dX3_town_18 rfl (by decide) ?_
  refine g_istore_n (pc' := 20) (L' := [some (.ref A.1), some (.int 1)]) dX3_town_19 rfl rfl (Nat.le_of_ble_eq_true rfl) rfl rfl ?_
  refine g_aload_n (pc' := 21) dX3_town_20 rfl rfl rfl ?_
  obtain ⟨q3, hq3, hf⟩ := Option.bind_eq_some_iff.mp hf
  refine g_callV (pc' := 24) (mx := mdX3_item) (as := []) (wX3_item g hA _ _ hq3) oX3_item ⟨Nat.le_of_ble_eq_true rfl, Nat.le_of_ble_eq_true rfl⟩ dX3_town_21 rfl (ci := 3) rfl tC ⟨by decide +kernel, by decide +kernel⟩ oX3_item.2.2.2 rfl q1417 q1419 qs68 qs68 q1419 (Nat.le_of_ble_eq_true rfl) (Nat.le_of_ble_eq_true rfl) (g_rV ?_) g_nt rfl
  obtain ⟨q9, hq9, hf⟩ := Option.bind_eq_some_iff.mp hf
  refine wX3_town_l24 hA FU (1, q3) q9 hq9 ?_
  refine g_aload_n (pc' := 60) dX3_town_59 rfl rfl rfl ?_
  refine g_aload_n (pc' := 61) dX3_town_60 rfl rfl rfl ?_
  refine gt_get (k := 11) (pc' := 64) (by decide) dX3_town_61 rfl q1059 rfl ?_
  obtain ⟨q10, hqq10, hf⟩ := Option.bind_eq_some_iff.mp hf
  have hJq10 : bG (g, mdX3_town, (tW A M w).2.1, (tW A M w).2.2.1, (q_ (eI r.1) (tW A r.2 w))) (tW A q9.2 w) 83 [some (.ref A.1), some (.int q9.1)] [.int q10, .ref A.1] := by
    obtain ⟨h13, hf⟩ := bz_spec hf
    refine gt_put (k := 11) (ty := .boolean) (pc' := 86) (by decide) rfl dX3_town_83 rfl q1059 (by decide +kernel) (bz_nar h13) (bz_fit h13) rfl ?_
    refine g_aload_n (pc' := 87) dX3_town_86 rfl rfl rfl ?_
    refine gt_get (k := 11) (pc' := 90) (by decide) dX3_town_87 rfl q1059 rfl ?_
    obtain ⟨q14, hqq14, hf⟩ := Option.bind_eq_some_iff.mp hf
    have hJq14 : bG (g, mdX3_town, (tW A M w).2.1, (tW A M w).2.2.1, (q_ (eI r.1) (tW A r.2 w))) (tW A q14 w) 97 [some (.ref A.1), some (.int q9.1)] [] := by
      refine g_aload_n (pc' := 98) dX3_town_97 rfl rfl rfl ?_
      refine g_iconst (pc' := 99) (v := 0) dX3_town_98 rfl (by decide) ?_
      refine gt_put (k := 7) (ty := .int) (pc' := 102) (by decide) rfl dX3_town_99 rfl q1055 (by decide +kernel) rfl rfl rfl ?_
      refine g_aload_n (pc' := 103) dX3_town_102 rfl rfl rfl ?_
      refine gt_get (k := 11) (pc' := 106) (by decide) dX3_town_103 rfl q1059 rfl ?_
      refine g_if_eq (tgt := 118) (pc' := 109) dX3_town_106 (by decide) rfl (fun h17 => ?_) (fun h17 => ?_)
      · replace hf := (if_pos h17).symm.trans hf
        refine g_iload_n (pc' := 119) dX3_town_118 rfl rfl rfl ?_
        obtain rfl := Option.some.inj hf
        exact g_iret dX3_town_119 rfl rfl ⟨rfl, rfl⟩
      · replace hf := (if_neg h17).symm.trans hf
        refine g_iconst (pc' := 110) (v := (-1)) dX3_town_109 rfl (by decide) ?_
        refine g_aload_n (pc' := 111) dX3_town_110 rfl rfl rfl ?_
        refine gt_get (k := 8) (pc' := 114) (by decide) dX3_town_111 rfl q1056 rfl ?_
        refine g_isub (pc' := 115) dX3_town_114 rfl ?_
        refine g_goto (tgt := 119) dX3_town_115 (by decide) ?_
        obtain rfl := Option.some.inj hf
        exact g_iret dX3_town_119 rfl rfl ⟨rfl, rfl⟩
    replace hf := hqq14
    refine g_if_eq (tgt := 97) (pc' := 93) dX3_town_90 (by decide) rfl (fun h15 => ?_) (fun h15 => ?_)
    · replace hf := (if_pos h15).symm.trans hf
      obtain rfl := Option.some.inj hf
      exact hJq14
    · replace hf := (if_neg h15).symm.trans hf
      refine g_aload_n (pc' := 94) dX3_town_93 rfl rfl rfl ?_
      obtain ⟨q16, hq16, hf⟩ := Option.bind_eq_some_iff.mp hf
      refine g_callV (pc' := 97) (mx := mdX3_putsBack) (as := []) (wX3_putsBack g hA _ _ hq16) oX3_putsBack ⟨Nat.le_of_ble_eq_true rfl, Nat.le_of_ble_eq_true rfl⟩ dX3_town_94 rfl (ci := 3) rfl tC ⟨by decide +kernel, by decide +kernel⟩ oX3_putsBack.2.2.2 rfl q1469 q1471 qs77 qs77 q1471 (Nat.le_of_ble_eq_true rfl) (Nat.le_of_ble_eq_true rfl) (g_rV ?_) g_nt rfl
      obtain rfl := Option.some.inj hf
      exact hJq14
  replace hf := hqq10
  refine g_if_ne (tgt := 78) (pc' := 67) dX3_town_64 (by decide) rfl (fun h11 => ?_) (fun h11 => ?_)
  · replace hf := (if_neg h11).symm.trans hf
    refine g_iconst (pc' := 79) (v := 1) dX3_town_78 rfl (by decide) ?_
    refine g_goto (tgt := 83) dX3_town_79 (by decide) ?_
    obtain rfl := Option.some.inj hf
    exact hJq10
  · replace hf := (if_pos h11).symm.trans hf
    refine g_aload_n (pc' := 68) dX3_town_67 rfl rfl rfl ?_
    refine gt_get (k := 8) (pc' := 71) (by decide) dX3_town_68 rfl q1056 rfl ?_
    refine g_aload_n (pc' := 72) dX3_town_71 rfl rfl rfl ?_
    refine gt_get (k := 7) (pc' := 75) (by decide) dX3_town_72 rfl q1055 rfl ?_
    refine g_icmp_ge (tgt := 82) (pc' := 78) dX3_town_75 (by decide) rfl (fun h12 => ?_) (fun h12 => ?_)
    · replace hf := (if_pos h12).symm.trans hf
      refine g_iconst (pc' := 83) (v := 0) dX3_town_82 rfl (by decide) ?_
      obtain rfl := Option.some.inj hf
      exact hJq10
    · replace hf := (if_neg h12).symm.trans hf
      refine g_iconst (pc' := 79) (v := 1) dX3_town_78 rfl (by decide) ?_
      refine g_goto (tgt := 83) dX3_town_79 (by decide) ?_
      obtain rfl := Option.some.inj hf
      exact hJq10
def mdX3_isOne : bMD := (yX3_isOne, cX3_isOne, 1, (some FieldType.boolean), [], 2, 37)
theorem oX3_isOne : bOkc mdX3_isOne 1 := ⟨by decide +kernel, ⟨by decide +kernel, by decide +kernel⟩, by decide +kernel, q1479⟩
def fX3_isOne (x0 : Int32) : Option Int32 :=
  Option.bind (fX3_in ((x0 : Int32).toInt64) 0 3) fun q1 =>
  bz q1 (some q1)
set_option maxHeartbeats 4000000 in
theorem wX3_isOne (g : bGh) (w : bWl) (x0 : Int32) {r : Int32} (hf : fX3_isOne x0 = some r) : bM g mdX3_isOne w [.int x0] (q_ (eI r) w) := by
  unfold fX3_isOne at hf
  change bG _ _ 0 [some (.int x0)] []
  refine g_iload_n (pc' := 1) dX3_isOne_0 rfl rfl rfl ?_
  refine g_i2l (pc' := 2) dX3_isOne_1 rfl ?_
  refine g_lconst (pc' := 3) (v := 0) dX3_isOne_2 rfl (by decide) ?_
  refine g_ldc2 (pc' := 6) dX3_isOne_3 rfl q1105 ?_
  obtain ⟨q1, hq1, hf⟩ := Option.bind_eq_some_iff.mp hf
  refine g_callS (pc' := 9) (as := [.long ((x0 : Int32).toInt64), .long 0, .long 3]) (wX3_in g _ ((x0 : Int32).toInt64) 0 3 hq1) oX3_in ⟨Nat.le_of_ble_eq_true rfl, Nat.le_of_ble_eq_true rfl⟩ dX3_isOne_6 rfl q1102 q1103 q86 (Nat.le_of_ble_eq_true rfl) (Nat.le_of_ble_eq_true rfl) (g_rI ?_) g_nt rfl
  obtain ⟨h2, hf⟩ := bz_spec hf
  obtain rfl := Option.some.inj hf
  exact g_iret dX3_isOne_9 rfl (bz_nar h2) ⟨rfl, rfl⟩
def mdX3_sheet : bMD := (yX3_sheet, cX3_sheet, 5, (some FieldType.int), [], 3, 57)
theorem oX3_sheet : bOkc mdX3_sheet 3 := ⟨by decide +kernel, ⟨by decide +kernel, by decide +kernel⟩, by decide +kernel, q1476⟩
def fX3_sheet_l86 (y1 : Int32) (rec : (Int32 × tM) → Option (Int32 × tM)) (s : Int32 × tM) : Option (Int32 × tM) :=
  (if 40 ≤ s.1 then
  some (s.1, s.2)
else
  Option.bind (wL s.2 14 ((40 * y1) + s.1) 0) fun w12 =>
  rec ((s.1 + 1), w12))
def fX3_sheet (M : tM) (x1 : Int32) (x2 : Int32) (x3 : Int32) : Option (Int32 × tM) :=
  Option.bind (fX3_isOne x1) fun q1 =>
  (if q1 = 0 then
  Option.bind (fX3_finds M (-1000000001)) fun q3 =>
  some (q3.1, q3.2)
else
  (if x2 = 0 then
  (if 0 ≤ x3 then
  (if x3 ≤ 40 then
  Option.bind (wA M 12 x1 x2) fun w7 =>
  Option.bind (α := Int32) ((if x2 = 0 then
  some 0
else
  some x3)) fun q8 =>
  Option.bind (wA w7 13 x1 q8) fun w10 =>
  Option.bind (lpF (fX3_sheet_l86 x1) FU (0, w10)) fun q13 =>
  Option.bind (rA q13.2 13 x1) fun v14 =>
  some (v14, q13.2)
else
  Option.bind (fX3_finds M (-1000000001)) fun q15 =>
  some (q15.1, q15.2))
else
  Option.bind (fX3_finds M (-1000000007)) fun q16 =>
  some (q16.1, q16.2))
else
  (if x2 = 8 then
  (if 0 ≤ x3 then
  (if x3 ≤ 40 then
  Option.bind (wA M 12 x1 x2) fun w20 =>
  Option.bind (α := Int32) ((if x2 = 0 then
  some 0
else
  some x3)) fun q21 =>
  Option.bind (wA w20 13 x1 q21) fun w23 =>
  Option.bind (lpF (fX3_sheet_l86 x1) FU (0, w23)) fun q26 =>
  Option.bind (rA q26.2 13 x1) fun v27 =>
  some (v27, q26.2)
else
  Option.bind (fX3_finds M (-1000000001)) fun q28 =>
  some (q28.1, q28.2))
else
  Option.bind (fX3_finds M (-1000000007)) fun q29 =>
  some (q29.1, q29.2))
else
  (if x2 = 16 then
  (if 0 ≤ x3 then
  (if x3 ≤ 40 then
  Option.bind (wA M 12 x1 x2) fun w33 =>
  Option.bind (α := Int32) ((if x2 = 0 then
  some 0
else
  some x3)) fun q34 =>
  Option.bind (wA w33 13 x1 q34) fun w36 =>
  Option.bind (lpF (fX3_sheet_l86 x1) FU (0, w36)) fun q39 =>
  Option.bind (rA q39.2 13 x1) fun v40 =>
  some (v40, q39.2)
else
  Option.bind (fX3_finds M (-1000000001)) fun q41 =>
  some (q41.1, q41.2))
else
  Option.bind (fX3_finds M (-1000000007)) fun q42 =>
  some (q42.1, q42.2))
else
  (if x2 = 64 then
  (if 0 ≤ x3 then
  (if x3 ≤ 40 then
  Option.bind (wA M 12 x1 x2) fun w46 =>
  Option.bind (α := Int32) ((if x2 = 0 then
  some 0
else
  some x3)) fun q47 =>
  Option.bind (wA w46 13 x1 q47) fun w49 =>
  Option.bind (lpF (fX3_sheet_l86 x1) FU (0, w49)) fun q52 =>
  Option.bind (rA q52.2 13 x1) fun v53 =>
  some (v53, q52.2)
else
  Option.bind (fX3_finds M (-1000000001)) fun q54 =>
  some (q54.1, q54.2))
else
  Option.bind (fX3_finds M (-1000000007)) fun q55 =>
  some (q55.1, q55.2))
else
  Option.bind (fX3_finds M (-1000000001)) fun q56 =>
  some (q56.1, q56.2))))))
set_option maxHeartbeats 4000000 in
theorem wX3_sheet_l86 {g : bGh} {A : tA} (hA : tO A) {w : bWl} {n0 u0 : Nat} {Q : Outcome → bWl → Prop} (y1 : Int32) : ∀ (n : Nat) (s : Int32 × tM) (r : (Int32 × tM)), lpF (fX3_sheet_l86 y1) n s = some r → bG (g, mdX3_sheet, n0, u0, Q) (tW A r.2 w) 112 [some (.ref A.1), some (.int y1), none, none, some (.int r.1)] [] → bG (g, mdX3_sheet, n0, u0, Q) (tW A s.2 w) 86 [some (.ref A.1), some (.int y1), none, none, some (.int s.1)] [] := by
  intro n
  induction n with
  | zero => intro s r hf; cases hf
  | succ n ih =>
    intro s r hf kx
    rw [lpF_s] at hf
    unfold fX3_sheet_l86 at hf
    refine g_iload (pc' := 88) dX3_sheet_86 rfl rfl ?_
    refine g_bipush (pc' := 90) (v := 40) dX3_sheet_88 rfl (by decide) ?_
    refine g_icmp_ge (tgt := 112) (pc' := 93) dX3_sheet_90 (by decide) rfl (fun h11 => ?_) (fun h11 => ?_)
    · replace hf := (if_pos h11).symm.trans hf
      obtain rfl := Option.some.inj hf
      exact kx
    · replace hf := (if_neg h11).symm.trans hf
      refine g_aload_n (pc' := 94) dX3_sheet_93 rfl rfl rfl ?_
      refine gt_get (k := 14) (pc' := 97) (by decide) dX3_sheet_94 rfl q1062 rfl ?_
      refine g_bipush (pc' := 99) (v := 40) dX3_sheet_97 rfl (by decide) ?_
      refine g_iload_n (pc' := 100) dX3_sheet_99 rfl rfl rfl ?_
      refine g_imul (pc' := 101) dX3_sheet_100 rfl ?_
      refine g_iload (pc' := 103) dX3_sheet_101 rfl rfl ?_
      refine g_iadd (pc' := 104) dX3_sheet_103 rfl ?_
      refine g_lconst (pc' := 105) (v := 0) dX3_sheet_104 rfl (by decide) ?_
      obtain ⟨w12, hw12, hf⟩ := Option.bind_eq_some_iff.mp hf
      refine gt_last (pc' := 106) hA (by decide) dX3_sheet_105 rfl hw12 ?_
      refine g_iinc (pc' := 109) (v := s.1 + 1) (L' := [some (.ref A.1), some (.int y1), none, none, some (.int (s.1 + 1))]) dX3_sheet_106 rfl rfl rfl (Nat.le_of_ble_eq_true rfl) rfl rfl ?_
      refine g_goto (tgt := 86) dX3_sheet_109 (by decide) ?_
      exact ih _ r hf kx
set_option maxHeartbeats 4000000 in
theorem wX3_sheet (g : bGh) {A : tA} (hA : tO A) (w : bWl) (M : tM) (x1 : Int32) (x2 : Int32) (x3 : Int32) {r : (Int32 × tM)} (hf : fX3_sheet M x1 x2 x3 = some r) : bM g mdX3_sheet (tW A M w) [.ref A.1, .int x1, .int x2, .int x3] (q_ (eI r.1) (tW A r.2 w)) := by
  unfold fX3_sheet at hf
  change bG _ _ 0 [some (.ref A.1), some (.int x1), some (.int x2), some (.int x3)] []
  refine g_iload_n (pc' := 1) dX3_sheet_0 rfl rfl rfl ?_
  obtain ⟨q1, hq1, hf⟩ := Option.bind_eq_some_iff.mp hf
  refine g_callS (pc' := 4) (as := [.int x1]) (wX3_isOne g _ x1 hq1) oX3_isOne ⟨Nat.le_of_ble_eq_true rfl, Nat.le_of_ble_eq_true rfl⟩ dX3_sheet_1 rfl q1477 q1478 q86 (Nat.le_of_ble_eq_true rfl) (Nat.le_of_ble_eq_true rfl) (g_rI ?_) g_nt rfl
  refine g_if_eq (tgt := 29) (pc' := 7) dX3_sheet_4 (by decide) rfl (fun h2 => ?_) (fun h2 => ?_)
  · replace hf := (if_pos h2).symm.trans hf
    refine g_aload_n (pc' := 30) dX3_sheet_29 rfl rfl rfl ?_
    refine g_ldc (pc' := 32) dX3_sheet_30 rfl q1116 ?_
    obtain ⟨q3, hq3, hf⟩ := Option.bind_eq_some_iff.mp hf
    refine g_callV (pc' := 35) (mx := mdX3_finds) (as := [.int (-1000000001)]) (wX3_finds g hA _ _ (-1000000001) hq3) oX3_finds ⟨Nat.le_of_ble_eq_true rfl, Nat.le_of_ble_eq_true rfl⟩ dX3_sheet_32 rfl (ci := 3) rfl tC ⟨by decide +kernel, by decide +kernel⟩ oX3_finds.2.2.2 rfl q1117 q1119 qs33 qs33 q1119 (Nat.le_of_ble_eq_true rfl) (Nat.le_of_ble_eq_true rfl) (g_rI ?_) g_nt rfl
    obtain rfl := Option.some.inj hf
    exact g_iret dX3_sheet_35 rfl rfl ⟨rfl, rfl⟩
  · replace hf := (if_neg h2).symm.trans hf
    refine g_iload_n (pc' := 8) dX3_sheet_7 rfl rfl rfl ?_
    refine g_if_eq (tgt := 36) (pc' := 11) dX3_sheet_8 (by decide) rfl (fun h4 => ?_) (fun h4 => ?_)
    · replace hf := (if_pos h4).symm.trans hf
      refine g_iload_n (pc' := 37) dX3_sheet_36 rfl rfl rfl ?_
      refine g_if_ge (tgt := 48) (pc' := 40) dX3_sheet_37 (by decide) rfl (fun h5 => ?_) (fun h5 => ?_)
      · replace hf := (if_pos h5).symm.trans hf
        refine g_iload_n (pc' := 49) dX3_sheet_48 rfl rfl rfl ?_
        refine g_bipush (pc' := 51) (v := 40) dX3_sheet_49 rfl (by decide) ?_
        refine g_icmp_le (tgt := 61) (pc' := 54) dX3_sheet_51 (by decide) rfl (fun h6 => ?_) (fun h6 => ?_)
        · replace hf := (if_pos h6).symm.trans hf
          refine g_aload_n (pc' := 62) dX3_sheet_61 rfl rfl rfl ?_
          refine gt_get (k := 12) (pc' := 65) (by decide) dX3_sheet_62 rfl q1060 rfl ?_
          refine g_iload_n (pc' := 66) dX3_sheet_65 rfl rfl rfl ?_
          refine g_iload_n (pc' := 67) dX3_sheet_66 rfl rfl rfl ?_
          obtain ⟨w7, hw7, hf⟩ := Option.bind_eq_some_iff.mp hf
          refine gt_iast (pc' := 68) hA (by decide) dX3_sheet_67 rfl hw7 ?_
          refine g_aload_n (pc' := 69) dX3_sheet_68 rfl rfl rfl ?_
          refine gt_get (k := 13) (pc' := 72) (by decide) dX3_sheet_69 rfl q1061 rfl ?_
          refine g_iload_n (pc' := 73) dX3_sheet_72 rfl rfl rfl ?_
          refine g_iload_n (pc' := 74) dX3_sheet_73 rfl rfl rfl ?_
          obtain ⟨q8, hqq8, hf⟩ := Option.bind_eq_some_iff.mp hf
          have hJq8 : bG (g, mdX3_sheet, (tW A M w).2.1, (tW A M w).2.2.1, (q_ (eI r.1) (tW A r.2 w))) (tW A w7 w) 82 [some (.ref A.1), some (.int x1), none, none] [.int q8, .int x1, .ref (A.2 13)] := by
            obtain ⟨w10, hw10, hf⟩ := Option.bind_eq_some_iff.mp hf
            refine gt_iast (pc' := 83) hA (by decide) dX3_sheet_82 rfl hw10 ?_
            refine g_iconst (pc' := 84) (v := 0) dX3_sheet_83 rfl (by decide) ?_
            refine g_istore (pc' := 86) (L' := [some (.ref A.1), some (.int x1), none, none, some (.int 0)]) dX3_sheet_84 rfl (Nat.le_of_ble_eq_true rfl) rfl rfl ?_
            obtain ⟨q13, hq13, hf⟩ := Option.bind_eq_some_iff.mp hf
            refine wX3_sheet_l86 hA x1 FU (0, w10) q13 hq13 ?_
            refine g_aload_n (pc' := 113) dX3_sheet_112 rfl rfl rfl ?_
            refine gt_get (k := 13) (pc' := 116) (by decide) dX3_sheet_113 rfl q1061 rfl ?_
            refine g_iload_n (pc' := 117) dX3_sheet_116 rfl rfl rfl ?_
            obtain ⟨v14, hv14, hf⟩ := Option.bind_eq_some_iff.mp hf
            refine gt_iald (pc' := 118) hA (by decide) dX3_sheet_117 rfl hv14 ?_
            obtain rfl := Option.some.inj hf
            exact g_iret dX3_sheet_118 rfl rfl ⟨rfl, rfl⟩
          replace hf := hqq8
          refine g_if_ne (tgt := 81) (pc' := 77) dX3_sheet_74 (by decide) rfl (fun h9 => ?_) (fun h9 => ?_)
          · replace hf := (if_neg h9).symm.trans hf
            refine g_iload_n (pc' := 82) dX3_sheet_81 rfl rfl rfl ?_
            obtain rfl := Option.some.inj hf
            refine g_drop [2, 3] (L' := [some (.ref A.1), some (.int x1), none, none]) rfl ?_
            exact hJq8
          · replace hf := (if_pos h9).symm.trans hf
            refine g_iconst (pc' := 78) (v := 0) dX3_sheet_77 rfl (by decide) ?_
            refine g_goto (tgt := 82) dX3_sheet_78 (by decide) ?_
            obtain rfl := Option.some.inj hf
            refine g_drop [2, 3] (L' := [some (.ref A.1), some (.int x1), none, none]) rfl ?_
            exact hJq8
        · replace hf := (if_neg h6).symm.trans hf
          refine g_aload_n (pc' := 55) dX3_sheet_54 rfl rfl rfl ?_
          refine g_ldc (pc' := 57) dX3_sheet_55 rfl q1116 ?_
          obtain ⟨q15, hq15, hf⟩ := Option.bind_eq_some_iff.mp hf
          refine g_callV (pc' := 60) (mx := mdX3_finds) (as := [.int (-1000000001)]) (wX3_finds g hA _ _ (-1000000001) hq15) oX3_finds ⟨Nat.le_of_ble_eq_true rfl, Nat.le_of_ble_eq_true rfl⟩ dX3_sheet_57 rfl (ci := 3) rfl tC ⟨by decide +kernel, by decide +kernel⟩ oX3_finds.2.2.2 rfl q1117 q1119 qs33 qs33 q1119 (Nat.le_of_ble_eq_true rfl) (Nat.le_of_ble_eq_true rfl) (g_rI ?_) g_nt rfl
          obtain rfl := Option.some.inj hf
          exact g_iret dX3_sheet_60 rfl rfl ⟨rfl, rfl⟩
      · replace hf := (if_neg h5).symm.trans hf
        refine g_aload_n (pc' := 41) dX3_sheet_40 rfl rfl rfl ?_
        refine g_ldcw (pc' := 44) dX3_sheet_41 rfl q1480 ?_
        obtain ⟨q16, hq16, hf⟩ := Option.bind_eq_some_iff.mp hf
        refine g_callV (pc' := 47) (mx := mdX3_finds) (as := [.int (-1000000007)]) (wX3_finds g hA _ _ (-1000000007) hq16) oX3_finds ⟨Nat.le_of_ble_eq_true rfl, Nat.le_of_ble_eq_true rfl⟩ dX3_sheet_44 rfl (ci := 3) rfl tC ⟨by decide +kernel, by decide +kernel⟩ oX3_finds.2.2.2 rfl q1117 q1119 qs33 qs33 q1119 (Nat.le_of_ble_eq_true rfl) (Nat.le_of_ble_eq_true rfl) (g_rI ?_) g_nt rfl
        obtain rfl := Option.some.inj hf
        exact g_iret dX3_sheet_47 rfl rfl ⟨rfl, rfl⟩
    · replace hf := (if_neg h4).symm.trans hf
      refine g_iload_n (pc' := 12) dX3_sheet_11 rfl rfl rfl ?_
      refine g_bipush (pc' := 14) (v := 8) dX3_sheet_12 rfl (by decide) ?_
      refine g_icmp_eq (tgt := 36) (pc' := 17) dX3_sheet_14 (by decide) rfl (fun h17 => ?_) (fun h17 => ?_)
      · replace hf := (if_pos h17).symm.trans hf
        refine g_iload_n (pc' := 37) dX3_sheet_36 rfl rfl rfl ?_
        refine g_if_ge (tgt := 48) (pc' := 40) dX3_sheet_37 (by decide) rfl (fun h18 => ?_) (fun h18 => ?_)
        · replace hf := (if_pos h18).symm.trans hf
          refine g_iload_n (pc' := 49) dX3_sheet_48 rfl rfl rfl ?_
          refine g_bipush (pc' := 51) (v := 40) dX3_sheet_49 rfl (by decide) ?_
          refine g_icmp_le (tgt := 61) (pc' := 54) dX3_sheet_51 (by decide) rfl (fun h19 => ?_) (fun h19 => ?_)
          · replace hf := (if_pos h19).symm.trans hf
            refine g_aload_n (pc' := 62) dX3_sheet_61 rfl rfl rfl ?_
            refine gt_get (k := 12) (pc' := 65) (by decide) dX3_sheet_62 rfl q1060 rfl ?_
            refine g_iload_n (pc' := 66) dX3_sheet_65 rfl rfl rfl ?_
            refine g_iload_n (pc' := 67) dX3_sheet_66 rfl rfl rfl ?_
            obtain ⟨w20, hw20, hf⟩ := Option.bind_eq_some_iff.mp hf
            refine gt_iast (pc' := 68) hA (by decide) dX3_sheet_67 rfl hw20 ?_
            refine g_aload_n (pc' := 69) dX3_sheet_68 rfl rfl rfl ?_
            refine gt_get (k := 13) (pc' := 72) (by decide) dX3_sheet_69 rfl q1061 rfl ?_
            refine g_iload_n (pc' := 73) dX3_sheet_72 rfl rfl rfl ?_
            refine g_iload_n (pc' := 74) dX3_sheet_73 rfl rfl rfl ?_
            obtain ⟨q21, hqq21, hf⟩ := Option.bind_eq_some_iff.mp hf
            have hJq21 : bG (g, mdX3_sheet, (tW A M w).2.1, (tW A M w).2.2.1, (q_ (eI r.1) (tW A r.2 w))) (tW A w20 w) 82 [some (.ref A.1), some (.int x1), none, none] [.int q21, .int x1, .ref (A.2 13)] := by
              obtain ⟨w23, hw23, hf⟩ := Option.bind_eq_some_iff.mp hf
              refine gt_iast (pc' := 83) hA (by decide) dX3_sheet_82 rfl hw23 ?_
              refine g_iconst (pc' := 84) (v := 0) dX3_sheet_83 rfl (by decide) ?_
              refine g_istore (pc' := 86) (L' := [some (.ref A.1), some (.int x1), none, none, some (.int 0)]) dX3_sheet_84 rfl (Nat.le_of_ble_eq_true rfl) rfl rfl ?_
              obtain ⟨q26, hq26, hf⟩ := Option.bind_eq_some_iff.mp hf
              refine wX3_sheet_l86 hA x1 FU (0, w23) q26 hq26 ?_
              refine g_aload_n (pc' := 113) dX3_sheet_112 rfl rfl rfl ?_
              refine gt_get (k := 13) (pc' := 116) (by decide) dX3_sheet_113 rfl q1061 rfl ?_
              refine g_iload_n (pc' := 117) dX3_sheet_116 rfl rfl rfl ?_
              obtain ⟨v27, hv27, hf⟩ := Option.bind_eq_some_iff.mp hf
              refine gt_iald (pc' := 118) hA (by decide) dX3_sheet_117 rfl hv27 ?_
              obtain rfl := Option.some.inj hf
              exact g_iret dX3_sheet_118 rfl rfl ⟨rfl, rfl⟩
            replace hf := hqq21
            refine g_if_ne (tgt := 81) (pc' := 77) dX3_sheet_74 (by decide) rfl (fun h22 => ?_) (fun h22 => ?_)
            · replace hf := (if_neg h22).symm.trans hf
              refine g_iload_n (pc' := 82) dX3_sheet_81 rfl rfl rfl ?_
              obtain rfl := Option.some.inj hf
              refine g_drop [2, 3] (L' := [some (.ref A.1), some (.int x1), none, none]) rfl ?_
              exact hJq21
            · replace hf := (if_pos h22).symm.trans hf
              refine g_iconst (pc' := 78) (v := 0) dX3_sheet_77 rfl (by decide) ?_
              refine g_goto (tgt := 82) dX3_sheet_78 (by decide) ?_
              obtain rfl := Option.some.inj hf
              refine g_drop [2, 3] (L' := [some (.ref A.1), some (.int x1), none, none]) rfl ?_
              exact hJq21
          · replace hf := (if_neg h19).symm.trans hf
            refine g_aload_n (pc' := 55) dX3_sheet_54 rfl rfl rfl ?_
            refine g_ldc (pc' := 57) dX3_sheet_55 rfl q1116 ?_
            obtain ⟨q28, hq28, hf⟩ := Option.bind_eq_some_iff.mp hf
            refine g_callV (pc' := 60) (mx := mdX3_finds) (as := [.int (-1000000001)]) (wX3_finds g hA _ _ (-1000000001) hq28) oX3_finds ⟨Nat.le_of_ble_eq_true rfl, Nat.le_of_ble_eq_true rfl⟩ dX3_sheet_57 rfl (ci := 3) rfl tC ⟨by decide +kernel, by decide +kernel⟩ oX3_finds.2.2.2 rfl q1117 q1119 qs33 qs33 q1119 (Nat.le_of_ble_eq_true rfl) (Nat.le_of_ble_eq_true rfl) (g_rI ?_) g_nt rfl
            obtain rfl := Option.some.inj hf
            exact g_iret dX3_sheet_60 rfl rfl ⟨rfl, rfl⟩
        · replace hf := (if_neg h18).symm.trans hf
          refine g_aload_n (pc' := 41) dX3_sheet_40 rfl rfl rfl ?_
          refine g_ldcw (pc' := 44) dX3_sheet_41 rfl q1480 ?_
          obtain ⟨q29, hq29, hf⟩ := Option.bind_eq_some_iff.mp hf
          refine g_callV (pc' := 47) (mx := mdX3_finds) (as := [.int (-1000000007)]) (wX3_finds g hA _ _ (-1000000007) hq29) oX3_finds ⟨Nat.le_of_ble_eq_true rfl, Nat.le_of_ble_eq_true rfl⟩ dX3_sheet_44 rfl (ci := 3) rfl tC ⟨by decide +kernel, by decide +kernel⟩ oX3_finds.2.2.2 rfl q1117 q1119 qs33 qs33 q1119 (Nat.le_of_ble_eq_true rfl) (Nat.le_of_ble_eq_true rfl) (g_rI ?_) g_nt rfl
          obtain rfl := Option.some.inj hf
          exact g_iret dX3_sheet_47 rfl rfl ⟨rfl, rfl⟩
      · replace hf := (if_neg h17).symm.trans hf
        refine g_iload_n (pc' := 18) dX3_sheet_17 rfl rfl rfl ?_
        refine g_bipush (pc' := 20) (v := 16) dX3_sheet_18 rfl (by decide) ?_
        refine g_icmp_eq (tgt := 36) (pc' := 23) dX3_sheet_20 (by decide) rfl (fun h30 => ?_) (fun h30 => ?_)
        · replace hf := (if_pos h30).symm.trans hf
          refine g_iload_n (pc' := 37) dX3_sheet_36 rfl rfl rfl ?_
          refine g_if_ge (tgt := 48) (pc' := 40) dX3_sheet_37 (by decide) rfl (fun h31 => ?_) (fun h31 => ?_)
          · replace hf := (if_pos h31).symm.trans hf
            refine g_iload_n (pc' := 49) dX3_sheet_48 rfl rfl rfl ?_
            refine g_bipush (pc' := 51) (v := 40) dX3_sheet_49 rfl (by decide) ?_
            refine g_icmp_le (tgt := 61) (pc' := 54) dX3_sheet_51 (by decide) rfl (fun h32 => ?_) (fun h32 => ?_)
            · replace hf := (if_pos h32).symm.trans hf
              refine g_aload_n (pc' := 62) dX3_sheet_61 rfl rfl rfl ?_
              refine gt_get (k := 12) (pc' := 65) (by decide) dX3_sheet_62 rfl q1060 rfl ?_
              refine g_iload_n (pc' := 66) dX3_sheet_65 rfl rfl rfl ?_
              refine g_iload_n (pc' := 67) dX3_sheet_66 rfl rfl rfl ?_
              obtain ⟨w33, hw33, hf⟩ := Option.bind_eq_some_iff.mp hf
              refine gt_iast (pc' := 68) hA (by decide) dX3_sheet_67 rfl hw33 ?_
              refine g_aload_n (pc' := 69) dX3_sheet_68 rfl rfl rfl ?_
              refine gt_get (k := 13) (pc' := 72) (by decide) dX3_sheet_69 rfl q1061 rfl ?_
              refine g_iload_n (pc' := 73) dX3_sheet_72 rfl rfl rfl ?_
              refine g_iload_n (pc' := 74) dX3_sheet_73 rfl rfl rfl ?_
              obtain ⟨q34, hqq34, hf⟩ := Option.bind_eq_some_iff.mp hf
              have hJq34 : bG (g, mdX3_sheet, (tW A M w).2.1, (tW A M w).2.2.1, (q_ (eI r.1) (tW A r.2 w))) (tW A w33 w) 82 [some (.ref A.1), some (.int x1), none, none] [.int q34, .int x1, .ref (A.2 13)] := by
                obtain ⟨w36, hw36, hf⟩ := Option.bind_eq_some_iff.mp hf
                refine gt_iast (pc' := 83) hA (by decide) dX3_sheet_82 rfl hw36 ?_
                refine g_iconst (pc' := 84) (v := 0) dX3_sheet_83 rfl (by decide) ?_
                refine g_istore (pc' := 86) (L' := [some (.ref A.1), some (.int x1), none, none, some (.int 0)]) dX3_sheet_84 rfl (Nat.le_of_ble_eq_true rfl) rfl rfl ?_
                obtain ⟨q39, hq39, hf⟩ := Option.bind_eq_some_iff.mp hf
                refine wX3_sheet_l86 hA x1 FU (0, w36) q39 hq39 ?_
                refine g_aload_n (pc' := 113) dX3_sheet_112 rfl rfl rfl ?_
                refine gt_get (k := 13) (pc' := 116) (by decide) dX3_sheet_113 rfl q1061 rfl ?_
                refine g_iload_n (pc' := 117) dX3_sheet_116 rfl rfl rfl ?_
                obtain ⟨v40, hv40, hf⟩ := Option.bind_eq_some_iff.mp hf
                refine gt_iald (pc' := 118) hA (by decide) dX3_sheet_117 rfl hv40 ?_
                obtain rfl := Option.some.inj hf
                exact g_iret dX3_sheet_118 rfl rfl ⟨rfl, rfl⟩
              replace hf := hqq34
              refine g_if_ne (tgt := 81) (pc' := 77) dX3_sheet_74 (by decide) rfl (fun h35 => ?_) (fun h35 => ?_)
              · replace hf := (if_neg h35).symm.trans hf
                refine g_iload_n (pc' := 82) dX3_sheet_81 rfl rfl rfl ?_
                obtain rfl := Option.some.inj hf
                refine g_drop [2, 3] (L' := [some (.ref A.1), some (.int x1), none, none]) rfl ?_
                exact hJq34
              · replace hf := (if_pos h35).symm.trans hf
                refine g_iconst (pc' := 78) (v := 0) dX3_sheet_77 rfl (by decide) ?_
                refine g_goto (tgt := 82) dX3_sheet_78 (by decide) ?_
                obtain rfl := Option.some.inj hf
                refine g_drop [2, 3] (L' := [some (.ref A.1), some (.int x1), none, none]) rfl ?_
                exact hJq34
            · replace hf := (if_neg h32).symm.trans hf
              refine g_aload_n (pc' := 55) dX3_sheet_54 rfl rfl rfl ?_
              refine g_ldc (pc' := 57) dX3_sheet_55 rfl q1116 ?_
              obtain ⟨q41, hq41, hf⟩ := Option.bind_eq_some_iff.mp hf
              refine g_callV (pc' := 60) (mx := mdX3_finds) (as := [.int (-1000000001)]) (wX3_finds g hA _ _ (-1000000001) hq41) oX3_finds ⟨Nat.le_of_ble_eq_true rfl, Nat.le_of_ble_eq_true rfl⟩ dX3_sheet_57 rfl (ci := 3) rfl tC ⟨by decide +kernel, by decide +kernel⟩ oX3_finds.2.2.2 rfl q1117 q1119 qs33 qs33 q1119 (Nat.le_of_ble_eq_true rfl) (Nat.le_of_ble_eq_true rfl) (g_rI ?_) g_nt rfl
              obtain rfl := Option.some.inj hf
              exact g_iret dX3_sheet_60 rfl rfl ⟨rfl, rfl⟩
          · replace hf := (if_neg h31).symm.trans hf
            refine g_aload_n (pc' := 41) dX3_sheet_40 rfl rfl rfl ?_
            refine g_ldcw (pc' := 44) dX3_sheet_41 rfl q1480 ?_
            obtain ⟨q42, hq42, hf⟩ := Option.bind_eq_some_iff.mp hf
            refine g_callV (pc' := 47) (mx := mdX3_finds) (as := [.int (-1000000007)]) (wX3_finds g hA _ _ (-1000000007) hq42) oX3_finds ⟨Nat.le_of_ble_eq_true rfl, Nat.le_of_ble_eq_true rfl⟩ dX3_sheet_44 rfl (ci := 3) rfl tC ⟨by decide +kernel, by decide +kernel⟩ oX3_finds.2.2.2 rfl q1117 q1119 qs33 qs33 q1119 (Nat.le_of_ble_eq_true rfl) (Nat.le_of_ble_eq_true rfl) (g_rI ?_) g_nt rfl
            obtain rfl := Option.some.inj hf
            exact g_iret dX3_sheet_47 rfl rfl ⟨rfl, rfl⟩
        · replace hf := (if_neg h30).symm.trans hf
          refine g_iload_n (pc' := 24) dX3_sheet_23 rfl rfl rfl ?_
          refine g_bipush (pc' := 26) (v := 64) dX3_sheet_24 rfl (by decide) ?_
          refine g_icmp_eq (tgt := 36) (pc' := 29) dX3_sheet_26 (by decide) rfl (fun h43 => ?_) (fun h43 => ?_)
          · replace hf := (if_pos h43).symm.trans hf
            refine g_iload_n (pc' := 37) dX3_sheet_36 rfl rfl rfl ?_
            refine g_if_ge (tgt := 48) (pc' := 40) dX3_sheet_37 (by decide) rfl (fun h44 => ?_) (fun h44 => ?_)
            · replace hf := (if_pos h44).symm.trans hf
              refine g_iload_n (pc' := 49) dX3_sheet_48 rfl rfl rfl ?_
              refine g_bipush (pc' := 51) (v := 40) dX3_sheet_49 rfl (by decide) ?_
              refine g_icmp_le (tgt := 61) (pc' := 54) dX3_sheet_51 (by decide) rfl (fun h45 => ?_) (fun h45 => ?_)
              · replace hf := (if_pos h45).symm.trans hf
                refine g_aload_n (pc' := 62) dX3_sheet_61 rfl rfl rfl ?_
                refine gt_get (k := 12) (pc' := 65) (by decide) dX3_sheet_62 rfl q1060 rfl ?_
                refine g_iload_n (pc' := 66) dX3_sheet_65 rfl rfl rfl ?_
                refine g_iload_n (pc' := 67) dX3_sheet_66 rfl rfl rfl ?_
                obtain ⟨w46, hw46, hf⟩ := Option.bind_eq_some_iff.mp hf
                refine gt_iast (pc' := 68) hA (by decide) dX3_sheet_67 rfl hw46 ?_
                refine g_aload_n (pc' := 69) dX3_sheet_68 rfl rfl rfl ?_
                refine gt_get (k := 13) (pc' := 72) (by decide) dX3_sheet_69 rfl q1061 rfl ?_
                refine g_iload_n (pc' := 73) dX3_sheet_72 rfl rfl rfl ?_
                refine g_iload_n (pc' := 74) dX3_sheet_73 rfl rfl rfl ?_
                obtain ⟨q47, hqq47, hf⟩ := Option.bind_eq_some_iff.mp hf
                have hJq47 : bG (g, mdX3_sheet, (tW A M w).2.1, (tW A M w).2.2.1, (q_ (eI r.1) (tW A r.2 w))) (tW A w46 w) 82 [some (.ref A.1), some (.int x1), none, none] [.int q47, .int x1, .ref (A.2 13)] := by
                  obtain ⟨w49, hw49, hf⟩ := Option.bind_eq_some_iff.mp hf
                  refine gt_iast (pc' := 83) hA (by decide) dX3_sheet_82 rfl hw49 ?_
                  refine g_iconst (pc' := 84) (v := 0) dX3_sheet_83 rfl (by decide) ?_
                  refine g_istore (pc' := 86) (L' := [some (.ref A.1), some (.int x1), none, none, some (.int 0)]) dX3_sheet_84 rfl (Nat.le_of_ble_eq_true rfl) rfl rfl ?_
                  obtain ⟨q52, hq52, hf⟩ := Option.bind_eq_some_iff.mp hf
                  refine wX3_sheet_l86 hA x1 FU (0, w49) q52 hq52 ?_
                  refine g_aload_n (pc' := 113) dX3_sheet_112 rfl rfl rfl ?_
                  refine gt_get (k := 13) (pc' := 116) (by decide) dX3_sheet_113 rfl q1061 rfl ?_
                  refine g_iload_n (pc' := 117) dX3_sheet_116 rfl rfl rfl ?_
                  obtain ⟨v53, hv53, hf⟩ := Option.bind_eq_some_iff.mp hf
                  refine gt_iald (pc' := 118) hA (by decide) dX3_sheet_117 rfl hv53 ?_
                  obtain rfl := Option.some.inj hf
                  exact g_iret dX3_sheet_118 rfl rfl ⟨rfl, rfl⟩
                replace hf := hqq47
                refine g_if_ne (tgt := 81) (pc' := 77) dX3_sheet_74 (by decide) rfl (fun h48 => ?_) (fun h48 => ?_)
                · replace hf := (if_neg h48).symm.trans hf
                  refine g_iload_n (pc' := 82) dX3_sheet_81 rfl rfl rfl ?_
                  obtain rfl := Option.some.inj hf
                  refine g_drop [2, 3] (L' := [some (.ref A.1), some (.int x1), none, none]) rfl ?_
                  exact hJq47
                · replace hf := (if_pos h48).symm.trans hf
                  refine g_iconst (pc' := 78) (v := 0) dX3_sheet_77 rfl (by decide) ?_
                  refine g_goto (tgt := 82) dX3_sheet_78 (by decide) ?_
                  obtain rfl := Option.some.inj hf
                  refine g_drop [2, 3] (L' := [some (.ref A.1), some (.int x1), none, none]) rfl ?_
                  exact hJq47
              · replace hf := (if_neg h45).symm.trans hf
                refine g_aload_n (pc' := 55) dX3_sheet_54 rfl rfl rfl ?_
                refine g_ldc (pc' := 57) dX3_sheet_55 rfl q1116 ?_
                obtain ⟨q54, hq54, hf⟩ := Option.bind_eq_some_iff.mp hf
                refine g_callV (pc' := 60) (mx := mdX3_finds) (as := [.int (-1000000001)]) (wX3_finds g hA _ _ (-1000000001) hq54) oX3_finds ⟨Nat.le_of_ble_eq_true rfl, Nat.le_of_ble_eq_true rfl⟩ dX3_sheet_57 rfl (ci := 3) rfl tC ⟨by decide +kernel, by decide +kernel⟩ oX3_finds.2.2.2 rfl q1117 q1119 qs33 qs33 q1119 (Nat.le_of_ble_eq_true rfl) (Nat.le_of_ble_eq_true rfl) (g_rI ?_) g_nt rfl
                obtain rfl := Option.some.inj hf
                exact g_iret dX3_sheet_60 rfl rfl ⟨rfl, rfl⟩
            · replace hf := (if_neg h44).symm.trans hf
              refine g_aload_n (pc' := 41) dX3_sheet_40 rfl rfl rfl ?_
              refine g_ldcw (pc' := 44) dX3_sheet_41 rfl q1480 ?_
              obtain ⟨q55, hq55, hf⟩ := Option.bind_eq_some_iff.mp hf
              refine g_callV (pc' := 47) (mx := mdX3_finds) (as := [.int (-1000000007)]) (wX3_finds g hA _ _ (-1000000007) hq55) oX3_finds ⟨Nat.le_of_ble_eq_true rfl, Nat.le_of_ble_eq_true rfl⟩ dX3_sheet_44 rfl (ci := 3) rfl tC ⟨by decide +kernel, by decide +kernel⟩ oX3_finds.2.2.2 rfl q1117 q1119 qs33 qs33 q1119 (Nat.le_of_ble_eq_true rfl) (Nat.le_of_ble_eq_true rfl) (g_rI ?_) g_nt rfl
              obtain rfl := Option.some.inj hf
              exact g_iret dX3_sheet_47 rfl rfl ⟨rfl, rfl⟩
          · replace hf := (if_neg h43).symm.trans hf
            refine g_aload_n (pc' := 30) dX3_sheet_29 rfl rfl rfl ?_
            refine g_ldc (pc' := 32) dX3_sheet_30 rfl q1116 ?_
            obtain ⟨q56, hq56, hf⟩ := Option.bind_eq_some_iff.mp hf
            refine g_callV (pc' := 35) (mx := mdX3_finds) (as := [.int (-1000000001)]) (wX3_finds g hA _ _ (-1000000001) hq56) oX3_finds ⟨Nat.le_of_ble_eq_true rfl, Nat.le_of_ble_eq_true rfl⟩ dX3_sheet_32 rfl (ci := 3) rfl tC ⟨by decide +kernel, by decide +kernel⟩ oX3_finds.2.2.2 rfl q1117 q1119 qs33 qs33 q1119 (Nat.le_of_ble_eq_true rfl) (Nat.le_of_ble_eq_true rfl) (g_rI ?_) g_nt rfl
            obtain rfl := Option.some.inj hf
            exact g_iret dX3_sheet_35 rfl rfl ⟨rfl, rfl⟩
def mdX3_wrongSheet : bMD := (yX3_wrongSheet, cX3_wrongSheet, 2, (some FieldType.int), [], 3, 57)
theorem oX3_wrongSheet : bOkc mdX3_wrongSheet 1 := ⟨by decide +kernel, ⟨by decide +kernel, by decide +kernel⟩, by decide +kernel, q1488⟩
def fX3_wrongSheet (M : tM) (x1 : Int32) : Option Int32 :=
  Option.bind (fX3_isOne x1) fun q1 =>
  (if q1 = 0 then
  some (-1000000001)
else
  Option.bind (rA M 12 x1) fun v3 =>
  (if v3 = 0 then
  some (-1000000006)
else
  some 0))
set_option maxHeartbeats 4000000 in
theorem wX3_wrongSheet (g : bGh) {A : tA} (hA : tO A) (w : bWl) (M : tM) (x1 : Int32) {r : Int32} (hf : fX3_wrongSheet M x1 = some r) : bM g mdX3_wrongSheet (tW A M w) [.ref A.1, .int x1] (q_ (eI r) (tW A M w)) := by
  unfold fX3_wrongSheet at hf
  change bG _ _ 0 [some (.ref A.1), some (.int x1)] []
  refine g_iload_n (pc' := 1) dX3_wrongSheet_0 rfl rfl rfl ?_
  obtain ⟨q1, hq1, hf⟩ := Option.bind_eq_some_iff.mp hf
  refine g_callS (pc' := 4) (as := [.int x1]) (wX3_isOne g _ x1 hq1) oX3_isOne ⟨Nat.le_of_ble_eq_true rfl, Nat.le_of_ble_eq_true rfl⟩ dX3_wrongSheet_1 rfl q1477 q1478 q86 (Nat.le_of_ble_eq_true rfl) (Nat.le_of_ble_eq_true rfl) (g_rI ?_) g_nt rfl
  refine g_if_ne (tgt := 12) (pc' := 7) dX3_wrongSheet_4 (by decide) rfl (fun h2 => ?_) (fun h2 => ?_)
  · replace hf := (if_neg h2).symm.trans hf
    refine g_aload_n (pc' := 13) dX3_wrongSheet_12 rfl rfl rfl ?_
    refine gt_get (k := 12) (pc' := 16) (by decide) dX3_wrongSheet_13 rfl q1060 rfl ?_
    refine g_iload_n (pc' := 17) dX3_wrongSheet_16 rfl rfl rfl ?_
    obtain ⟨v3, hv3, hf⟩ := Option.bind_eq_some_iff.mp hf
    refine gt_iald (pc' := 18) hA (by decide) dX3_wrongSheet_17 rfl hv3 ?_
    refine g_if_ne (tgt := 27) (pc' := 21) dX3_wrongSheet_18 (by decide) rfl (fun h4 => ?_) (fun h4 => ?_)
    · replace hf := (if_neg h4).symm.trans hf
      refine g_iconst (pc' := 28) (v := 0) dX3_wrongSheet_27 rfl (by decide) ?_
      obtain rfl := Option.some.inj hf
      exact g_iret dX3_wrongSheet_28 rfl rfl ⟨rfl, rfl⟩
    · replace hf := (if_pos h4).symm.trans hf
      refine g_ldcw (pc' := 24) dX3_wrongSheet_21 rfl q1489 ?_
      refine g_goto (tgt := 28) dX3_wrongSheet_24 (by decide) ?_
      obtain rfl := Option.some.inj hf
      exact g_iret dX3_wrongSheet_28 rfl rfl ⟨rfl, rfl⟩
  · replace hf := (if_pos h2).symm.trans hf
    refine g_ldc (pc' := 9) dX3_wrongSheet_7 rfl q1116 ?_
    refine g_goto (tgt := 28) dX3_wrongSheet_9 (by decide) ?_
    obtain rfl := Option.some.inj hf
    exact g_iret dX3_wrongSheet_28 rfl rfl ⟨rfl, rfl⟩
def mdX3_narrowed : bMD := (yX3_narrowed, cX3_narrowed, 3, (some FieldType.long), [], 1, 12)
theorem oX3_narrowed : bOkc mdX3_narrowed 2 := ⟨by decide +kernel, ⟨by decide +kernel, by decide +kernel⟩, by decide +kernel, q1492⟩
def fX3_narrowed (x0 : Int32) (x1 : Int64) : Option Int64 :=
  (if x0 = 8 then
  some ((((((x1 : Int64).toInt32) : Int32).toInt8.toInt32) : Int32).toInt64)
else
  (if x0 = 16 then
  some ((((((x1 : Int64).toInt32) : Int32).toInt16.toInt32) : Int32).toInt64)
else
  some x1))
set_option maxHeartbeats 4000000 in
theorem wX3_narrowed (g : bGh) (w : bWl) (x0 : Int32) (x1 : Int64) {r : Int64} (hf : fX3_narrowed x0 x1 = some r) : bM g mdX3_narrowed w [.int x0, .long x1] (q_ (eJ r) w) := by
  unfold fX3_narrowed at hf
  change bG _ _ 0 [some (.int x0), some (.long x1), none] []
  refine g_iload_n (pc' := 1) dX3_narrowed_0 rfl rfl rfl ?_
  refine g_bipush (pc' := 3) (v := 8) dX3_narrowed_1 rfl (by decide) ?_
  refine g_icmp_ne (tgt := 13) (pc' := 6) dX3_narrowed_3 (by decide) rfl (fun h1 => ?_) (fun h1 => ?_)
  · replace hf := (if_neg h1).symm.trans hf
    refine g_iload_n (pc' := 14) dX3_narrowed_13 rfl rfl rfl ?_
    refine g_bipush (pc' := 16) (v := 16) dX3_narrowed_14 rfl (by decide) ?_
    refine g_icmp_ne (tgt := 26) (pc' := 19) dX3_narrowed_16 (by decide) rfl (fun h2 => ?_) (fun h2 => ?_)
    · replace hf := (if_neg h2).symm.trans hf
      refine g_lload_n (pc' := 27) dX3_narrowed_26 rfl rfl rfl ?_
      obtain rfl := Option.some.inj hf
      exact g_lret dX3_narrowed_27 rfl ⟨rfl, rfl⟩
    · replace hf := (if_pos h2).symm.trans hf
      refine g_lload_n (pc' := 20) dX3_narrowed_19 rfl rfl rfl ?_
      refine g_l2i (pc' := 21) dX3_narrowed_20 rfl ?_
      refine g_i2s (pc' := 22) dX3_narrowed_21 rfl ?_
      refine g_i2l (pc' := 23) dX3_narrowed_22 rfl ?_
      refine g_goto (tgt := 27) dX3_narrowed_23 (by decide) ?_
      obtain rfl := Option.some.inj hf
      exact g_lret dX3_narrowed_27 rfl ⟨rfl, rfl⟩
  · replace hf := (if_pos h1).symm.trans hf
    refine g_lload_n (pc' := 7) dX3_narrowed_6 rfl rfl rfl ?_
    refine g_l2i (pc' := 8) dX3_narrowed_7 rfl ?_
    refine g_i2b (pc' := 9) dX3_narrowed_8 rfl ?_
    refine g_i2l (pc' := 10) dX3_narrowed_9 rfl ?_
    refine g_goto (tgt := 27) dX3_narrowed_10 (by decide) ?_
    obtain rfl := Option.some.inj hf
    exact g_lret dX3_narrowed_27 rfl ⟨rfl, rfl⟩
def mdX3_write : bMD := (yX3_write, cX3_write, 8, (some FieldType.long), [], 4, 78)
theorem oX3_write : bOkc mdX3_write 3 := ⟨by decide +kernel, ⟨by decide +kernel, by decide +kernel⟩, by decide +kernel, q1484⟩
def fX3_write (M : tM) (x1 : Int32) (x2 : Int32) (x3 : Int64) : Option (Int64 × tM) :=
  Option.bind (fX3_wrongSheet M x1) fun q1 =>
  (if q1 = 0 then
  Option.bind (rA M 13 x1) fun v3 =>
  Option.bind (fX3_in ((x2 : Int32).toInt64) 0 (((v3 - 1) : Int32).toInt64)) fun q4 =>
  (if q4 = 0 then
  Option.bind (fX3_finds M (-1000000001)) fun q10 =>
  some ((q10.1 : Int32).toInt64, q10.2)
else
  Option.bind (rL M 14 ((40 * x1) + x2)) fun v6 =>
  Option.bind (rA M 12 x1) fun v7 =>
  Option.bind (fX3_narrowed v7 x3) fun q8 =>
  Option.bind (wL M 14 ((40 * x1) + x2) q8) fun w9 =>
  some (v6, w9))
else
  Option.bind (fX3_finds M q1) fun q11 =>
  some ((q11.1 : Int32).toInt64, q11.2))
set_option maxHeartbeats 4000000 in
theorem wX3_write (g : bGh) {A : tA} (hA : tO A) (w : bWl) (M : tM) (x1 : Int32) (x2 : Int32) (x3 : Int64) {r : (Int64 × tM)} (hf : fX3_write M x1 x2 x3 = some r) : bM g mdX3_write (tW A M w) [.ref A.1, .int x1, .int x2, .long x3] (q_ (eJ r.1) (tW A r.2 w)) := by
  unfold fX3_write at hf
  change bG _ _ 0 [some (.ref A.1), some (.int x1), some (.int x2), some (.long x3), none] []
  refine g_aload_n (pc' := 1) dX3_write_0 rfl rfl rfl ?_
  refine g_iload_n (pc' := 2) dX3_write_1 rfl rfl rfl ?_
  obtain ⟨q1, hq1, hf⟩ := Option.bind_eq_some_iff.mp hf
  refine g_callV (pc' := 5) (mx := mdX3_wrongSheet) (as := [.int x1]) (wX3_wrongSheet g hA _ _ x1 hq1) oX3_wrongSheet ⟨Nat.le_of_ble_eq_true rfl, Nat.le_of_ble_eq_true rfl⟩ dX3_write_2 rfl (ci := 3) rfl tC ⟨by decide +kernel, by decide +kernel⟩ oX3_wrongSheet.2.2.2 rfl q1485 q1487 qs78 qs78 q1487 (Nat.le_of_ble_eq_true rfl) (Nat.le_of_ble_eq_true rfl) (g_rI ?_) g_nt rfl
  refine g_istore (pc' := 7) (L' := [some (.ref A.1), some (.int x1), some (.int x2), some (.long x3), none, some (.int q1)]) dX3_write_5 rfl (Nat.le_of_ble_eq_true rfl) rfl rfl ?_
  refine g_iload (pc' := 9) dX3_write_7 rfl rfl ?_
  refine g_if_eq (tgt := 20) (pc' := 12) dX3_write_9 (by decide) rfl (fun h2 => ?_) (fun h2 => ?_)
  · replace hf := (if_pos h2).symm.trans hf
    refine g_iload_n (pc' := 21) dX3_write_20 rfl rfl rfl ?_
    refine g_i2l (pc' := 22) dX3_write_21 rfl ?_
    refine g_lconst (pc' := 23) (v := 0) dX3_write_22 rfl (by decide) ?_
    refine g_aload_n (pc' := 24) dX3_write_23 rfl rfl rfl ?_
    refine gt_get (k := 13) (pc' := 27) (by decide) dX3_write_24 rfl q1061 rfl ?_
    refine g_iload_n (pc' := 28) dX3_write_27 rfl rfl rfl ?_
    obtain ⟨v3, hv3, hf⟩ := Option.bind_eq_some_iff.mp hf
    refine gt_iald (pc' := 29) hA (by decide) dX3_write_28 rfl hv3 ?_
    refine g_iconst (pc' := 30) (v := 1) dX3_write_29 rfl (by decide) ?_
    refine g_isub (pc' := 31) dX3_write_30 rfl ?_
    refine g_i2l (pc' := 32) dX3_write_31 rfl ?_
    obtain ⟨q4, hq4, hf⟩ := Option.bind_eq_some_iff.mp hf
    refine g_callS (pc' := 35) (as := [.long ((x2 : Int32).toInt64), .long 0, .long (((v3 - 1) : Int32).toInt64)]) (wX3_in g _ ((x2 : Int32).toInt64) 0 (((v3 - 1) : Int32).toInt64) hq4) oX3_in ⟨Nat.le_of_ble_eq_true rfl, Nat.le_of_ble_eq_true rfl⟩ dX3_write_32 rfl q1102 q1103 q86 (Nat.le_of_ble_eq_true rfl) (Nat.le_of_ble_eq_true rfl) (g_rI ?_) g_nt rfl
    refine g_if_ne (tgt := 46) (pc' := 38) dX3_write_35 (by decide) rfl (fun h5 => ?_) (fun h5 => ?_)
    · replace hf := (if_neg h5).symm.trans hf
      refine g_aload_n (pc' := 47) dX3_write_46 rfl rfl rfl ?_
      refine gt_get (k := 14) (pc' := 50) (by decide) dX3_write_47 rfl q1062 rfl ?_
      refine g_bipush (pc' := 52) (v := 40) dX3_write_50 rfl (by decide) ?_
      refine g_iload_n (pc' := 53) dX3_write_52 rfl rfl rfl ?_
      refine g_imul (pc' := 54) dX3_write_53 rfl ?_
      refine g_iload_n (pc' := 55) dX3_write_54 rfl rfl rfl ?_
      refine g_iadd (pc' := 56) dX3_write_55 rfl ?_
      obtain ⟨v6, hv6, hf⟩ := Option.bind_eq_some_iff.mp hf
      refine gt_lald (pc' := 57) hA (by decide) dX3_write_56 rfl hv6 ?_
      refine g_lstore (pc' := 59) (L' := [some (.ref A.1), some (.int x1), some (.int x2), some (.long x3), none, some (.int q1), some (.long v6), none]) dX3_write_57 rfl (Nat.le_of_ble_eq_true rfl) rfl rfl ?_
      refine g_aload_n (pc' := 60) dX3_write_59 rfl rfl rfl ?_
      refine gt_get (k := 14) (pc' := 63) (by decide) dX3_write_60 rfl q1062 rfl ?_
      refine g_bipush (pc' := 65) (v := 40) dX3_write_63 rfl (by decide) ?_
      refine g_iload_n (pc' := 66) dX3_write_65 rfl rfl rfl ?_
      refine g_imul (pc' := 67) dX3_write_66 rfl ?_
      refine g_iload_n (pc' := 68) dX3_write_67 rfl rfl rfl ?_
      refine g_iadd (pc' := 69) dX3_write_68 rfl ?_
      refine g_aload_n (pc' := 70) dX3_write_69 rfl rfl rfl ?_
      refine gt_get (k := 12) (pc' := 73) (by decide) dX3_write_70 rfl q1060 rfl ?_
      refine g_iload_n (pc' := 74) dX3_write_73 rfl rfl rfl ?_
      obtain ⟨v7, hv7, hf⟩ := Option.bind_eq_some_iff.mp hf
      refine gt_iald (pc' := 75) hA (by decide) dX3_write_74 rfl hv7 ?_
      refine g_lload_n (pc' := 76) dX3_write_75 rfl rfl rfl ?_
      obtain ⟨q8, hq8, hf⟩ := Option.bind_eq_some_iff.mp hf
      refine g_callS (pc' := 79) (as := [.int v7, .long x3]) (wX3_narrowed g _ v7 x3 hq8) oX3_narrowed ⟨Nat.le_of_ble_eq_true rfl, Nat.le_of_ble_eq_true rfl⟩ dX3_write_76 rfl q1490 q1491 q86 (Nat.le_of_ble_eq_true rfl) (Nat.le_of_ble_eq_true rfl) (g_rJ ?_) g_nt rfl
      obtain ⟨w9, hw9, hf⟩ := Option.bind_eq_some_iff.mp hf
      refine gt_last (pc' := 80) hA (by decide) dX3_write_79 rfl hw9 ?_
      refine g_lload (pc' := 82) dX3_write_80 rfl rfl ?_
      obtain rfl := Option.some.inj hf
      exact g_lret dX3_write_82 rfl ⟨rfl, rfl⟩
    · replace hf := (if_pos h5).symm.trans hf
      refine g_aload_n (pc' := 39) dX3_write_38 rfl rfl rfl ?_
      refine g_ldc (pc' := 41) dX3_write_39 rfl q1116 ?_
      obtain ⟨q10, hq10, hf⟩ := Option.bind_eq_some_iff.mp hf
      refine g_callV (pc' := 44) (mx := mdX3_finds) (as := [.int (-1000000001)]) (wX3_finds g hA _ _ (-1000000001) hq10) oX3_finds ⟨Nat.le_of_ble_eq_true rfl, Nat.le_of_ble_eq_true rfl⟩ dX3_write_41 rfl (ci := 3) rfl tC ⟨by decide +kernel, by decide +kernel⟩ oX3_finds.2.2.2 rfl q1117 q1119 qs33 qs33 q1119 (Nat.le_of_ble_eq_true rfl) (Nat.le_of_ble_eq_true rfl) (g_rI ?_) g_nt rfl
      refine g_i2l (pc' := 45) dX3_write_44 rfl ?_
      obtain rfl := Option.some.inj hf
      exact g_lret dX3_write_45 rfl ⟨rfl, rfl⟩
  · replace hf := (if_neg h2).symm.trans hf
    refine g_aload_n (pc' := 13) dX3_write_12 rfl rfl rfl ?_
    refine g_iload (pc' := 15) dX3_write_13 rfl rfl ?_
    obtain ⟨q11, hq11, hf⟩ := Option.bind_eq_some_iff.mp hf
    refine g_callV (pc' := 18) (mx := mdX3_finds) (as := [.int q1]) (wX3_finds g hA _ _ q1 hq11) oX3_finds ⟨Nat.le_of_ble_eq_true rfl, Nat.le_of_ble_eq_true rfl⟩ dX3_write_15 rfl (ci := 3) rfl tC ⟨by decide +kernel, by decide +kernel⟩ oX3_finds.2.2.2 rfl q1117 q1119 qs33 qs33 q1119 (Nat.le_of_ble_eq_true rfl) (Nat.le_of_ble_eq_true rfl) (g_rI ?_) g_nt rfl
    refine g_i2l (pc' := 19) dX3_write_18 rfl ?_
    obtain rfl := Option.some.inj hf
    exact g_lret dX3_write_19 rfl ⟨rfl, rfl⟩
def mdX3_copy : bMD := (yX3_copy, cX3_copy, 7, (some FieldType.int), [], 3, 57)
theorem oX3_copy : bOkc mdX3_copy 5 := ⟨by decide +kernel, ⟨by decide +kernel, by decide +kernel⟩, by decide +kernel, q1496⟩
def fX3_copy_l120 (y1 : Int32) (y2 : Int32) (y3 : Int32) (y4 : Int32) (y5 : Int32) (rec : (Int32 × tM) → Option (Int32 × tM)) (s : Int32 × tM) : Option (Int32 × tM) :=
  (if y5 ≤ s.1 then
  some (s.1, s.2)
else
  Option.bind (rL s.2 14 (((40 * y1) + y2) + s.1)) fun v26 =>
  Option.bind (wL s.2 15 s.1 v26) fun w27 =>
  rec ((s.1 + 1), w27))
def fX3_copy_l157 (y3 : Int32) (y4 : Int32) (y5 : Int32) (rec : (Int32 × tM) → Option (Int32 × tM)) (s : Int32 × tM) : Option (Int32 × tM) :=
  (if y5 ≤ s.1 then
  some (s.1, s.2)
else
  Option.bind (rL s.2 15 s.1) fun v30 =>
  Option.bind (wL s.2 14 (((40 * y3) + y4) + s.1) v30) fun w31 =>
  rec ((s.1 + 1), w31))
def fX3_copy (M : tM) (x1 : Int32) (x2 : Int32) (x3 : Int32) (x4 : Int32) (x5 : Int32) : Option (Int32 × tM) :=
  Option.bind (fX3_isOne x1) fun q1 =>
  (if q1 = 0 then
  Option.bind (fX3_finds M (-1000000001)) fun q3 =>
  some (q3.1, q3.2)
else
  Option.bind (fX3_isOne x3) fun q4 =>
  (if q4 = 0 then
  Option.bind (fX3_finds M (-1000000001)) fun q36 =>
  some (q36.1, q36.2)
else
  Option.bind (rA M 12 x1) fun v6 =>
  (if v6 = 0 then
  Option.bind (fX3_finds M (-1000000006)) fun q8 =>
  some (q8.1, q8.2)
else
  Option.bind (rA M 12 x3) fun v9 =>
  (if v9 = 0 then
  Option.bind (fX3_finds M (-1000000006)) fun q35 =>
  some (q35.1, q35.2)
else
  Option.bind (rA M 12 x1) fun v11 =>
  Option.bind (rA M 12 x3) fun v12 =>
  (if v11 = v12 then
  (if x2 < 0 then
  Option.bind (fX3_finds M (-1000000001)) fun q15 =>
  some (q15.1, q15.2)
else
  (if x4 < 0 then
  Option.bind (fX3_finds M (-1000000001)) fun q17 =>
  some (q17.1, q17.2)
else
  (if x5 < 0 then
  Option.bind (fX3_finds M (-1000000001)) fun q19 =>
  some (q19.1, q19.2)
else
  Option.bind (rA M 13 x1) fun v20 =>
  (if (v20 - x2) < x5 then
  Option.bind (fX3_finds M (-1000000001)) fun q22 =>
  some (q22.1, q22.2)
else
  Option.bind (rA M 13 x3) fun v23 =>
  (if x5 ≤ (v23 - x4) then
  Option.bind (lpF (fX3_copy_l120 x1 x2 x3 x4 x5) FU (0, M)) fun q28 =>
  Option.bind (lpF (fX3_copy_l157 x3 x4 x5) FU (0, q28.2)) fun q32 =>
  some (x5, q32.2)
else
  Option.bind (fX3_finds M (-1000000001)) fun q33 =>
  some (q33.1, q33.2))))))
else
  Option.bind (fX3_finds M (-1000000003)) fun q34 =>
  some (q34.1, q34.2))))))
set_option maxHeartbeats 4000000 in
theorem wX3_copy_l120 {g : bGh} {A : tA} (hA : tO A) {w : bWl} {n0 u0 : Nat} {Q : Outcome → bWl → Prop} (y1 : Int32) (y2 : Int32) (y3 : Int32) (y4 : Int32) (y5 : Int32) : ∀ (n : Nat) (s : Int32 × tM) (r : (Int32 × tM)), lpF (fX3_copy_l120 y1 y2 y3 y4 y5) n s = some r → bG (g, mdX3_copy, n0, u0, Q) (tW A r.2 w) 154 [some (.ref A.1), some (.int y1), some (.int y2), some (.int y3), some (.int y4), some (.int y5), some (.int r.1)] [] → bG (g, mdX3_copy, n0, u0, Q) (tW A s.2 w) 120 [some (.ref A.1), some (.int y1), some (.int y2), some (.int y3), some (.int y4), some (.int y5), some (.int s.1)] [] := by
  intro n
  induction n with
  | zero => intro s r hf; cases hf
  | succ n ih =>
    intro s r hf kx
    rw [lpF_s] at hf
    unfold fX3_copy_l120 at hf
    refine g_iload (pc' := 122) dX3_copy_120 rfl rfl ?_
    refine g_iload (pc' := 124) dX3_copy_122 rfl rfl ?_
    refine g_icmp_ge (tgt := 154) (pc' := 127) dX3_copy_124 (by decide) rfl (fun h25 => ?_) (fun h25 => ?_)
    · replace hf := (if_pos h25).symm.trans hf
      obtain rfl := Option.some.inj hf
      exact kx
    · replace hf := (if_neg h25).symm.trans hf
      refine g_aload_n (pc' := 128) dX3_copy_127 rfl rfl rfl ?_
      refine gt_get (k := 15) (pc' := 131) (by decide) dX3_copy_128 rfl q1063 rfl ?_
      refine g_iload (pc' := 133) dX3_copy_131 rfl rfl ?_
      refine g_aload_n (pc' := 134) dX3_copy_133 rfl rfl rfl ?_
      refine gt_get (k := 14) (pc' := 137) (by decide) dX3_copy_134 rfl q1062 rfl ?_
      refine g_bipush (pc' := 139) (v := 40) dX3_copy_137 rfl (by decide) ?_
      refine g_iload_n (pc' := 140) dX3_copy_139 rfl rfl rfl ?_
      refine g_imul (pc' := 141) dX3_copy_140 rfl ?_
      refine g_iload_n (pc' := 142) dX3_copy_141 rfl rfl rfl ?_
      refine g_iadd (pc' := 143) dX3_copy_142 rfl ?_
      refine g_iload (pc' := 145) dX3_copy_143 rfl rfl ?_
      refine g_iadd (pc' := 146) dX3_copy_145 rfl ?_
      obtain ⟨v26, hv26, hf⟩ := Option.bind_eq_some_iff.mp hf
      refine gt_lald (pc' := 147) hA (by decide) dX3_copy_146 rfl hv26 ?_
      obtain ⟨w27, hw27, hf⟩ := Option.bind_eq_some_iff.mp hf
      refine gt_last (pc' := 148) hA (by decide) dX3_copy_147 rfl hw27 ?_
      refine g_iinc (pc' := 151) (v := s.1 + 1) (L' := [some (.ref A.1), some (.int y1), some (.int y2), some (.int y3), some (.int y4), some (.int y5), some (.int (s.1 + 1))]) dX3_copy_148 rfl rfl rfl (Nat.le_of_ble_eq_true rfl) rfl rfl ?_
      refine g_goto (tgt := 120) dX3_copy_151 (by decide) ?_
      exact ih _ r hf kx
set_option maxHeartbeats 4000000 in
theorem wX3_copy_l157 {g : bGh} {A : tA} (hA : tO A) {w : bWl} {n0 u0 : Nat} {Q : Outcome → bWl → Prop} (y3 : Int32) (y4 : Int32) (y5 : Int32) : ∀ (n : Nat) (s : Int32 × tM) (r : (Int32 × tM)), lpF (fX3_copy_l157 y3 y4 y5) n s = some r → bG (g, mdX3_copy, n0, u0, Q) (tW A r.2 w) 192 [some (.ref A.1), none, none, some (.int y3), some (.int y4), some (.int y5), some (.int r.1)] [] → bG (g, mdX3_copy, n0, u0, Q) (tW A s.2 w) 157 [some (.ref A.1), none, none, some (.int y3), some (.int y4), some (.int y5), some (.int s.1)] [] := by
  intro n
  induction n with
  | zero => intro s r hf; cases hf
  | succ n ih =>
    intro s r hf kx
    rw [lpF_s] at hf
    unfold fX3_copy_l157 at hf
    refine g_iload (pc' := 159) dX3_copy_157 rfl rfl ?_
    refine g_iload (pc' := 161) dX3_copy_159 rfl rfl ?_
    refine g_icmp_ge (tgt := 192) (pc' := 164) dX3_copy_161 (by decide) rfl (fun h29 => ?_) (fun h29 => ?_)
    · replace hf := (if_pos h29).symm.trans hf
      obtain rfl := Option.some.inj hf
      exact kx
    · replace hf := (if_neg h29).symm.trans hf
      refine g_aload_n (pc' := 165) dX3_copy_164 rfl rfl rfl ?_
      refine gt_get (k := 14) (pc' := 168) (by decide) dX3_copy_165 rfl q1062 rfl ?_
      refine g_bipush (pc' := 170) (v := 40) dX3_copy_168 rfl (by decide) ?_
      refine g_iload_n (pc' := 171) dX3_copy_170 rfl rfl rfl ?_
      refine g_imul (pc' := 172) dX3_copy_171 rfl ?_
      refine g_iload (pc' := 174) dX3_copy_172 rfl rfl ?_
      refine g_iadd (pc' := 175) dX3_copy_174 rfl ?_
      refine g_iload (pc' := 177) dX3_copy_175 rfl rfl ?_
      refine g_iadd (pc' := 178) dX3_copy_177 rfl ?_
      refine g_aload_n (pc' := 179) dX3_copy_178 rfl rfl rfl ?_
      refine gt_get (k := 15) (pc' := 182) (by decide) dX3_copy_179 rfl q1063 rfl ?_
      refine g_iload (pc' := 184) dX3_copy_182 rfl rfl ?_
      obtain ⟨v30, hv30, hf⟩ := Option.bind_eq_some_iff.mp hf
      refine gt_lald (pc' := 185) hA (by decide) dX3_copy_184 rfl hv30 ?_
      obtain ⟨w31, hw31, hf⟩ := Option.bind_eq_some_iff.mp hf
      refine gt_last (pc' := 186) hA (by decide) dX3_copy_185 rfl hw31 ?_
      refine g_iinc (pc' := 189) (v := s.1 + 1) (L' := [some (.ref A.1), none, none, some (.int y3), some (.int y4), some (.int y5), some (.int (s.1 + 1))]) dX3_copy_186 rfl rfl rfl (Nat.le_of_ble_eq_true rfl) rfl rfl ?_
      refine g_goto (tgt := 157) dX3_copy_189 (by decide) ?_
      exact ih _ r hf kx
set_option maxHeartbeats 4000000 in
theorem wX3_copy (g : bGh) {A : tA} (hA : tO A) (w : bWl) (M : tM) (x1 : Int32) (x2 : Int32) (x3 : Int32) (x4 : Int32) (x5 : Int32) {r : (Int32 × tM)} (hf : fX3_copy M x1 x2 x3 x4 x5 = some r) : bM g mdX3_copy (tW A M w) [.ref A.1, .int x1, .int x2, .int x3, .int x4, .int x5] (q_ (eI r.1) (tW A r.2 w)) := by
  unfold fX3_copy at hf
  change bG _ _ 0 [some (.ref A.1), some (.int x1), some (.int x2), some (.int x3), some (.int x4), some (.int x5)] []
  refine g_iload_n (pc' := 1) dX3_copy_0 rfl rfl rfl ?_
  obtain ⟨q1, hq1, hf⟩ := Option.bind_eq_some_iff.mp hf
  refine g_callS (pc' := 4) (as := [.int x1]) (wX3_isOne g _ x1 hq1) oX3_isOne ⟨Nat.le_of_ble_eq_true rfl, Nat.le_of_ble_eq_true rfl⟩ dX3_copy_1 rfl q1477 q1478 q86 (Nat.le_of_ble_eq_true rfl) (Nat.le_of_ble_eq_true rfl) (g_rI ?_) g_nt rfl
  refine g_if_eq (tgt := 14) (pc' := 7) dX3_copy_4 (by decide) rfl (fun h2 => ?_) (fun h2 => ?_)
  · replace hf := (if_pos h2).symm.trans hf
    refine g_aload_n (pc' := 15) dX3_copy_14 rfl rfl rfl ?_
    refine g_ldc (pc' := 17) dX3_copy_15 rfl q1116 ?_
    obtain ⟨q3, hq3, hf⟩ := Option.bind_eq_some_iff.mp hf
    refine g_callV (pc' := 20) (mx := mdX3_finds) (as := [.int (-1000000001)]) (wX3_finds g hA _ _ (-1000000001) hq3) oX3_finds ⟨Nat.le_of_ble_eq_true rfl, Nat.le_of_ble_eq_true rfl⟩ dX3_copy_17 rfl (ci := 3) rfl tC ⟨by decide +kernel, by decide +kernel⟩ oX3_finds.2.2.2 rfl q1117 q1119 qs33 qs33 q1119 (Nat.le_of_ble_eq_true rfl) (Nat.le_of_ble_eq_true rfl) (g_rI ?_) g_nt rfl
    obtain rfl := Option.some.inj hf
    exact g_iret dX3_copy_20 rfl rfl ⟨rfl, rfl⟩
  · replace hf := (if_neg h2).symm.trans hf
    refine g_iload_n (pc' := 8) dX3_copy_7 rfl rfl rfl ?_
    obtain ⟨q4, hq4, hf⟩ := Option.bind_eq_some_iff.mp hf
    refine g_callS (pc' := 11) (as := [.int x3]) (wX3_isOne g _ x3 hq4) oX3_isOne ⟨Nat.le_of_ble_eq_true rfl, Nat.le_of_ble_eq_true rfl⟩ dX3_copy_8 rfl q1477 q1478 q86 (Nat.le_of_ble_eq_true rfl) (Nat.le_of_ble_eq_true rfl) (g_rI ?_) g_nt rfl
    refine g_if_ne (tgt := 21) (pc' := 14) dX3_copy_11 (by decide) rfl (fun h5 => ?_) (fun h5 => ?_)
    · replace hf := (if_neg h5).symm.trans hf
      refine g_aload_n (pc' := 22) dX3_copy_21 rfl rfl rfl ?_
      refine gt_get (k := 12) (pc' := 25) (by decide) dX3_copy_22 rfl q1060 rfl ?_
      refine g_iload_n (pc' := 26) dX3_copy_25 rfl rfl rfl ?_
      obtain ⟨v6, hv6, hf⟩ := Option.bind_eq_some_iff.mp hf
      refine gt_iald (pc' := 27) hA (by decide) dX3_copy_26 rfl hv6 ?_
      refine g_if_eq (tgt := 39) (pc' := 30) dX3_copy_27 (by decide) rfl (fun h7 => ?_) (fun h7 => ?_)
      · replace hf := (if_pos h7).symm.trans hf
        refine g_aload_n (pc' := 40) dX3_copy_39 rfl rfl rfl ?_
        refine g_ldcw (pc' := 43) dX3_copy_40 rfl q1489 ?_
        obtain ⟨q8, hq8, hf⟩ := Option.bind_eq_some_iff.mp hf
        refine g_callV (pc' := 46) (mx := mdX3_finds) (as := [.int (-1000000006)]) (wX3_finds g hA _ _ (-1000000006) hq8) oX3_finds ⟨Nat.le_of_ble_eq_true rfl, Nat.le_of_ble_eq_true rfl⟩ dX3_copy_43 rfl (ci := 3) rfl tC ⟨by decide +kernel, by decide +kernel⟩ oX3_finds.2.2.2 rfl q1117 q1119 qs33 qs33 q1119 (Nat.le_of_ble_eq_true rfl) (Nat.le_of_ble_eq_true rfl) (g_rI ?_) g_nt rfl
        obtain rfl := Option.some.inj hf
        exact g_iret dX3_copy_46 rfl rfl ⟨rfl, rfl⟩
      · replace hf := (if_neg h7).symm.trans hf
        refine g_aload_n (pc' := 31) dX3_copy_30 rfl rfl rfl ?_
        refine gt_get (k := 12) (pc' := 34) (by decide) dX3_copy_31 rfl q1060 rfl ?_
        refine g_iload_n (pc' := 35) dX3_copy_34 rfl rfl rfl ?_
        obtain ⟨v9, hv9, hf⟩ := Option.bind_eq_some_iff.mp hf
        refine gt_iald (pc' := 36) hA (by decide) dX3_copy_35 rfl hv9 ?_
        refine g_if_ne (tgt := 47) (pc' := 39) dX3_copy_36 (by decide) rfl (fun h10 => ?_) (fun h10 => ?_)
        · replace hf := (if_neg h10).symm.trans hf
          refine g_aload_n (pc' := 48) dX3_copy_47 rfl rfl rfl ?_
          refine gt_get (k := 12) (pc' := 51) (by decide) dX3_copy_48 rfl q1060 rfl ?_
          refine g_iload_n (pc' := 52) dX3_copy_51 rfl rfl rfl ?_
          obtain ⟨v11, hv11, hf⟩ := Option.bind_eq_some_iff.mp hf
          refine gt_iald (pc' := 53) hA (by decide) dX3_copy_52 rfl hv11 ?_
          refine g_aload_n (pc' := 54) dX3_copy_53 rfl rfl rfl ?_
          refine gt_get (k := 12) (pc' := 57) (by decide) dX3_copy_54 rfl q1060 rfl ?_
          refine g_iload_n (pc' := 58) dX3_copy_57 rfl rfl rfl ?_
          obtain ⟨v12, hv12, hf⟩ := Option.bind_eq_some_iff.mp hf
          refine gt_iald (pc' := 59) hA (by decide) dX3_copy_58 rfl hv12 ?_
          refine g_icmp_eq (tgt := 69) (pc' := 62) dX3_copy_59 (by decide) rfl (fun h13 => ?_) (fun h13 => ?_)
          · replace hf := (if_pos h13).symm.trans hf
            refine g_iload_n (pc' := 70) dX3_copy_69 rfl rfl rfl ?_
            refine g_if_lt (tgt := 110) (pc' := 73) dX3_copy_70 (by decide) rfl (fun h14 => ?_) (fun h14 => ?_)
            · replace hf := (if_pos h14).symm.trans hf
              refine g_aload_n (pc' := 111) dX3_copy_110 rfl rfl rfl ?_
              refine g_ldc (pc' := 113) dX3_copy_111 rfl q1116 ?_
              obtain ⟨q15, hq15, hf⟩ := Option.bind_eq_some_iff.mp hf
              refine g_callV (pc' := 116) (mx := mdX3_finds) (as := [.int (-1000000001)]) (wX3_finds g hA _ _ (-1000000001) hq15) oX3_finds ⟨Nat.le_of_ble_eq_true rfl, Nat.le_of_ble_eq_true rfl⟩ dX3_copy_113 rfl (ci := 3) rfl tC ⟨by decide +kernel, by decide +kernel⟩ oX3_finds.2.2.2 rfl q1117 q1119 qs33 qs33 q1119 (Nat.le_of_ble_eq_true rfl) (Nat.le_of_ble_eq_true rfl) (g_rI ?_) g_nt rfl
              obtain rfl := Option.some.inj hf
              exact g_iret dX3_copy_116 rfl rfl ⟨rfl, rfl⟩
            · replace hf := (if_neg h14).symm.trans hf
              refine g_iload (pc' := 75) dX3_copy_73 rfl rfl ?_
              refine g_if_lt (tgt := 110) (pc' := 78) dX3_copy_75 (by decide) rfl (fun h16 => ?_) (fun h16 => ?_)
              · replace hf := (if_pos h16).symm.trans hf
                refine g_aload_n (pc' := 111) dX3_copy_110 rfl rfl rfl ?_
                refine g_ldc (pc' := 113) dX3_copy_111 rfl q1116 ?_
                obtain ⟨q17, hq17, hf⟩ := Option.bind_eq_some_iff.mp hf
                refine g_callV (pc' := 116) (mx := mdX3_finds) (as := [.int (-1000000001)]) (wX3_finds g hA _ _ (-1000000001) hq17) oX3_finds ⟨Nat.le_of_ble_eq_true rfl, Nat.le_of_ble_eq_true rfl⟩ dX3_copy_113 rfl (ci := 3) rfl tC ⟨by decide +kernel, by decide +kernel⟩ oX3_finds.2.2.2 rfl q1117 q1119 qs33 qs33 q1119 (Nat.le_of_ble_eq_true rfl) (Nat.le_of_ble_eq_true rfl) (g_rI ?_) g_nt rfl
                obtain rfl := Option.some.inj hf
                exact g_iret dX3_copy_116 rfl rfl ⟨rfl, rfl⟩
              · replace hf := (if_neg h16).symm.trans hf
                refine g_iload (pc' := 80) dX3_copy_78 rfl rfl ?_
                refine g_if_lt (tgt := 110) (pc' := 83) dX3_copy_80 (by decide) rfl (fun h18 => ?_) (fun h18 => ?_)
                · replace hf := (if_pos h18).symm.trans hf
                  refine g_aload_n (pc' := 111) dX3_copy_110 rfl rfl rfl ?_
                  refine g_ldc (pc' := 113) dX3_copy_111 rfl q1116 ?_
                  obtain ⟨q19, hq19, hf⟩ := Option.bind_eq_some_iff.mp hf
                  refine g_callV (pc' := 116) (mx := mdX3_finds) (as := [.int (-1000000001)]) (wX3_finds g hA _ _ (-1000000001) hq19) oX3_finds ⟨Nat.le_of_ble_eq_true rfl, Nat.le_of_ble_eq_true rfl⟩ dX3_copy_113 rfl (ci := 3) rfl tC ⟨by decide +kernel, by decide +kernel⟩ oX3_finds.2.2.2 rfl q1117 q1119 qs33 qs33 q1119 (Nat.le_of_ble_eq_true rfl) (Nat.le_of_ble_eq_true rfl) (g_rI ?_) g_nt rfl
                  obtain rfl := Option.some.inj hf
                  exact g_iret dX3_copy_116 rfl rfl ⟨rfl, rfl⟩
                · replace hf := (if_neg h18).symm.trans hf
                  refine g_iload (pc' := 85) dX3_copy_83 rfl rfl ?_
                  refine g_aload_n (pc' := 86) dX3_copy_85 rfl rfl rfl ?_
                  refine gt_get (k := 13) (pc' := 89) (by decide) dX3_copy_86 rfl q1061 rfl ?_
                  refine g_iload_n (pc' := 90) dX3_copy_89 rfl rfl rfl ?_
                  obtain ⟨v20, hv20, hf⟩ := Option.bind_eq_some_iff.mp hf
                  refine gt_iald (pc' := 91) hA (by decide) dX3_copy_90 rfl hv20 ?_
                  refine g_iload_n (pc' := 92) dX3_copy_91 rfl rfl rfl ?_
                  refine g_isub (pc' := 93) dX3_copy_92 rfl ?_
                  refine g_icmp_gt (tgt := 110) (pc' := 96) dX3_copy_93 (by decide) rfl (fun h21 => ?_) (fun h21 => ?_)
                  · replace hf := (if_pos h21).symm.trans hf
                    refine g_aload_n (pc' := 111) dX3_copy_110 rfl rfl rfl ?_
                    refine g_ldc (pc' := 113) dX3_copy_111 rfl q1116 ?_
                    obtain ⟨q22, hq22, hf⟩ := Option.bind_eq_some_iff.mp hf
                    refine g_callV (pc' := 116) (mx := mdX3_finds) (as := [.int (-1000000001)]) (wX3_finds g hA _ _ (-1000000001) hq22) oX3_finds ⟨Nat.le_of_ble_eq_true rfl, Nat.le_of_ble_eq_true rfl⟩ dX3_copy_113 rfl (ci := 3) rfl tC ⟨by decide +kernel, by decide +kernel⟩ oX3_finds.2.2.2 rfl q1117 q1119 qs33 qs33 q1119 (Nat.le_of_ble_eq_true rfl) (Nat.le_of_ble_eq_true rfl) (g_rI ?_) g_nt rfl
                    obtain rfl := Option.some.inj hf
                    exact g_iret dX3_copy_116 rfl rfl ⟨rfl, rfl⟩
                  · replace hf := (if_neg h21).symm.trans hf
                    refine g_iload (pc' := 98) dX3_copy_96 rfl rfl ?_
                    refine g_aload_n (pc' := 99) dX3_copy_98 rfl rfl rfl ?_
                    refine gt_get (k := 13) (pc' := 102) (by decide) dX3_copy_99 rfl q1061 rfl ?_
                    refine g_iload_n (pc' := 103) dX3_copy_102 rfl rfl rfl ?_
                    obtain ⟨v23, hv23, hf⟩ := Option.bind_eq_some_iff.mp hf
                    refine gt_iald (pc' := 104) hA (by decide) dX3_copy_103 rfl hv23 ?_
                    refine g_iload (pc' := 106) dX3_copy_104 rfl rfl ?_
                    refine g_isub (pc' := 107) dX3_copy_106 rfl ?_
                    refine g_icmp_le (tgt := 117) (pc' := 110) dX3_copy_107 (by decide) rfl (fun h24 => ?_) (fun h24 => ?_)
                    · replace hf := (if_pos h24).symm.trans hf
                      refine g_iconst (pc' := 118) (v := 0) dX3_copy_117 rfl (by decide) ?_
                      refine g_istore (pc' := 120) (L' := [some (.ref A.1), some (.int x1), some (.int x2), some (.int x3), some (.int x4), some (.int x5), some (.int 0)]) dX3_copy_118 rfl (Nat.le_of_ble_eq_true rfl) rfl rfl ?_
                      obtain ⟨q28, hq28, hf⟩ := Option.bind_eq_some_iff.mp hf
                      refine wX3_copy_l120 hA x1 x2 x3 x4 x5 FU (0, M) q28 hq28 ?_
                      refine g_iconst (pc' := 155) (v := 0) dX3_copy_154 rfl (by decide) ?_
                      refine g_istore (pc' := 157) (L' := [some (.ref A.1), some (.int x1), some (.int x2), some (.int x3), some (.int x4), some (.int x5), some (.int 0)]) dX3_copy_155 rfl (Nat.le_of_ble_eq_true rfl) rfl rfl ?_
                      refine g_drop [1, 2] (L' := [some (.ref A.1), none, none, some (.int x3), some (.int x4), some (.int x5), some (.int 0)]) rfl ?_
                      obtain ⟨q32, hq32, hf⟩ := Option.bind_eq_some_iff.mp hf
                      refine wX3_copy_l157 hA x3 x4 x5 FU (0, q28.2) q32 hq32 ?_
                      refine g_iload (pc' := 194) dX3_copy_192 rfl rfl ?_
                      obtain rfl := Option.some.inj hf
                      exact g_iret dX3_copy_194 rfl rfl ⟨rfl, rfl⟩
                    · replace hf := (if_neg h24).symm.trans hf
                      refine g_aload_n (pc' := 111) dX3_copy_110 rfl rfl rfl ?_
                      refine g_ldc (pc' := 113) dX3_copy_111 rfl q1116 ?_
                      obtain ⟨q33, hq33, hf⟩ := Option.bind_eq_some_iff.mp hf
                      refine g_callV (pc' := 116) (mx := mdX3_finds) (as := [.int (-1000000001)]) (wX3_finds g hA _ _ (-1000000001) hq33) oX3_finds ⟨Nat.le_of_ble_eq_true rfl, Nat.le_of_ble_eq_true rfl⟩ dX3_copy_113 rfl (ci := 3) rfl tC ⟨by decide +kernel, by decide +kernel⟩ oX3_finds.2.2.2 rfl q1117 q1119 qs33 qs33 q1119 (Nat.le_of_ble_eq_true rfl) (Nat.le_of_ble_eq_true rfl) (g_rI ?_) g_nt rfl
                      obtain rfl := Option.some.inj hf
                      exact g_iret dX3_copy_116 rfl rfl ⟨rfl, rfl⟩
          · replace hf := (if_neg h13).symm.trans hf
            refine g_aload_n (pc' := 63) dX3_copy_62 rfl rfl rfl ?_
            refine g_ldc (pc' := 65) dX3_copy_63 rfl q1201 ?_
            obtain ⟨q34, hq34, hf⟩ := Option.bind_eq_some_iff.mp hf
            refine g_callV (pc' := 68) (mx := mdX3_finds) (as := [.int (-1000000003)]) (wX3_finds g hA _ _ (-1000000003) hq34) oX3_finds ⟨Nat.le_of_ble_eq_true rfl, Nat.le_of_ble_eq_true rfl⟩ dX3_copy_65 rfl (ci := 3) rfl tC ⟨by decide +kernel, by decide +kernel⟩ oX3_finds.2.2.2 rfl q1117 q1119 qs33 qs33 q1119 (Nat.le_of_ble_eq_true rfl) (Nat.le_of_ble_eq_true rfl) (g_rI ?_) g_nt rfl
            obtain rfl := Option.some.inj hf
            exact g_iret dX3_copy_68 rfl rfl ⟨rfl, rfl⟩
        · replace hf := (if_pos h10).symm.trans hf
          refine g_aload_n (pc' := 40) dX3_copy_39 rfl rfl rfl ?_
          refine g_ldcw (pc' := 43) dX3_copy_40 rfl q1489 ?_
          obtain ⟨q35, hq35, hf⟩ := Option.bind_eq_some_iff.mp hf
          refine g_callV (pc' := 46) (mx := mdX3_finds) (as := [.int (-1000000006)]) (wX3_finds g hA _ _ (-1000000006) hq35) oX3_finds ⟨Nat.le_of_ble_eq_true rfl, Nat.le_of_ble_eq_true rfl⟩ dX3_copy_43 rfl (ci := 3) rfl tC ⟨by decide +kernel, by decide +kernel⟩ oX3_finds.2.2.2 rfl q1117 q1119 qs33 qs33 q1119 (Nat.le_of_ble_eq_true rfl) (Nat.le_of_ble_eq_true rfl) (g_rI ?_) g_nt rfl
          obtain rfl := Option.some.inj hf
          exact g_iret dX3_copy_46 rfl rfl ⟨rfl, rfl⟩
    · replace hf := (if_pos h5).symm.trans hf
      refine g_aload_n (pc' := 15) dX3_copy_14 rfl rfl rfl ?_
      refine g_ldc (pc' := 17) dX3_copy_15 rfl q1116 ?_
      obtain ⟨q36, hq36, hf⟩ := Option.bind_eq_some_iff.mp hf
      refine g_callV (pc' := 20) (mx := mdX3_finds) (as := [.int (-1000000001)]) (wX3_finds g hA _ _ (-1000000001) hq36) oX3_finds ⟨Nat.le_of_ble_eq_true rfl, Nat.le_of_ble_eq_true rfl⟩ dX3_copy_17 rfl (ci := 3) rfl tC ⟨by decide +kernel, by decide +kernel⟩ oX3_finds.2.2.2 rfl q1117 q1119 qs33 qs33 q1119 (Nat.le_of_ble_eq_true rfl) (Nat.le_of_ble_eq_true rfl) (g_rI ?_) g_nt rfl
      obtain rfl := Option.some.inj hf
      exact g_iret dX3_copy_20 rfl rfl ⟨rfl, rfl⟩
def mdX3_lays : bMD := (yX3_lays, cX3_lays, 6, (some FieldType.int), [], 4, 78)
theorem oX3_lays : bOkc mdX3_lays 1 := ⟨by decide +kernel, ⟨by decide +kernel, by decide +kernel⟩, by decide +kernel, q1500⟩
def fX3_lays_l21 (y1 : Int32) (rec : (Int32 × Int32 × tM) → Option (Int32 × Int32 × tM)) (s : Int32 × Int32 × tM) : Option (Int32 × Int32 × tM) :=
  Option.bind (rA s.2.2 13 y1) fun v3 =>
  (if v3 ≤ s.2.1 then
  some (s.1, s.2.1, s.2.2)
else
  (if 8 ≤ s.2.1 then
  some (s.1, s.2.1, s.2.2)
else
  Option.bind (rL s.2.2 14 ((40 * y1) + s.2.1)) fun v6 =>
  Option.bind (fX3_in v6 0 9) fun q7 =>
  Option.bind (fX3_partOf s.2.1 2) fun q8 =>
  Option.bind (α := Int32) ((if q7 = 0 then
  Option.bind (fX3_has s.2.2 s.2.1 2) fun q11 =>
  some q11
else
  Option.bind (rL s.2.2 14 ((40 * y1) + s.2.1)) fun v12 =>
  some ((v12 : Int64).toInt32))) fun q9 =>
  Option.bind (wA s.2.2 0 q8 q9) fun w13 =>
  Option.bind (α := Int32) ((if q7 = 0 then
  some 0
else
  some 1)) fun q14 =>
  rec ((s.1 + q14), (s.2.1 + 1), w13)))
def fX3_lays (M : tM) (x1 : Int32) : Option (Int32 × tM) :=
  Option.bind (fX3_wrongSheet M x1) fun q1 =>
  (if q1 = 0 then
  Option.bind (lpF (fX3_lays_l21 x1) FU (0, 0, M)) fun q16 =>
  some (q16.1, q16.2.2)
else
  Option.bind (fX3_finds M q1) fun q17 =>
  some (q17.1, q17.2))
set_option maxHeartbeats 4000000 in
theorem wX3_lays_l21 {g : bGh} {A : tA} (hA : tO A) {w : bWl} {n0 u0 : Nat} {Q : Outcome → bWl → Prop} (y1 : Int32) : ∀ (n : Nat) (s : Int32 × Int32 × tM) (r : (Int32 × Int32 × tM)), lpF (fX3_lays_l21 y1) n s = some r → bG (g, mdX3_lays, n0, u0, Q) (tW A r.2.2 w) 118 [some (.ref A.1), some (.int y1), none, some (.int r.1), some (.int r.2.1)] [] → bG (g, mdX3_lays, n0, u0, Q) (tW A s.2.2 w) 21 [some (.ref A.1), some (.int y1), none, some (.int s.1), some (.int s.2.1)] [] := by
  intro n
  induction n with
  | zero => intro s r hf; cases hf
  | succ n ih =>
    intro s r hf kx
    rw [lpF_s] at hf
    unfold fX3_lays_l21 at hf
    refine g_iload (pc' := 23) dX3_lays_21 rfl rfl ?_
    refine g_aload_n (pc' := 24) dX3_lays_23 rfl rfl rfl ?_
    refine gt_get (k := 13) (pc' := 27) (by decide) dX3_lays_24 rfl q1061 rfl ?_
    refine g_iload_n (pc' := 28) dX3_lays_27 rfl rfl rfl ?_
    obtain ⟨v3, hv3, hf⟩ := Option.bind_eq_some_iff.mp hf
    refine gt_iald (pc' := 29) hA (by decide) dX3_lays_28 rfl hv3 ?_
    refine g_icmp_ge (tgt := 118) (pc' := 32) dX3_lays_29 (by decide) rfl (fun h4 => ?_) (fun h4 => ?_)
    · replace hf := (if_pos h4).symm.trans hf
      obtain rfl := Option.some.inj hf
      exact kx
    · replace hf := (if_neg h4).symm.trans hf
      refine g_iload (pc' := 34) dX3_lays_32 rfl rfl ?_
      refine g_bipush (pc' := 36) (v := 8) dX3_lays_34 rfl (by decide) ?_
      refine g_icmp_ge (tgt := 118) (pc' := 39) dX3_lays_36 (by decide) rfl (fun h5 => ?_) (fun h5 => ?_)
      · replace hf := (if_pos h5).symm.trans hf
        obtain rfl := Option.some.inj hf
        exact kx
      · replace hf := (if_neg h5).symm.trans hf
        refine g_aload_n (pc' := 40) dX3_lays_39 rfl rfl rfl ?_
        refine gt_get (k := 14) (pc' := 43) (by decide) dX3_lays_40 rfl q1062 rfl ?_
        refine g_bipush (pc' := 45) (v := 40) dX3_lays_43 rfl (by decide) ?_
        refine g_iload_n (pc' := 46) dX3_lays_45 rfl rfl rfl ?_
        refine g_imul (pc' := 47) dX3_lays_46 rfl ?_
        refine g_iload (pc' := 49) dX3_lays_47 rfl rfl ?_
        refine g_iadd (pc' := 50) dX3_lays_49 rfl ?_
        obtain ⟨v6, hv6, hf⟩ := Option.bind_eq_some_iff.mp hf
        refine gt_lald (pc' := 51) hA (by decide) dX3_lays_50 rfl hv6 ?_
        refine g_lconst (pc' := 52) (v := 0) dX3_lays_51 rfl (by decide) ?_
        refine g_ldc2 (pc' := 55) dX3_lays_52 rfl q1107 ?_
        obtain ⟨q7, hq7, hf⟩ := Option.bind_eq_some_iff.mp hf
        refine g_callS (pc' := 58) (as := [.long v6, .long 0, .long 9]) (wX3_in g _ v6 0 9 hq7) oX3_in ⟨Nat.le_of_ble_eq_true rfl, Nat.le_of_ble_eq_true rfl⟩ dX3_lays_55 rfl q1102 q1103 q86 (Nat.le_of_ble_eq_true rfl) (Nat.le_of_ble_eq_true rfl) (g_rI ?_) g_nt rfl
        refine g_istore (pc' := 60) (L' := [some (.ref A.1), some (.int y1), none, some (.int s.1), some (.int s.2.1), some (.int q7)]) dX3_lays_58 rfl (Nat.le_of_ble_eq_true rfl) rfl rfl ?_
        refine g_aload_n (pc' := 61) dX3_lays_60 rfl rfl rfl ?_
        refine gt_get (k := 0) (pc' := 64) (by decide) dX3_lays_61 rfl q1048 rfl ?_
        refine g_iload (pc' := 66) dX3_lays_64 rfl rfl ?_
        refine g_iconst (pc' := 67) (v := 2) dX3_lays_66 rfl (by decide) ?_
        obtain ⟨q8, hq8, hf⟩ := Option.bind_eq_some_iff.mp hf
        refine g_callS (pc' := 70) (as := [.int s.2.1, .int 2]) (wX3_partOf g _ s.2.1 2 hq8) oX3_partOf ⟨Nat.le_of_ble_eq_true rfl, Nat.le_of_ble_eq_true rfl⟩ dX3_lays_67 rfl q1045 q1046 q86 (Nat.le_of_ble_eq_true rfl) (Nat.le_of_ble_eq_true rfl) (g_rI ?_) g_nt rfl
        refine g_iload (pc' := 72) dX3_lays_70 rfl rfl ?_
        obtain ⟨q9, hqq9, hf⟩ := Option.bind_eq_some_iff.mp hf
        have hJq9 : bG (g, mdX3_lays, n0, u0, Q) (tW A s.2.2 w) 98 [some (.ref A.1), some (.int y1), none, some (.int s.1), some (.int s.2.1), some (.int q7)] [.int q9, .int q8, .ref (A.2 0)] := by
          obtain ⟨w13, hw13, hf⟩ := Option.bind_eq_some_iff.mp hf
          refine gt_iast (pc' := 99) hA (by decide) dX3_lays_98 rfl hw13 ?_
          refine g_iload_n (pc' := 100) dX3_lays_99 rfl rfl rfl ?_
          refine g_iload (pc' := 102) dX3_lays_100 rfl rfl ?_
          obtain ⟨q14, hqq14, hf⟩ := Option.bind_eq_some_iff.mp hf
          have hJq14 : bG (g, mdX3_lays, n0, u0, Q) (tW A w13 w) 110 [some (.ref A.1), some (.int y1), none, none, some (.int s.2.1), none] [.int q14, .int s.1] := by
            refine g_iadd (pc' := 111) dX3_lays_110 rfl ?_
            refine g_istore_n (pc' := 112) (L' := [some (.ref A.1), some (.int y1), none, some (.int (s.1 + q14)), some (.int s.2.1), none]) dX3_lays_111 rfl rfl (Nat.le_of_ble_eq_true rfl) rfl rfl ?_
            refine g_iinc (pc' := 115) (v := s.2.1 + 1) (L' := [some (.ref A.1), some (.int y1), none, some (.int (s.1 + q14)), some (.int (s.2.1 + 1)), none]) dX3_lays_112 rfl rfl rfl (Nat.le_of_ble_eq_true rfl) rfl rfl ?_
            refine g_goto (tgt := 21) dX3_lays_115 (by decide) ?_
            refine g_cut (L := [some (.ref A.1), some (.int y1), none, some (.int (s.1 + q14)), some (.int (s.2.1 + 1))]) 1 rfl ?_
            exact ih _ r hf kx
          replace hf := hqq14
          refine g_if_eq (tgt := 109) (pc' := 105) dX3_lays_102 (by decide) rfl (fun h15 => ?_) (fun h15 => ?_)
          · replace hf := (if_pos h15).symm.trans hf
            refine g_iconst (pc' := 110) (v := 0) dX3_lays_109 rfl (by decide) ?_
            obtain rfl := Option.some.inj hf
            refine g_drop [3, 5] (L' := [some (.ref A.1), some (.int y1), none, none, some (.int s.2.1), none]) rfl ?_
            exact hJq14
          · replace hf := (if_neg h15).symm.trans hf
            refine g_iconst (pc' := 106) (v := 1) dX3_lays_105 rfl (by decide) ?_
            refine g_goto (tgt := 110) dX3_lays_106 (by decide) ?_
            obtain rfl := Option.some.inj hf
            refine g_drop [3, 5] (L' := [some (.ref A.1), some (.int y1), none, none, some (.int s.2.1), none]) rfl ?_
            exact hJq14
        replace hf := hqq9
        refine g_if_eq (tgt := 91) (pc' := 75) dX3_lays_72 (by decide) rfl (fun h10 => ?_) (fun h10 => ?_)
        · replace hf := (if_pos h10).symm.trans hf
          refine g_aload_n (pc' := 92) dX3_lays_91 rfl rfl rfl ?_
          refine g_iload (pc' := 94) dX3_lays_92 rfl rfl ?_
          refine g_iconst (pc' := 95) (v := 2) dX3_lays_94 rfl (by decide) ?_
          obtain ⟨q11, hq11, hf⟩ := Option.bind_eq_some_iff.mp hf
          refine g_callV (pc' := 98) (mx := mdX3_has) (as := [.int s.2.1, .int 2]) (wX3_has g hA _ _ s.2.1 2 hq11) oX3_has ⟨Nat.le_of_ble_eq_true rfl, Nat.le_of_ble_eq_true rfl⟩ dX3_lays_95 rfl (ci := 3) rfl tC ⟨by decide +kernel, by decide +kernel⟩ oX3_has.2.2.2 rfl q1126 q1128 qs34 qs34 q1128 (Nat.le_of_ble_eq_true rfl) (Nat.le_of_ble_eq_true rfl) (g_rI ?_) g_nt rfl
          obtain rfl := Option.some.inj hf
          exact hJq9
        · replace hf := (if_neg h10).symm.trans hf
          refine g_aload_n (pc' := 76) dX3_lays_75 rfl rfl rfl ?_
          refine gt_get (k := 14) (pc' := 79) (by decide) dX3_lays_76 rfl q1062 rfl ?_
          refine g_bipush (pc' := 81) (v := 40) dX3_lays_79 rfl (by decide) ?_
          refine g_iload_n (pc' := 82) dX3_lays_81 rfl rfl rfl ?_
          refine g_imul (pc' := 83) dX3_lays_82 rfl ?_
          refine g_iload (pc' := 85) dX3_lays_83 rfl rfl ?_
          refine g_iadd (pc' := 86) dX3_lays_85 rfl ?_
          obtain ⟨v12, hv12, hf⟩ := Option.bind_eq_some_iff.mp hf
          refine gt_lald (pc' := 87) hA (by decide) dX3_lays_86 rfl hv12 ?_
          refine g_l2i (pc' := 88) dX3_lays_87 rfl ?_
          refine g_goto (tgt := 98) dX3_lays_88 (by decide) ?_
          obtain rfl := Option.some.inj hf
          exact hJq9
set_option maxHeartbeats 4000000 in
theorem wX3_lays (g : bGh) {A : tA} (hA : tO A) (w : bWl) (M : tM) (x1 : Int32) {r : (Int32 × tM)} (hf : fX3_lays M x1 = some r) : bM g mdX3_lays (tW A M w) [.ref A.1, .int x1] (q_ (eI r.1) (tW A r.2 w)) := by
  unfold fX3_lays at hf
  change bG _ _ 0 [some (.ref A.1), some (.int x1)] []
  refine g_aload_n (pc' := 1) dX3_lays_0 rfl rfl rfl ?_
  refine g_iload_n (pc' := 2) dX3_lays_1 rfl rfl rfl ?_
  obtain ⟨q1, hq1, hf⟩ := Option.bind_eq_some_iff.mp hf
  refine g_callV (pc' := 5) (mx := mdX3_wrongSheet) (as := [.int x1]) (wX3_wrongSheet g hA _ _ x1 hq1) oX3_wrongSheet ⟨Nat.le_of_ble_eq_true rfl, Nat.le_of_ble_eq_true rfl⟩ dX3_lays_2 rfl (ci := 3) rfl tC ⟨by decide +kernel, by decide +kernel⟩ oX3_wrongSheet.2.2.2 rfl q1485 q1487 qs78 qs78 q1487 (Nat.le_of_ble_eq_true rfl) (Nat.le_of_ble_eq_true rfl) (g_rI ?_) g_nt rfl
  refine g_istore_n (pc' := 6) (L' := [some (.ref A.1), some (.int x1), some (.int q1)]) dX3_lays_5 rfl rfl (Nat.le_of_ble_eq_true rfl) rfl rfl ?_
  refine g_iload_n (pc' := 7) dX3_lays_6 rfl rfl rfl ?_
  refine g_if_eq (tgt := 16) (pc' := 10) dX3_lays_7 (by decide) rfl (fun h2 => ?_) (fun h2 => ?_)
  · replace hf := (if_pos h2).symm.trans hf
    refine g_iconst (pc' := 17) (v := 0) dX3_lays_16 rfl (by decide) ?_
    refine g_istore_n (pc' := 18) (L' := [some (.ref A.1), some (.int x1), some (.int q1), some (.int 0)]) dX3_lays_17 rfl rfl (Nat.le_of_ble_eq_true rfl) rfl rfl ?_
    refine g_iconst (pc' := 19) (v := 0) dX3_lays_18 rfl (by decide) ?_
    refine g_istore (pc' := 21) (L' := [some (.ref A.1), some (.int x1), some (.int q1), some (.int 0), some (.int 0)]) dX3_lays_19 rfl (Nat.le_of_ble_eq_true rfl) rfl rfl ?_
    refine g_drop [2] (L' := [some (.ref A.1), some (.int x1), none, some (.int 0), some (.int 0)]) rfl ?_
    obtain ⟨q16, hq16, hf⟩ := Option.bind_eq_some_iff.mp hf
    refine wX3_lays_l21 hA x1 FU (0, 0, M) q16 hq16 ?_
    refine g_iload_n (pc' := 119) dX3_lays_118 rfl rfl rfl ?_
    obtain rfl := Option.some.inj hf
    exact g_iret dX3_lays_119 rfl rfl ⟨rfl, rfl⟩
  · replace hf := (if_neg h2).symm.trans hf
    refine g_aload_n (pc' := 11) dX3_lays_10 rfl rfl rfl ?_
    refine g_iload_n (pc' := 12) dX3_lays_11 rfl rfl rfl ?_
    obtain ⟨q17, hq17, hf⟩ := Option.bind_eq_some_iff.mp hf
    refine g_callV (pc' := 15) (mx := mdX3_finds) (as := [.int q1]) (wX3_finds g hA _ _ q1 hq17) oX3_finds ⟨Nat.le_of_ble_eq_true rfl, Nat.le_of_ble_eq_true rfl⟩ dX3_lays_12 rfl (ci := 3) rfl tC ⟨by decide +kernel, by decide +kernel⟩ oX3_finds.2.2.2 rfl q1117 q1119 qs33 qs33 q1119 (Nat.le_of_ble_eq_true rfl) (Nat.le_of_ble_eq_true rfl) (g_rI ?_) g_nt rfl
    obtain rfl := Option.some.inj hf
    exact g_iret dX3_lays_15 rfl rfl ⟨rfl, rfl⟩
def mdX3_wrongBook : bMD := (yX3_wrongBook, cX3_wrongBook, 4, (some FieldType.int), [], 4, 78)
theorem oX3_wrongBook : bOkc mdX3_wrongBook 2 := ⟨by decide +kernel, ⟨by decide +kernel, by decide +kernel⟩, by decide +kernel, q1508⟩
def fX3_wrongBook (M : tM) (x1 : Int32) (x2 : Int32) : Option Int32 :=
  Option.bind (fX3_wrongSheet M x1) fun q1 =>
  (if q1 = 0 then
  Option.bind (fX3_isHouse x2) fun q3 =>
  (if q3 = 0 then
  some (-1000000001)
else
  some 0)
else
  some q1)
set_option maxHeartbeats 4000000 in
theorem wX3_wrongBook (g : bGh) {A : tA} (hA : tO A) (w : bWl) (M : tM) (x1 : Int32) (x2 : Int32) {r : Int32} (hf : fX3_wrongBook M x1 x2 = some r) : bM g mdX3_wrongBook (tW A M w) [.ref A.1, .int x1, .int x2] (q_ (eI r) (tW A M w)) := by
  unfold fX3_wrongBook at hf
  change bG _ _ 0 [some (.ref A.1), some (.int x1), some (.int x2)] []
  refine g_aload_n (pc' := 1) dX3_wrongBook_0 rfl rfl rfl ?_
  refine g_iload_n (pc' := 2) dX3_wrongBook_1 rfl rfl rfl ?_
  obtain ⟨q1, hq1, hf⟩ := Option.bind_eq_some_iff.mp hf
  refine g_callV (pc' := 5) (mx := mdX3_wrongSheet) (as := [.int x1]) (wX3_wrongSheet g hA _ _ x1 hq1) oX3_wrongSheet ⟨Nat.le_of_ble_eq_true rfl, Nat.le_of_ble_eq_true rfl⟩ dX3_wrongBook_2 rfl (ci := 3) rfl tC ⟨by decide +kernel, by decide +kernel⟩ oX3_wrongSheet.2.2.2 rfl q1485 q1487 qs78 qs78 q1487 (Nat.le_of_ble_eq_true rfl) (Nat.le_of_ble_eq_true rfl) (g_rI ?_) g_nt rfl
  refine g_istore_n (pc' := 6) (L' := [some (.ref A.1), some (.int x1), some (.int x2), some (.int q1)]) dX3_wrongBook_5 rfl rfl (Nat.le_of_ble_eq_true rfl) rfl rfl ?_
  refine g_iload_n (pc' := 7) dX3_wrongBook_6 rfl rfl rfl ?_
  refine g_if_eq (tgt := 14) (pc' := 10) dX3_wrongBook_7 (by decide) rfl (fun h2 => ?_) (fun h2 => ?_)
  · replace hf := (if_pos h2).symm.trans hf
    refine g_iload_n (pc' := 15) dX3_wrongBook_14 rfl rfl rfl ?_
    obtain ⟨q3, hq3, hf⟩ := Option.bind_eq_some_iff.mp hf
    refine g_callS (pc' := 18) (as := [.int x2]) (wX3_isHouse g _ x2 hq3) oX3_isHouse ⟨Nat.le_of_ble_eq_true rfl, Nat.le_of_ble_eq_true rfl⟩ dX3_wrongBook_15 rfl q1108 q1109 q86 (Nat.le_of_ble_eq_true rfl) (Nat.le_of_ble_eq_true rfl) (g_rI ?_) g_nt rfl
    refine g_if_eq (tgt := 25) (pc' := 21) dX3_wrongBook_18 (by decide) rfl (fun h4 => ?_) (fun h4 => ?_)
    · replace hf := (if_pos h4).symm.trans hf
      refine g_ldc (pc' := 27) dX3_wrongBook_25 rfl q1116 ?_
      obtain rfl := Option.some.inj hf
      exact g_iret dX3_wrongBook_27 rfl rfl ⟨rfl, rfl⟩
    · replace hf := (if_neg h4).symm.trans hf
      refine g_iconst (pc' := 22) (v := 0) dX3_wrongBook_21 rfl (by decide) ?_
      refine g_goto (tgt := 27) dX3_wrongBook_22 (by decide) ?_
      obtain rfl := Option.some.inj hf
      exact g_iret dX3_wrongBook_27 rfl rfl ⟨rfl, rfl⟩
  · replace hf := (if_neg h2).symm.trans hf
    refine g_iload_n (pc' := 11) dX3_wrongBook_10 rfl rfl rfl ?_
    refine g_goto (tgt := 27) dX3_wrongBook_11 (by decide) ?_
    obtain rfl := Option.some.inj hf
    exact g_iret dX3_wrongBook_27 rfl rfl ⟨rfl, rfl⟩
def mdX3_book : bMD := (yX3_book, cX3_book, 5, (some FieldType.int), [], 8, 165)
theorem oX3_book : bOkc mdX3_book 2 := ⟨by decide +kernel, ⟨by decide +kernel, by decide +kernel⟩, by decide +kernel, q1504⟩
def fX3_book_l24 (y1 : Int32) (y2 : Int32) (rec : (Int32 × tM) → Option (Int32 × tM)) (s : Int32 × tM) : Option (Int32 × tM) :=
  Option.bind (rA s.2 13 y1) fun v4 =>
  (if v4 ≤ s.1 then
  some (s.1, s.2)
else
  Option.bind (rA s.2 12 y1) fun v6 =>
  Option.bind (fX3_has s.2 y2 1) fun q7 =>
  Option.bind (fX3_narrowed v6 ((q7 : Int32).toInt64)) fun q8 =>
  Option.bind (wL s.2 14 ((40 * y1) + s.1) q8) fun w9 =>
  Option.bind (fX3_day w9) fun q10 =>
  rec ((s.1 + 1), q10))
def fX3_book (M : tM) (x1 : Int32) (x2 : Int32) : Option (Int32 × tM) :=
  Option.bind (fX3_wrongBook M x1 x2) fun q1 =>
  (if q1 = 0 then
  Option.bind (fX3_laysAside M) fun q3 =>
  Option.bind (lpF (fX3_book_l24 x1 x2) FU (0, q3)) fun q11 =>
  Option.bind (rA q11.2 13 x1) fun v12 =>
  Option.bind (fX3_takesBack q11.2 v12) fun q13 =>
  some (q13.1, q13.2)
else
  Option.bind (fX3_finds M q1) fun q14 =>
  some (q14.1, q14.2))
set_option maxHeartbeats 4000000 in
theorem wX3_book_l24 {g : bGh} {A : tA} (hA : tO A) {w : bWl} {n0 u0 : Nat} {Q : Outcome → bWl → Prop} (y1 : Int32) (y2 : Int32) : ∀ (n : Nat) (s : Int32 × tM) (r : (Int32 × tM)), lpF (fX3_book_l24 y1 y2) n s = some r → bG (g, mdX3_book, n0, u0, Q) (tW A r.2 w) 73 [some (.ref A.1), some (.int y1), some (.int y2), none, some (.int r.1)] [] → bG (g, mdX3_book, n0, u0, Q) (tW A s.2 w) 24 [some (.ref A.1), some (.int y1), some (.int y2), none, some (.int s.1)] [] := by
  intro n
  induction n with
  | zero => intro s r hf; cases hf
  | succ n ih =>
    intro s r hf kx
    rw [lpF_s] at hf
    unfold fX3_book_l24 at hf
    refine g_iload (pc' := 26) dX3_book_24 rfl rfl ?_
    refine g_aload_n (pc' := 27) dX3_book_26 rfl rfl rfl ?_
    refine gt_get (k := 13) (pc' := 30) (by decide) dX3_book_27 rfl q1061 rfl ?_
    refine g_iload_n (pc' := 31) dX3_book_30 rfl rfl rfl ?_
    obtain ⟨v4, hv4, hf⟩ := Option.bind_eq_some_iff.mp hf
    refine gt_iald (pc' := 32) hA (by decide) dX3_book_31 rfl hv4 ?_
    refine g_icmp_ge (tgt := 73) (pc' := 35) dX3_book_32 (by decide) rfl (fun h5 => ?_) (fun h5 => ?_)
    · replace hf := (if_pos h5).symm.trans hf
      obtain rfl := Option.some.inj hf
      exact kx
    · replace hf := (if_neg h5).symm.trans hf
      refine g_aload_n (pc' := 36) dX3_book_35 rfl rfl rfl ?_
      refine gt_get (k := 14) (pc' := 39) (by decide) dX3_book_36 rfl q1062 rfl ?_
      refine g_bipush (pc' := 41) (v := 40) dX3_book_39 rfl (by decide) ?_
      refine g_iload_n (pc' := 42) dX3_book_41 rfl rfl rfl ?_
      refine g_imul (pc' := 43) dX3_book_42 rfl ?_
      refine g_iload (pc' := 45) dX3_book_43 rfl rfl ?_
      refine g_iadd (pc' := 46) dX3_book_45 rfl ?_
      refine g_aload_n (pc' := 47) dX3_book_46 rfl rfl rfl ?_
      refine gt_get (k := 12) (pc' := 50) (by decide) dX3_book_47 rfl q1060 rfl ?_
      refine g_iload_n (pc' := 51) dX3_book_50 rfl rfl rfl ?_
      obtain ⟨v6, hv6, hf⟩ := Option.bind_eq_some_iff.mp hf
      refine gt_iald (pc' := 52) hA (by decide) dX3_book_51 rfl hv6 ?_
      refine g_aload_n (pc' := 53) dX3_book_52 rfl rfl rfl ?_
      refine g_iload_n (pc' := 54) dX3_book_53 rfl rfl rfl ?_
      refine g_iconst (pc' := 55) (v := 1) dX3_book_54 rfl (by decide) ?_
      obtain ⟨q7, hq7, hf⟩ := Option.bind_eq_some_iff.mp hf
      refine g_callV (pc' := 58) (mx := mdX3_has) (as := [.int y2, .int 1]) (wX3_has g hA _ _ y2 1 hq7) oX3_has ⟨Nat.le_of_ble_eq_true rfl, Nat.le_of_ble_eq_true rfl⟩ dX3_book_55 rfl (ci := 3) rfl tC ⟨by decide +kernel, by decide +kernel⟩ oX3_has.2.2.2 rfl q1126 q1128 qs34 qs34 q1128 (Nat.le_of_ble_eq_true rfl) (Nat.le_of_ble_eq_true rfl) (g_rI ?_) g_nt rfl
      refine g_i2l (pc' := 59) dX3_book_58 rfl ?_
      obtain ⟨q8, hq8, hf⟩ := Option.bind_eq_some_iff.mp hf
      refine g_callS (pc' := 62) (as := [.int v6, .long ((q7 : Int32).toInt64)]) (wX3_narrowed g _ v6 ((q7 : Int32).toInt64) hq8) oX3_narrowed ⟨Nat.le_of_ble_eq_true rfl, Nat.le_of_ble_eq_true rfl⟩ dX3_book_59 rfl q1490 q1491 q86 (Nat.le_of_ble_eq_true rfl) (Nat.le_of_ble_eq_true rfl) (g_rJ ?_) g_nt rfl
      obtain ⟨w9, hw9, hf⟩ := Option.bind_eq_some_iff.mp hf
      refine gt_last (pc' := 63) hA (by decide) dX3_book_62 rfl hw9 ?_
      refine g_aload_n (pc' := 64) dX3_book_63 rfl rfl rfl ?_
      obtain ⟨q10, hq10, hf⟩ := Option.bind_eq_some_iff.mp hf
      refine g_callV (pc' := 67) (mx := mdX3_day) (as := []) (wX3_day g hA _ _ hq10) oX3_day ⟨Nat.le_of_ble_eq_true rfl, Nat.le_of_ble_eq_true rfl⟩ dX3_book_64 rfl (ci := 3) rfl tC ⟨by decide +kernel, by decide +kernel⟩ oX3_day.2.2.2 rfl q1263 q1265 qs51 qs51 q1265 (Nat.le_of_ble_eq_true rfl) (Nat.le_of_ble_eq_true rfl) (g_rV ?_) g_nt rfl
      refine g_iinc (pc' := 70) (v := s.1 + 1) (L' := [some (.ref A.1), some (.int y1), some (.int y2), none, some (.int (s.1 + 1))]) dX3_book_67 rfl rfl rfl (Nat.le_of_ble_eq_true rfl) rfl rfl ?_
      refine g_goto (tgt := 24) dX3_book_70 (by decide) ?_
      exact ih _ r hf kx
set_option maxHeartbeats 4000000 in
theorem wX3_book (g : bGh) {A : tA} (hA : tO A) (w : bWl) (M : tM) (x1 : Int32) (x2 : Int32) {r : (Int32 × tM)} (hf : fX3_book M x1 x2 = some r) : bM g mdX3_book (tW A M w) [.ref A.1, .int x1, .int x2] (q_ (eI r.1) (tW A r.2 w)) := by
  unfold fX3_book at hf
  change bG _ _ 0 [some (.ref A.1), some (.int x1), some (.int x2)] []
  refine g_aload_n (pc' := 1) dX3_book_0 rfl rfl rfl ?_
  refine g_iload_n (pc' := 2) dX3_book_1 rfl rfl rfl ?_
  refine g_iload_n (pc' := 3) dX3_book_2 rfl rfl rfl ?_
  obtain ⟨q1, hq1, hf⟩ := Option.bind_eq_some_iff.mp hf
  refine g_callV (pc' := 6) (mx := mdX3_wrongBook) (as := [.int x1, .int x2]) (wX3_wrongBook g hA _ _ x1 x2 hq1) oX3_wrongBook ⟨Nat.le_of_ble_eq_true rfl, Nat.le_of_ble_eq_true rfl⟩ dX3_book_3 rfl (ci := 3) rfl tC ⟨by decide +kernel, by decide +kernel⟩ oX3_wrongBook.2.2.2 rfl q1505 q1507 qs79 qs79 q1507 (Nat.le_of_ble_eq_true rfl) (Nat.le_of_ble_eq_true rfl) (g_rI ?_) g_nt rfl
  refine g_istore_n (pc' := 7) (L' := [some (.ref A.1), some (.int x1), some (.int x2), some (.int q1)]) dX3_book_6 rfl rfl (Nat.le_of_ble_eq_true rfl) rfl rfl ?_
  refine g_iload_n (pc' := 8) dX3_book_7 rfl rfl rfl ?_
  refine g_if_eq (tgt := 17) (pc' := 11) dX3_book_8 (by decide) rfl (fun h2 => ?_) (fun h2 => ?_)
  · replace hf := (if_pos h2).symm.trans hf
    refine g_aload_n (pc' := 18) dX3_book_17 rfl rfl rfl ?_
    obtain ⟨q3, hq3, hf⟩ := Option.bind_eq_some_iff.mp hf
    refine g_callV (pc' := 21) (mx := mdX3_laysAside) (as := []) (wX3_laysAside g hA _ _ hq3) oX3_laysAside ⟨Nat.le_of_ble_eq_true rfl, Nat.le_of_ble_eq_true rfl⟩ dX3_book_18 rfl (ci := 3) rfl tC ⟨by decide +kernel, by decide +kernel⟩ oX3_laysAside.2.2.2 rfl q1314 q1316 qs61 qs61 q1316 (Nat.le_of_ble_eq_true rfl) (Nat.le_of_ble_eq_true rfl) (g_rV ?_) g_nt rfl
    refine g_iconst (pc' := 22) (v := 0) dX3_book_21 rfl (by decide) ?_
    refine g_istore (pc' := 24) (L' := [some (.ref A.1), some (.int x1), some (.int x2), some (.int q1), some (.int 0)]) dX3_book_22 rfl (Nat.le_of_ble_eq_true rfl) rfl rfl ?_
    refine g_drop [3] (L' := [some (.ref A.1), some (.int x1), some (.int x2), none, some (.int 0)]) rfl ?_
    obtain ⟨q11, hq11, hf⟩ := Option.bind_eq_some_iff.mp hf
    refine wX3_book_l24 hA x1 x2 FU (0, q3) q11 hq11 ?_
    refine g_aload_n (pc' := 74) dX3_book_73 rfl rfl rfl ?_
    refine g_aload_n (pc' := 75) dX3_book_74 rfl rfl rfl ?_
    refine gt_get (k := 13) (pc' := 78) (by decide) dX3_book_75 rfl q1061 rfl ?_
    refine g_iload_n (pc' := 79) dX3_book_78 rfl rfl rfl ?_
    obtain ⟨v12, hv12, hf⟩ := Option.bind_eq_some_iff.mp hf
    refine gt_iald (pc' := 80) hA (by decide) dX3_book_79 rfl hv12 ?_
    obtain ⟨q13, hq13, hf⟩ := Option.bind_eq_some_iff.mp hf
    refine g_callV (pc' := 83) (mx := mdX3_takesBack) (as := [.int v12]) (wX3_takesBack g hA _ _ v12 hq13) oX3_takesBack ⟨Nat.le_of_ble_eq_true rfl, Nat.le_of_ble_eq_true rfl⟩ dX3_book_80 rfl (ci := 3) rfl tC ⟨by decide +kernel, by decide +kernel⟩ oX3_takesBack.2.2.2 rfl q1318 q1320 qs62 qs62 q1320 (Nat.le_of_ble_eq_true rfl) (Nat.le_of_ble_eq_true rfl) (g_rI ?_) g_nt rfl
    obtain rfl := Option.some.inj hf
    exact g_iret dX3_book_83 rfl rfl ⟨rfl, rfl⟩
  · replace hf := (if_neg h2).symm.trans hf
    refine g_aload_n (pc' := 12) dX3_book_11 rfl rfl rfl ?_
    refine g_iload_n (pc' := 13) dX3_book_12 rfl rfl rfl ?_
    obtain ⟨q14, hq14, hf⟩ := Option.bind_eq_some_iff.mp hf
    refine g_callV (pc' := 16) (mx := mdX3_finds) (as := [.int q1]) (wX3_finds g hA _ _ q1 hq14) oX3_finds ⟨Nat.le_of_ble_eq_true rfl, Nat.le_of_ble_eq_true rfl⟩ dX3_book_13 rfl (ci := 3) rfl tC ⟨by decide +kernel, by decide +kernel⟩ oX3_finds.2.2.2 rfl q1117 q1119 qs33 qs33 q1119 (Nat.le_of_ble_eq_true rfl) (Nat.le_of_ble_eq_true rfl) (g_rI ?_) g_nt rfl
    obtain rfl := Option.some.inj hf
    exact g_iret dX3_book_16 rfl rfl ⟨rfl, rfl⟩
def mdX3_isBook : bMD := (yX3_isBook, cX3_isBook, 4, (some FieldType.boolean), [], 8, 165)
theorem oX3_isBook : bOkc mdX3_isBook 2 := ⟨by decide +kernel, ⟨by decide +kernel, by decide +kernel⟩, by decide +kernel, q1516⟩
def fX3_isBook_l2 (y1 : Int32) (y2 : Int32) (rec : (Int32 × tM) → Option ((Int32 × tM) ⊕ (Int32 × tM))) (s : Int32 × tM) : Option ((Int32 × tM) ⊕ (Int32 × tM)) :=
  Option.bind (rA s.2 13 y1) fun v1 =>
  (if v1 ≤ s.1 then
  some (Sum.inl (s.1, s.2))
else
  Option.bind (rL s.2 14 ((40 * y1) + s.1)) fun v3 =>
  Option.bind (fX3_has s.2 y2 1) fun q4 =>
  (if (lg_cmp v3 ((q4 : Int32).toInt64)) = 0 then
  Option.bind (fX3_day s.2) fun q6 =>
  rec ((s.1 + 1), q6)
else
  some (Sum.inr (0, s.2))))
def fX3_isBook (M : tM) (x1 : Int32) (x2 : Int32) : Option (Int32 × tM) :=
  Option.bind (lpF (fX3_isBook_l2 x1 x2) FU (0, M)) fun q7 => sx q7 (fun e8 =>
  some (1, e8.2)) (fun e8 => some e8)
set_option maxHeartbeats 4000000 in
theorem wX3_isBook_l2 {g : bGh} {A : tA} (hA : tO A) {w : bWl} {n0 u0 : Nat} {Q : Outcome → bWl → Prop} (y1 : Int32) (y2 : Int32) : ∀ (n : Nat) (s : Int32 × tM) (r : ((Int32 × tM) ⊕ (Int32 × tM))), lpF (fX3_isBook_l2 y1 y2) n s = some r → (∀ e, r = Sum.inl e → bG (g, mdX3_isBook, n0, u0, Q) (tW A e.2 w) 46 [some (.ref A.1), some (.int y1), some (.int y2), some (.int e.1)] []) → (∀ e, r = Sum.inr e → Q (.returned (eI e.1)) (tW A e.2 w)) → bG (g, mdX3_isBook, n0, u0, Q) (tW A s.2 w) 2 [some (.ref A.1), some (.int y1), some (.int y2), some (.int s.1)] [] := by
  intro n
  induction n with
  | zero => intro s r hf; cases hf
  | succ n ih =>
    intro s r hf kx kr
    rw [lpF_s] at hf
    unfold fX3_isBook_l2 at hf
    refine g_iload_n (pc' := 3) dX3_isBook_2 rfl rfl rfl ?_
    refine g_aload_n (pc' := 4) dX3_isBook_3 rfl rfl rfl ?_
    refine gt_get (k := 13) (pc' := 7) (by decide) dX3_isBook_4 rfl q1061 rfl ?_
    refine g_iload_n (pc' := 8) dX3_isBook_7 rfl rfl rfl ?_
    obtain ⟨v1, hv1, hf⟩ := Option.bind_eq_some_iff.mp hf
    refine gt_iald (pc' := 9) hA (by decide) dX3_isBook_8 rfl hv1 ?_
    refine g_icmp_ge (tgt := 46) (pc' := 12) dX3_isBook_9 (by decide) rfl (fun h2 => ?_) (fun h2 => ?_)
    · replace hf := (if_pos h2).symm.trans hf
      obtain rfl := Option.some.inj hf
      exact (kx _ rfl)
    · replace hf := (if_neg h2).symm.trans hf
      refine g_aload_n (pc' := 13) dX3_isBook_12 rfl rfl rfl ?_
      refine gt_get (k := 14) (pc' := 16) (by decide) dX3_isBook_13 rfl q1062 rfl ?_
      refine g_bipush (pc' := 18) (v := 40) dX3_isBook_16 rfl (by decide) ?_
      refine g_iload_n (pc' := 19) dX3_isBook_18 rfl rfl rfl ?_
      refine g_imul (pc' := 20) dX3_isBook_19 rfl ?_
      refine g_iload_n (pc' := 21) dX3_isBook_20 rfl rfl rfl ?_
      refine g_iadd (pc' := 22) dX3_isBook_21 rfl ?_
      obtain ⟨v3, hv3, hf⟩ := Option.bind_eq_some_iff.mp hf
      refine gt_lald (pc' := 23) hA (by decide) dX3_isBook_22 rfl hv3 ?_
      refine g_aload_n (pc' := 24) dX3_isBook_23 rfl rfl rfl ?_
      refine g_iload_n (pc' := 25) dX3_isBook_24 rfl rfl rfl ?_
      refine g_iconst (pc' := 26) (v := 1) dX3_isBook_25 rfl (by decide) ?_
      obtain ⟨q4, hq4, hf⟩ := Option.bind_eq_some_iff.mp hf
      refine g_callV (pc' := 29) (mx := mdX3_has) (as := [.int y2, .int 1]) (wX3_has g hA _ _ y2 1 hq4) oX3_has ⟨Nat.le_of_ble_eq_true rfl, Nat.le_of_ble_eq_true rfl⟩ dX3_isBook_26 rfl (ci := 3) rfl tC ⟨by decide +kernel, by decide +kernel⟩ oX3_has.2.2.2 rfl q1126 q1128 qs34 qs34 q1128 (Nat.le_of_ble_eq_true rfl) (Nat.le_of_ble_eq_true rfl) (g_rI ?_) g_nt rfl
      refine g_i2l (pc' := 30) dX3_isBook_29 rfl ?_
      refine g_lcmp (pc' := 31) dX3_isBook_30 rfl ?_
      refine g_if_eq (tgt := 36) (pc' := 34) dX3_isBook_31 (by decide) rfl (fun h5 => ?_) (fun h5 => ?_)
      · replace hf := (if_pos h5).symm.trans hf
        refine g_aload_n (pc' := 37) dX3_isBook_36 rfl rfl rfl ?_
        obtain ⟨q6, hq6, hf⟩ := Option.bind_eq_some_iff.mp hf
        refine g_callV (pc' := 40) (mx := mdX3_day) (as := []) (wX3_day g hA _ _ hq6) oX3_day ⟨Nat.le_of_ble_eq_true rfl, Nat.le_of_ble_eq_true rfl⟩ dX3_isBook_37 rfl (ci := 3) rfl tC ⟨by decide +kernel, by decide +kernel⟩ oX3_day.2.2.2 rfl q1263 q1265 qs51 qs51 q1265 (Nat.le_of_ble_eq_true rfl) (Nat.le_of_ble_eq_true rfl) (g_rV ?_) g_nt rfl
        refine g_iinc (pc' := 43) (v := s.1 + 1) (L' := [some (.ref A.1), some (.int y1), some (.int y2), some (.int (s.1 + 1))]) dX3_isBook_40 rfl rfl rfl (Nat.le_of_ble_eq_true rfl) rfl rfl ?_
        refine g_goto (tgt := 2) dX3_isBook_43 (by decide) ?_
        exact ih _ r hf kx kr
      · replace hf := (if_neg h5).symm.trans hf
        refine g_iconst (pc' := 35) (v := 0) dX3_isBook_34 rfl (by decide) ?_
        obtain rfl := Option.some.inj hf
        exact g_iret dX3_isBook_35 rfl (by decide +kernel) (kr _ rfl)
set_option maxHeartbeats 4000000 in
theorem wX3_isBook (g : bGh) {A : tA} (hA : tO A) (w : bWl) (M : tM) (x1 : Int32) (x2 : Int32) {r : (Int32 × tM)} (hf : fX3_isBook M x1 x2 = some r) : bM g mdX3_isBook (tW A M w) [.ref A.1, .int x1, .int x2] (q_ (eI r.1) (tW A r.2 w)) := by
  unfold fX3_isBook at hf
  change bG _ _ 0 [some (.ref A.1), some (.int x1), some (.int x2)] []
  refine g_iconst (pc' := 1) (v := 0) dX3_isBook_0 rfl (by decide) ?_
  refine g_istore_n (pc' := 2) (L' := [some (.ref A.1), some (.int x1), some (.int x2), some (.int 0)]) dX3_isBook_1 rfl rfl (Nat.le_of_ble_eq_true rfl) rfl rfl ?_
  obtain ⟨q7, hq7, hf⟩ := Option.bind_eq_some_iff.mp hf
  cases q7 with
  | inl e8 =>
    replace hf : _ = some _ := hf
    refine wX3_isBook_l2 hA x1 x2 FU _ (Sum.inl e8) hq7 (fun e' he => ?_) (fun e' he => by cases he)
    cases he
    refine g_iconst (pc' := 47) (v := 1) dX3_isBook_46 rfl (by decide) ?_
    obtain rfl := Option.some.inj hf
    exact g_iret dX3_isBook_47 rfl (by decide +kernel) ⟨rfl, rfl⟩
  | inr e8 =>
    refine wX3_isBook_l2 hA x1 x2 FU _ (Sum.inr e8) hq7 (fun e' he => by cases he) (fun e' he => ?_)
    cases he
    obtain rfl := Option.some.inj hf
    exact ⟨rfl, rfl⟩
def mdX3_read : bMD := (yX3_read, cX3_read, 7, (some FieldType.int), [], 9, 188)
theorem oX3_read : bOkc mdX3_read 2 := ⟨by decide +kernel, ⟨by decide +kernel, by decide +kernel⟩, by decide +kernel, q1512⟩
def fX3_read_l34 (y1 : Int32) (y2 : Int32) (y4 : Int32) (rec : (Int32 × Int32 × tM) → Option (Int32 × Int32 × tM)) (s : Int32 × Int32 × tM) : Option (Int32 × Int32 × tM) :=
  Option.bind (rA s.2.2 0 0) fun v5 =>
  (if (6 * v5) ≤ s.2.1 then
  some (s.1, s.2.1, s.2.2)
else
  Option.bind (α := Int32 × tM) ((if ((y4 >>> ((s.2.1 / 6) &&& 31)) &&& 1) = 1 then
  Option.bind (fX3_spotOf (s.2.1 / 6) 0) fun q9 =>
  Option.bind (wA s.2.2 0 q9 (s.2.1 - s.2.1 / 6 * 6)) fun w10 =>
  Option.bind (fX3_isBook w10 y1 y2) fun q11 =>
  Option.bind (α := Int32) ((if q11.1 = 0 then
  some 0
else
  some 1)) fun q12 =>
  Option.bind (fX3_takesBack q11.2 (s.1 + q12)) fun q14 =>
  some (q14.1, q14.2)
else
  some (s.1, s.2.2))) fun q7 =>
  rec (q7.1, (s.2.1 + 1), q7.2))
def fX3_read (M : tM) (x1 : Int32) (x2 : Int32) : Option (Int32 × tM) :=
  Option.bind (fX3_wrongBook M x1 x2) fun q1 =>
  (if q1 = 0 then
  Option.bind (fX3_thoseAt M x2) fun q3 =>
  Option.bind (fX3_laysAside M) fun q4 =>
  Option.bind (lpF (fX3_read_l34 x1 x2 q3) FU (0, 0, q4)) fun q15 =>
  some (q15.1, q15.2.2)
else
  Option.bind (fX3_finds M q1) fun q16 =>
  some (q16.1, q16.2))
set_option maxHeartbeats 4000000 in
theorem wX3_read_l34 {g : bGh} {A : tA} (hA : tO A) {w : bWl} {n0 u0 : Nat} {Q : Outcome → bWl → Prop} (y1 : Int32) (y2 : Int32) (y4 : Int32) : ∀ (n : Nat) (s : Int32 × Int32 × tM) (r : (Int32 × Int32 × tM)), lpF (fX3_read_l34 y1 y2 y4) n s = some r → bG (g, mdX3_read, n0, u0, Q) (tW A r.2.2 w) 110 [some (.ref A.1), some (.int y1), some (.int y2), none, some (.int y4), some (.int r.1), some (.int r.2.1)] [] → bG (g, mdX3_read, n0, u0, Q) (tW A s.2.2 w) 34 [some (.ref A.1), some (.int y1), some (.int y2), none, some (.int y4), some (.int s.1), some (.int s.2.1)] [] := by
  intro n
  induction n with
  | zero => intro s r hf; cases hf
  | succ n ih =>
    intro s r hf kx
    rw [lpF_s] at hf
    unfold fX3_read_l34 at hf
    refine g_iload (pc' := 36) dX3_read_34 rfl rfl ?_
    refine g_bipush (pc' := 38) (v := 6) dX3_read_36 rfl (by decide) ?_
    refine g_aload_n (pc' := 39) dX3_read_38 rfl rfl rfl ?_
    refine gt_get (k := 0) (pc' := 42) (by decide) dX3_read_39 rfl q1048 rfl ?_
    refine g_iconst (pc' := 43) (v := 0) dX3_read_42 rfl (by decide) ?_
    obtain ⟨v5, hv5, hf⟩ := Option.bind_eq_some_iff.mp hf
    refine gt_iald (pc' := 44) hA (by decide) dX3_read_43 rfl hv5 ?_
    refine g_imul (pc' := 45) dX3_read_44 rfl ?_
    refine g_icmp_ge (tgt := 110) (pc' := 48) dX3_read_45 (by decide) rfl (fun h6 => ?_) (fun h6 => ?_)
    · replace hf := (if_pos h6).symm.trans hf
      obtain rfl := Option.some.inj hf
      exact kx
    · replace hf := (if_neg h6).symm.trans hf
      refine g_iload (pc' := 50) dX3_read_48 rfl rfl ?_
      refine g_iload (pc' := 52) dX3_read_50 rfl rfl ?_
      refine g_bipush (pc' := 54) (v := 6) dX3_read_52 rfl (by decide) ?_
      refine g_idiv (pc' := 55) dX3_read_54 rfl (by decide) ?_
      refine g_ishr (pc' := 56) dX3_read_55 rfl ?_
      refine g_iconst (pc' := 57) (v := 1) dX3_read_56 rfl (by decide) ?_
      refine g_iand (pc' := 58) dX3_read_57 rfl ?_
      refine g_iconst (pc' := 59) (v := 1) dX3_read_58 rfl (by decide) ?_
      obtain ⟨q7, hqq7, hf⟩ := Option.bind_eq_some_iff.mp hf
      have hJq7 : bG (g, mdX3_read, n0, u0, Q) (tW A q7.2 w) 104 [some (.ref A.1), some (.int y1), some (.int y2), none, some (.int y4), some (.int q7.1), some (.int s.2.1)] [] := by
        refine g_iinc (pc' := 107) (v := s.2.1 + 1) (L' := [some (.ref A.1), some (.int y1), some (.int y2), none, some (.int y4), some (.int q7.1), some (.int (s.2.1 + 1))]) dX3_read_104 rfl rfl rfl (Nat.le_of_ble_eq_true rfl) rfl rfl ?_
        refine g_goto (tgt := 34) dX3_read_107 (by decide) ?_
        exact ih _ r hf kx
      replace hf := hqq7
      refine g_icmp_ne (tgt := 104) (pc' := 62) dX3_read_59 (by decide) rfl (fun h8 => ?_) (fun h8 => ?_)
      · replace hf := (if_neg h8).symm.trans hf
        obtain rfl := Option.some.inj hf
        exact hJq7
      · replace hf := (if_pos h8).symm.trans hf
        refine g_aload_n (pc' := 63) dX3_read_62 rfl rfl rfl ?_
        refine gt_get (k := 0) (pc' := 66) (by decide) dX3_read_63 rfl q1048 rfl ?_
        refine g_iload (pc' := 68) dX3_read_66 rfl rfl ?_
        refine g_bipush (pc' := 70) (v := 6) dX3_read_68 rfl (by decide) ?_
        refine g_idiv (pc' := 71) dX3_read_70 rfl (by decide) ?_
        refine g_iconst (pc' := 72) (v := 0) dX3_read_71 rfl (by decide) ?_
        obtain ⟨q9, hq9, hf⟩ := Option.bind_eq_some_iff.mp hf
        refine g_callS (pc' := 75) (as := [.int (s.2.1 / 6), .int 0]) (wX3_spotOf g _ (s.2.1 / 6) 0 hq9) oX3_spotOf ⟨Nat.le_of_ble_eq_true rfl, Nat.le_of_ble_eq_true rfl⟩ dX3_read_72 rfl q1138 q1139 q86 (Nat.le_of_ble_eq_true rfl) (Nat.le_of_ble_eq_true rfl) (g_rI ?_) g_nt rfl
        refine g_iload (pc' := 77) dX3_read_75 rfl rfl ?_
        refine g_bipush (pc' := 79) (v := 6) dX3_read_77 rfl (by decide) ?_
        refine g_irem (pc' := 80) dX3_read_79 rfl (by decide) ?_
        obtain ⟨w10, hw10, hf⟩ := Option.bind_eq_some_iff.mp hf
        refine gt_iast (pc' := 81) hA (by decide) dX3_read_80 rfl hw10 ?_
        refine g_aload_n (pc' := 82) dX3_read_81 rfl rfl rfl ?_
        refine g_iload (pc' := 84) dX3_read_82 rfl rfl ?_
        refine g_aload_n (pc' := 85) dX3_read_84 rfl rfl rfl ?_
        refine g_iload_n (pc' := 86) dX3_read_85 rfl rfl rfl ?_
        refine g_iload_n (pc' := 87) dX3_read_86 rfl rfl rfl ?_
        obtain ⟨q11, hq11, hf⟩ := Option.bind_eq_some_iff.mp hf
        refine g_callV (pc' := 90) (mx := mdX3_isBook) (as := [.int y1, .int y2]) (wX3_isBook g hA _ _ y1 y2 hq11) oX3_isBook ⟨Nat.le_of_ble_eq_true rfl, Nat.le_of_ble_eq_true rfl⟩ dX3_read_87 rfl (ci := 3) rfl tC ⟨by decide +kernel, by decide +kernel⟩ oX3_isBook.2.2.2 rfl q1513 q1515 qs80 qs80 q1515 (Nat.le_of_ble_eq_true rfl) (Nat.le_of_ble_eq_true rfl) (g_rI ?_) g_nt rfl
        obtain ⟨q12, hqq12, hf⟩ := Option.bind_eq_some_iff.mp hf
        have hJq12 : bG (g, mdX3_read, n0, u0, Q) (tW A q11.2 w) 98 [some (.ref A.1), some (.int y1), some (.int y2), none, some (.int y4), none, some (.int s.2.1)] [.int q12, .int s.1, .ref A.1] := by
          refine g_iadd (pc' := 99) dX3_read_98 rfl ?_
          obtain ⟨q14, hq14, hf⟩ := Option.bind_eq_some_iff.mp hf
          refine g_callV (pc' := 102) (mx := mdX3_takesBack) (as := [.int (s.1 + q12)]) (wX3_takesBack g hA _ _ (s.1 + q12) hq14) oX3_takesBack ⟨Nat.le_of_ble_eq_true rfl, Nat.le_of_ble_eq_true rfl⟩ dX3_read_99 rfl (ci := 3) rfl tC ⟨by decide +kernel, by decide +kernel⟩ oX3_takesBack.2.2.2 rfl q1318 q1320 qs62 qs62 q1320 (Nat.le_of_ble_eq_true rfl) (Nat.le_of_ble_eq_true rfl) (g_rI ?_) g_nt rfl
          refine g_istore (pc' := 104) (L' := [some (.ref A.1), some (.int y1), some (.int y2), none, some (.int y4), some (.int q14.1), some (.int s.2.1)]) dX3_read_102 rfl (Nat.le_of_ble_eq_true rfl) rfl rfl ?_
          obtain rfl := Option.some.inj hf
          exact hJq7
        replace hf := hqq12
        refine g_if_eq (tgt := 97) (pc' := 93) dX3_read_90 (by decide) rfl (fun h13 => ?_) (fun h13 => ?_)
        · replace hf := (if_pos h13).symm.trans hf
          refine g_iconst (pc' := 98) (v := 0) dX3_read_97 rfl (by decide) ?_
          obtain rfl := Option.some.inj hf
          refine g_drop [5] (L' := [some (.ref A.1), some (.int y1), some (.int y2), none, some (.int y4), none, some (.int s.2.1)]) rfl ?_
          exact hJq12
        · replace hf := (if_neg h13).symm.trans hf
          refine g_iconst (pc' := 94) (v := 1) dX3_read_93 rfl (by decide) ?_
          refine g_goto (tgt := 98) dX3_read_94 (by decide) ?_
          obtain rfl := Option.some.inj hf
          refine g_drop [5] (L' := [some (.ref A.1), some (.int y1), some (.int y2), none, some (.int y4), none, some (.int s.2.1)]) rfl ?_
          exact hJq12
set_option maxHeartbeats 4000000 in
theorem wX3_read (g : bGh) {A : tA} (hA : tO A) (w : bWl) (M : tM) (x1 : Int32) (x2 : Int32) {r : (Int32 × tM)} (hf : fX3_read M x1 x2 = some r) : bM g mdX3_read (tW A M w) [.ref A.1, .int x1, .int x2] (q_ (eI r.1) (tW A r.2 w)) := by
  unfold fX3_read at hf
  change bG _ _ 0 [some (.ref A.1), some (.int x1), some (.int x2)] []
  refine g_aload_n (pc' := 1) dX3_read_0 rfl rfl rfl ?_
  refine g_iload_n (pc' := 2) dX3_read_1 rfl rfl rfl ?_
  refine g_iload_n (pc' := 3) dX3_read_2 rfl rfl rfl ?_
  obtain ⟨q1, hq1, hf⟩ := Option.bind_eq_some_iff.mp hf
  refine g_callV (pc' := 6) (mx := mdX3_wrongBook) (as := [.int x1, .int x2]) (wX3_wrongBook g hA _ _ x1 x2 hq1) oX3_wrongBook ⟨Nat.le_of_ble_eq_true rfl, Nat.le_of_ble_eq_true rfl⟩ dX3_read_3 rfl (ci := 3) rfl tC ⟨by decide +kernel, by decide +kernel⟩ oX3_wrongBook.2.2.2 rfl q1505 q1507 qs79 qs79 q1507 (Nat.le_of_ble_eq_true rfl) (Nat.le_of_ble_eq_true rfl) (g_rI ?_) g_nt rfl
  refine g_istore_n (pc' := 7) (L' := [some (.ref A.1), some (.int x1), some (.int x2), some (.int q1)]) dX3_read_6 rfl rfl (Nat.le_of_ble_eq_true rfl) rfl rfl ?_
  refine g_iload_n (pc' := 8) dX3_read_7 rfl rfl rfl ?_
  refine g_if_eq (tgt := 17) (pc' := 11) dX3_read_8 (by decide) rfl (fun h2 => ?_) (fun h2 => ?_)
  · replace hf := (if_pos h2).symm.trans hf
    refine g_aload_n (pc' := 18) dX3_read_17 rfl rfl rfl ?_
    refine g_iload_n (pc' := 19) dX3_read_18 rfl rfl rfl ?_
    obtain ⟨q3, hq3, hf⟩ := Option.bind_eq_some_iff.mp hf
    refine g_callV (pc' := 22) (mx := mdX3_thoseAt) (as := [.int x2]) (wX3_thoseAt g hA _ _ x2 hq3) oX3_thoseAt ⟨Nat.le_of_ble_eq_true rfl, Nat.le_of_ble_eq_true rfl⟩ dX3_read_19 rfl (ci := 3) rfl tC ⟨by decide +kernel, by decide +kernel⟩ oX3_thoseAt.2.2.2 rfl q1130 q1132 qs35 qs35 q1132 (Nat.le_of_ble_eq_true rfl) (Nat.le_of_ble_eq_true rfl) (g_rI ?_) g_nt rfl
    refine g_istore (pc' := 24) (L' := [some (.ref A.1), some (.int x1), some (.int x2), some (.int q1), some (.int q3)]) dX3_read_22 rfl (Nat.le_of_ble_eq_true rfl) rfl rfl ?_
    refine g_aload_n (pc' := 25) dX3_read_24 rfl rfl rfl ?_
    obtain ⟨q4, hq4, hf⟩ := Option.bind_eq_some_iff.mp hf
    refine g_callV (pc' := 28) (mx := mdX3_laysAside) (as := []) (wX3_laysAside g hA _ _ hq4) oX3_laysAside ⟨Nat.le_of_ble_eq_true rfl, Nat.le_of_ble_eq_true rfl⟩ dX3_read_25 rfl (ci := 3) rfl tC ⟨by decide +kernel, by decide +kernel⟩ oX3_laysAside.2.2.2 rfl q1314 q1316 qs61 qs61 q1316 (Nat.le_of_ble_eq_true rfl) (Nat.le_of_ble_eq_true rfl) (g_rV ?_) g_nt rfl
    refine g_iconst (pc' := 29) (v := 0) dX3_read_28 rfl (by decide) ?_
    refine g_istore (pc' := 31) (L' := [some (.ref A.1), some (.int x1), some (.int x2), some (.int q1), some (.int q3), some (.int 0)]) dX3_read_29 rfl (Nat.le_of_ble_eq_true rfl) rfl rfl ?_
    refine g_iconst (pc' := 32) (v := 0) dX3_read_31 rfl (by decide) ?_
    refine g_istore (pc' := 34) (L' := [some (.ref A.1), some (.int x1), some (.int x2), some (.int q1), some (.int q3), some (.int 0), some (.int 0)]) dX3_read_32 rfl (Nat.le_of_ble_eq_true rfl) rfl rfl ?_
    refine g_drop [3] (L' := [some (.ref A.1), some (.int x1), some (.int x2), none, some (.int q3), some (.int 0), some (.int 0)]) rfl ?_
    obtain ⟨q15, hq15, hf⟩ := Option.bind_eq_some_iff.mp hf
    refine wX3_read_l34 hA x1 x2 q3 FU (0, 0, q4) q15 hq15 ?_
    refine g_iload (pc' := 112) dX3_read_110 rfl rfl ?_
    obtain rfl := Option.some.inj hf
    exact g_iret dX3_read_112 rfl rfl ⟨rfl, rfl⟩
  · replace hf := (if_neg h2).symm.trans hf
    refine g_aload_n (pc' := 12) dX3_read_11 rfl rfl rfl ?_
    refine g_iload_n (pc' := 13) dX3_read_12 rfl rfl rfl ?_
    obtain ⟨q16, hq16, hf⟩ := Option.bind_eq_some_iff.mp hf
    refine g_callV (pc' := 16) (mx := mdX3_finds) (as := [.int q1]) (wX3_finds g hA _ _ q1 hq16) oX3_finds ⟨Nat.le_of_ble_eq_true rfl, Nat.le_of_ble_eq_true rfl⟩ dX3_read_13 rfl (ci := 3) rfl tC ⟨by decide +kernel, by decide +kernel⟩ oX3_finds.2.2.2 rfl q1117 q1119 qs33 qs33 q1119 (Nat.le_of_ble_eq_true rfl) (Nat.le_of_ble_eq_true rfl) (g_rI ?_) g_nt rfl
    obtain rfl := Option.some.inj hf
    exact g_iret dX3_read_16 rfl rfl ⟨rfl, rfl⟩
def mdX3_image : bMD := (yX3_image, cX3_image, 2, (some FieldType.int), [], 1, 12)
theorem oX3_image : bOkc mdX3_image 0 := ⟨by decide +kernel, ⟨by decide +kernel, by decide +kernel⟩, by decide +kernel, q1520⟩
def fX3_image_l2  (rec : (Int32 × tM) → Option (Int32 × tM)) (s : Int32 × tM) : Option (Int32 × tM) :=
  (if 77 ≤ s.1 then
  some (s.1, s.2)
else
  Option.bind (rA s.2 0 s.1) fun v2 =>
  Option.bind (wA s.2 1 s.1 v2) fun w3 =>
  rec ((s.1 + 1), w3))
def fX3_image (M : tM)  : Option (Int32 × tM) :=
  Option.bind (lpF (fX3_image_l2) FU (0, M)) fun q4 =>
  some (1, (wI q4.2 5 1))
set_option maxHeartbeats 4000000 in
theorem wX3_image_l2 {g : bGh} {A : tA} (hA : tO A) {w : bWl} {n0 u0 : Nat} {Q : Outcome → bWl → Prop}  : ∀ (n : Nat) (s : Int32 × tM) (r : (Int32 × tM)), lpF (fX3_image_l2) n s = some r → bG (g, mdX3_image, n0, u0, Q) (tW A r.2 w) 26 [some (.ref A.1), some (.int r.1)] [] → bG (g, mdX3_image, n0, u0, Q) (tW A s.2 w) 2 [some (.ref A.1), some (.int s.1)] [] := by
  intro n
  induction n with
  | zero => intro s r hf; cases hf
  | succ n ih =>
    intro s r hf kx
    rw [lpF_s] at hf
    unfold fX3_image_l2 at hf
    refine g_iload_n (pc' := 3) dX3_image_2 rfl rfl rfl ?_
    refine g_bipush (pc' := 5) (v := 77) dX3_image_3 rfl (by decide) ?_
    refine g_icmp_ge (tgt := 26) (pc' := 8) dX3_image_5 (by decide) rfl (fun h1 => ?_) (fun h1 => ?_)
    · replace hf := (if_pos h1).symm.trans hf
      obtain rfl := Option.some.inj hf
      exact kx
    · replace hf := (if_neg h1).symm.trans hf
      refine g_aload_n (pc' := 9) dX3_image_8 rfl rfl rfl ?_
      refine gt_get (k := 1) (pc' := 12) (by decide) dX3_image_9 rfl q1049 rfl ?_
      refine g_iload_n (pc' := 13) dX3_image_12 rfl rfl rfl ?_
      refine g_aload_n (pc' := 14) dX3_image_13 rfl rfl rfl ?_
      refine gt_get (k := 0) (pc' := 17) (by decide) dX3_image_14 rfl q1048 rfl ?_
      refine g_iload_n (pc' := 18) dX3_image_17 rfl rfl rfl ?_
      obtain ⟨v2, hv2, hf⟩ := Option.bind_eq_some_iff.mp hf
      refine gt_iald (pc' := 19) hA (by decide) dX3_image_18 rfl hv2 ?_
      obtain ⟨w3, hw3, hf⟩ := Option.bind_eq_some_iff.mp hf
      refine gt_iast (pc' := 20) hA (by decide) dX3_image_19 rfl hw3 ?_
      refine g_iinc (pc' := 23) (v := s.1 + 1) (L' := [some (.ref A.1), some (.int (s.1 + 1))]) dX3_image_20 rfl rfl rfl (Nat.le_of_ble_eq_true rfl) rfl rfl ?_
      refine g_goto (tgt := 2) dX3_image_23 (by decide) ?_
      exact ih _ r hf kx
set_option maxHeartbeats 4000000 in
theorem wX3_image (g : bGh) {A : tA} (hA : tO A) (w : bWl) (M : tM)  {r : (Int32 × tM)} (hf : fX3_image M  = some r) : bM g mdX3_image (tW A M w) [.ref A.1] (q_ (eI r.1) (tW A r.2 w)) := by
  unfold fX3_image at hf
  change bG _ _ 0 [some (.ref A.1)] []
  refine g_iconst (pc' := 1) (v := 0) dX3_image_0 rfl (by decide) ?_
  refine g_istore_n (pc' := 2) (L' := [some (.ref A.1), some (.int 0)]) dX3_image_1 rfl rfl (Nat.le_of_ble_eq_true rfl) rfl rfl ?_
  obtain ⟨q4, hq4, hf⟩ := Option.bind_eq_some_iff.mp hf
  refine wX3_image_l2 hA FU (0, M) q4 hq4 ?_
  refine g_aload_n (pc' := 27) dX3_image_26 rfl rfl rfl ?_
  refine g_iconst (pc' := 28) (v := 1) dX3_image_27 rfl (by decide) ?_
  refine gt_put (k := 5) (ty := .boolean) (pc' := 31) (by decide) rfl dX3_image_28 rfl q1053 (by decide +kernel) (by decide +kernel) (by decide +kernel) rfl ?_
  refine g_iconst (pc' := 32) (v := 1) dX3_image_31 rfl (by decide) ?_
  obtain rfl := Option.some.inj hf
  exact g_iret dX3_image_32 rfl rfl ⟨rfl, rfl⟩
def mdX3_undo : bMD := (yX3_undo, cX3_undo, 2, (some FieldType.int), [], 2, 33)
theorem oX3_undo : bOkc mdX3_undo 0 := ⟨by decide +kernel, ⟨by decide +kernel, by decide +kernel⟩, by decide +kernel, q1524⟩
def fX3_undo_l16  (rec : (Int32 × tM) → Option (Int32 × tM)) (s : Int32 × tM) : Option (Int32 × tM) :=
  (if 77 ≤ s.1 then
  some (s.1, s.2)
else
  Option.bind (rA s.2 1 s.1) fun v3 =>
  Option.bind (wA s.2 0 s.1 v3) fun w4 =>
  rec ((s.1 + 1), w4))
def fX3_undo (M : tM)  : Option (Int32 × tM) :=
  (if (M.1 5) = 0 then
  Option.bind (fX3_finds M (-1000000004)) fun q7 =>
  some (q7.1, q7.2)
else
  Option.bind (lpF (fX3_undo_l16) FU (0, M)) fun q5 =>
  Option.bind (rA q5.2 0 0) fun v6 =>
  some (v6, q5.2))
set_option maxHeartbeats 4000000 in
theorem wX3_undo_l16 {g : bGh} {A : tA} (hA : tO A) {w : bWl} {n0 u0 : Nat} {Q : Outcome → bWl → Prop}  : ∀ (n : Nat) (s : Int32 × tM) (r : (Int32 × tM)), lpF (fX3_undo_l16) n s = some r → bG (g, mdX3_undo, n0, u0, Q) (tW A r.2 w) 40 [some (.ref A.1), some (.int r.1)] [] → bG (g, mdX3_undo, n0, u0, Q) (tW A s.2 w) 16 [some (.ref A.1), some (.int s.1)] [] := by
  intro n
  induction n with
  | zero => intro s r hf; cases hf
  | succ n ih =>
    intro s r hf kx
    rw [lpF_s] at hf
    unfold fX3_undo_l16 at hf
    refine g_iload_n (pc' := 17) dX3_undo_16 rfl rfl rfl ?_
    refine g_bipush (pc' := 19) (v := 77) dX3_undo_17 rfl (by decide) ?_
    refine g_icmp_ge (tgt := 40) (pc' := 22) dX3_undo_19 (by decide) rfl (fun h2 => ?_) (fun h2 => ?_)
    · replace hf := (if_pos h2).symm.trans hf
      obtain rfl := Option.some.inj hf
      exact kx
    · replace hf := (if_neg h2).symm.trans hf
      refine g_aload_n (pc' := 23) dX3_undo_22 rfl rfl rfl ?_
      refine gt_get (k := 0) (pc' := 26) (by decide) dX3_undo_23 rfl q1048 rfl ?_
      refine g_iload_n (pc' := 27) dX3_undo_26 rfl rfl rfl ?_
      refine g_aload_n (pc' := 28) dX3_undo_27 rfl rfl rfl ?_
      refine gt_get (k := 1) (pc' := 31) (by decide) dX3_undo_28 rfl q1049 rfl ?_
      refine g_iload_n (pc' := 32) dX3_undo_31 rfl rfl rfl ?_
      obtain ⟨v3, hv3, hf⟩ := Option.bind_eq_some_iff.mp hf
      refine gt_iald (pc' := 33) hA (by decide) dX3_undo_32 rfl hv3 ?_
      obtain ⟨w4, hw4, hf⟩ := Option.bind_eq_some_iff.mp hf
      refine gt_iast (pc' := 34) hA (by decide) dX3_undo_33 rfl hw4 ?_
      refine g_iinc (pc' := 37) (v := s.1 + 1) (L' := [some (.ref A.1), some (.int (s.1 + 1))]) dX3_undo_34 rfl rfl rfl (Nat.le_of_ble_eq_true rfl) rfl rfl ?_
      refine g_goto (tgt := 16) dX3_undo_37 (by decide) ?_
      exact ih _ r hf kx
set_option maxHeartbeats 4000000 in
theorem wX3_undo (g : bGh) {A : tA} (hA : tO A) (w : bWl) (M : tM)  {r : (Int32 × tM)} (hf : fX3_undo M  = some r) : bM g mdX3_undo (tW A M w) [.ref A.1] (q_ (eI r.1) (tW A r.2 w)) := by
  unfold fX3_undo at hf
  change bG _ _ 0 [some (.ref A.1)] []
  refine g_aload_n (pc' := 1) dX3_undo_0 rfl rfl rfl ?_
  refine gt_get (k := 5) (pc' := 4) (by decide) dX3_undo_1 rfl q1053 rfl ?_
  refine g_if_ne (tgt := 14) (pc' := 7) dX3_undo_4 (by decide) rfl (fun h1 => ?_) (fun h1 => ?_)
  · replace hf := (if_neg h1).symm.trans hf
    refine g_iconst (pc' := 15) (v := 0) dX3_undo_14 rfl (by decide) ?_
    refine g_istore_n (pc' := 16) (L' := [some (.ref A.1), some (.int 0)]) dX3_undo_15 rfl rfl (Nat.le_of_ble_eq_true rfl) rfl rfl ?_
    obtain ⟨q5, hq5, hf⟩ := Option.bind_eq_some_iff.mp hf
    refine wX3_undo_l16 hA FU (0, M) q5 hq5 ?_
    refine g_aload_n (pc' := 41) dX3_undo_40 rfl rfl rfl ?_
    refine gt_get (k := 0) (pc' := 44) (by decide) dX3_undo_41 rfl q1048 rfl ?_
    refine g_iconst (pc' := 45) (v := 0) dX3_undo_44 rfl (by decide) ?_
    obtain ⟨v6, hv6, hf⟩ := Option.bind_eq_some_iff.mp hf
    refine gt_iald (pc' := 46) hA (by decide) dX3_undo_45 rfl hv6 ?_
    obtain rfl := Option.some.inj hf
    exact g_iret dX3_undo_46 rfl rfl ⟨rfl, rfl⟩
  · replace hf := (if_pos h1).symm.trans hf
    refine g_aload_n (pc' := 8) dX3_undo_7 rfl rfl rfl ?_
    refine g_ldc (pc' := 10) dX3_undo_8 rfl q1334 ?_
    obtain ⟨q7, hq7, hf⟩ := Option.bind_eq_some_iff.mp hf
    refine g_callV (pc' := 13) (mx := mdX3_finds) (as := [.int (-1000000004)]) (wX3_finds g hA _ _ (-1000000004) hq7) oX3_finds ⟨Nat.le_of_ble_eq_true rfl, Nat.le_of_ble_eq_true rfl⟩ dX3_undo_10 rfl (ci := 3) rfl tC ⟨by decide +kernel, by decide +kernel⟩ oX3_finds.2.2.2 rfl q1117 q1119 qs33 qs33 q1119 (Nat.le_of_ble_eq_true rfl) (Nat.le_of_ble_eq_true rfl) (g_rI ?_) g_nt rfl
    obtain rfl := Option.some.inj hf
    exact g_iret dX3_undo_13 rfl rfl ⟨rfl, rfl⟩
def mdX3_tear : bMD := (yX3_tear, cX3_tear, 2, (some FieldType.int), [], 1, 12)
theorem oX3_tear : bOkc mdX3_tear 0 := ⟨by decide +kernel, ⟨by decide +kernel, by decide +kernel⟩, by decide +kernel, q1528⟩
def fX3_tear (M : tM)  : Option (Int32 × tM) :=
  Option.bind (α := Int32) ((if (M.1 5) = 0 then
  some 0
else
  some 1)) fun q1 =>
  some (q1, (wI M 5 0))
set_option maxHeartbeats 4000000 in
theorem wX3_tear (g : bGh) {A : tA} (hA : tO A) (w : bWl) (M : tM)  {r : (Int32 × tM)} (hf : fX3_tear M  = some r) : bM g mdX3_tear (tW A M w) [.ref A.1] (q_ (eI r.1) (tW A r.2 w)) := by
  unfold fX3_tear at hf
  change bG _ _ 0 [some (.ref A.1)] []
  refine g_aload_n (pc' := 1) dX3_tear_0 rfl rfl rfl ?_
  refine gt_get (k := 5) (pc' := 4) (by decide) dX3_tear_1 rfl q1053 rfl ?_
  obtain ⟨q1, hqq1, hf⟩ := Option.bind_eq_some_iff.mp hf
  have hJq1 : bG (g, mdX3_tear, (tW A M w).2.1, (tW A M w).2.2.1, (q_ (eI r.1) (tW A r.2 w))) (tW A M w) 12 [some (.ref A.1)] [.int q1] := by
    refine g_istore_n (pc' := 13) (L' := [some (.ref A.1), some (.int q1)]) dX3_tear_12 rfl rfl (Nat.le_of_ble_eq_true rfl) rfl rfl ?_
    refine g_aload_n (pc' := 14) dX3_tear_13 rfl rfl rfl ?_
    refine g_iconst (pc' := 15) (v := 0) dX3_tear_14 rfl (by decide) ?_
    refine gt_put (k := 5) (ty := .boolean) (pc' := 18) (by decide) rfl dX3_tear_15 rfl q1053 (by decide +kernel) (by decide +kernel) (by decide +kernel) rfl ?_
    refine g_iload_n (pc' := 19) dX3_tear_18 rfl rfl rfl ?_
    obtain rfl := Option.some.inj hf
    exact g_iret dX3_tear_19 rfl rfl ⟨rfl, rfl⟩
  replace hf := hqq1
  refine g_if_eq (tgt := 11) (pc' := 7) dX3_tear_4 (by decide) rfl (fun h2 => ?_) (fun h2 => ?_)
  · replace hf := (if_pos h2).symm.trans hf
    refine g_iconst (pc' := 12) (v := 0) dX3_tear_11 rfl (by decide) ?_
    obtain rfl := Option.some.inj hf
    exact hJq1
  · replace hf := (if_neg h2).symm.trans hf
    refine g_iconst (pc' := 8) (v := 1) dX3_tear_7 rfl (by decide) ?_
    refine g_goto (tgt := 12) dX3_tear_8 (by decide) ?_
    obtain rfl := Option.some.inj hf
    exact hJq1
def mdX3_bedsAll : bMD := (yX3_bedsAll, cX3_bedsAll, 3, (some FieldType.int), [], 3, 55)
theorem oX3_bedsAll : bOkc mdX3_bedsAll 0 := ⟨by decide +kernel, ⟨by decide +kernel, by decide +kernel⟩, by decide +kernel, q1536⟩
def fX3_bedsAll_l4 (M : tM)  (rec : (Int32 × Int32) → Option (Int32 × Int32)) (s : Int32 × Int32) : Option (Int32 × Int32) :=
  (if 8 ≤ s.2 then
  some (s.1, s.2)
else
  Option.bind (fX3_has M s.2 0) fun q2 =>
  rec ((s.1 + q2), (s.2 + 1)))
def fX3_bedsAll (M : tM)  : Option Int32 :=
  Option.bind (lpF (fX3_bedsAll_l4 M) FU (0, 0)) fun q3 =>
  some q3.1
set_option maxHeartbeats 4000000 in
theorem wX3_bedsAll_l4 {g : bGh} {A : tA} (hA : tO A) {w : bWl} {M : tM} {n0 u0 : Nat} {Q : Outcome → bWl → Prop}  : ∀ (n : Nat) (s : Int32 × Int32) (r : (Int32 × Int32)), lpF (fX3_bedsAll_l4 M) n s = some r → bG (g, mdX3_bedsAll, n0, u0, Q) (tW A M w) 25 [some (.ref A.1), some (.int r.1), some (.int r.2)] [] → bG (g, mdX3_bedsAll, n0, u0, Q) (tW A M w) 4 [some (.ref A.1), some (.int s.1), some (.int s.2)] [] := by
  intro n
  induction n with
  | zero => intro s r hf; cases hf
  | succ n ih =>
    intro s r hf kx
    rw [lpF_s] at hf
    unfold fX3_bedsAll_l4 at hf
    refine g_iload_n (pc' := 5) dX3_bedsAll_4 rfl rfl rfl ?_
    refine g_bipush (pc' := 7) (v := 8) dX3_bedsAll_5 rfl (by decide) ?_
    refine g_icmp_ge (tgt := 25) (pc' := 10) dX3_bedsAll_7 (by decide) rfl (fun h1 => ?_) (fun h1 => ?_)
    · replace hf := (if_pos h1).symm.trans hf
      obtain rfl := Option.some.inj hf
      exact kx
    · replace hf := (if_neg h1).symm.trans hf
      refine g_iload_n (pc' := 11) dX3_bedsAll_10 rfl rfl rfl ?_
      refine g_aload_n (pc' := 12) dX3_bedsAll_11 rfl rfl rfl ?_
      refine g_iload_n (pc' := 13) dX3_bedsAll_12 rfl rfl rfl ?_
      refine g_iconst (pc' := 14) (v := 0) dX3_bedsAll_13 rfl (by decide) ?_
      obtain ⟨q2, hq2, hf⟩ := Option.bind_eq_some_iff.mp hf
      refine g_callV (pc' := 17) (mx := mdX3_has) (as := [.int s.2, .int 0]) (wX3_has g hA _ _ s.2 0 hq2) oX3_has ⟨Nat.le_of_ble_eq_true rfl, Nat.le_of_ble_eq_true rfl⟩ dX3_bedsAll_14 rfl (ci := 3) rfl tC ⟨by decide +kernel, by decide +kernel⟩ oX3_has.2.2.2 rfl q1126 q1128 qs34 qs34 q1128 (Nat.le_of_ble_eq_true rfl) (Nat.le_of_ble_eq_true rfl) (g_rI ?_) g_nt rfl
      refine g_iadd (pc' := 18) dX3_bedsAll_17 rfl ?_
      refine g_istore_n (pc' := 19) (L' := [some (.ref A.1), some (.int (s.1 + q2)), some (.int s.2)]) dX3_bedsAll_18 rfl rfl (Nat.le_of_ble_eq_true rfl) rfl rfl ?_
      refine g_iinc (pc' := 22) (v := s.2 + 1) (L' := [some (.ref A.1), some (.int (s.1 + q2)), some (.int (s.2 + 1))]) dX3_bedsAll_19 rfl rfl rfl (Nat.le_of_ble_eq_true rfl) rfl rfl ?_
      refine g_goto (tgt := 4) dX3_bedsAll_22 (by decide) ?_
      exact ih _ r hf kx
set_option maxHeartbeats 4000000 in
theorem wX3_bedsAll (g : bGh) {A : tA} (hA : tO A) (w : bWl) (M : tM)  {r : Int32} (hf : fX3_bedsAll M  = some r) : bM g mdX3_bedsAll (tW A M w) [.ref A.1] (q_ (eI r) (tW A M w)) := by
  unfold fX3_bedsAll at hf
  change bG _ _ 0 [some (.ref A.1)] []
  refine g_iconst (pc' := 1) (v := 0) dX3_bedsAll_0 rfl (by decide) ?_
  refine g_istore_n (pc' := 2) (L' := [some (.ref A.1), some (.int 0)]) dX3_bedsAll_1 rfl rfl (Nat.le_of_ble_eq_true rfl) rfl rfl ?_
  refine g_iconst (pc' := 3) (v := 0) dX3_bedsAll_2 rfl (by decide) ?_
  refine g_istore_n (pc' := 4) (L' := [some (.ref A.1), some (.int 0), some (.int 0)]) dX3_bedsAll_3 rfl rfl (Nat.le_of_ble_eq_true rfl) rfl rfl ?_
  obtain ⟨q3, hq3, hf⟩ := Option.bind_eq_some_iff.mp hf
  refine wX3_bedsAll_l4 hA FU (0, 0) q3 hq3 ?_
  refine g_iload_n (pc' := 26) dX3_bedsAll_25 rfl rfl rfl ?_
  obtain rfl := Option.some.inj hf
  exact g_iret dX3_bedsAll_26 rfl rfl ⟨rfl, rfl⟩
def mdX3_count : bMD := (yX3_count, cX3_count, 2, (some FieldType.int), [], 4, 78)
theorem oX3_count : bOkc mdX3_count 1 := ⟨by decide +kernel, ⟨by decide +kernel, by decide +kernel⟩, by decide +kernel, q1532⟩
def fX3_count (M : tM) (x1 : Int32) : Option (Int32 × tM) :=
  (if x1 = 0 then
  Option.bind (rA M 0 0) fun v2 =>
  some (v2, M)
else
  (if x1 = 1 then
  some ((M.1 7), M)
else
  (if x1 = 2 then
  Option.bind (rA M 0 0) fun v5 =>
  Option.bind (fX3_thoseAt M (-1)) fun q6 =>
  Option.bind (fX3_ones q6) fun q7 =>
  some ((v5 - q7), M)
else
  (if x1 = 3 then
  Option.bind (fX3_bedsAll M) fun q9 =>
  some (q9, M)
else
  Option.bind (fX3_finds M (-1000000001)) fun q10 =>
  some (q10.1, q10.2)))))
set_option maxHeartbeats 4000000 in
theorem wX3_count (g : bGh) {A : tA} (hA : tO A) (w : bWl) (M : tM) (x1 : Int32) {r : (Int32 × tM)} (hf : fX3_count M x1 = some r) : bM g mdX3_count (tW A M w) [.ref A.1, .int x1] (q_ (eI r.1) (tW A r.2 w)) := by
  unfold fX3_count at hf
  change bG _ _ 0 [some (.ref A.1), some (.int x1)] []
  refine g_iload_n (pc' := 1) dX3_count_0 rfl rfl rfl ?_
  by_cases h1 : x1 = 0
  · replace hf := (if_pos h1).symm.trans hf
    refine g_tableIn (tgt := 32) dX3_count_1 (by rw [h1]; decide) (by rw [h1]; decide) (by rw [h1]; rfl) (by decide) ?_
    refine g_aload_n (pc' := 33) dX3_count_32 rfl rfl rfl ?_
    refine gt_get (k := 0) (pc' := 36) (by decide) dX3_count_33 rfl q1048 rfl ?_
    refine g_iconst (pc' := 37) (v := 0) dX3_count_36 rfl (by decide) ?_
    obtain ⟨v2, hv2, hf⟩ := Option.bind_eq_some_iff.mp hf
    refine gt_iald (pc' := 38) hA (by decide) dX3_count_37 rfl hv2 ?_
    obtain rfl := Option.some.inj hf
    exact g_iret dX3_count_38 rfl rfl ⟨rfl, rfl⟩
  · replace hf := (if_neg h1).symm.trans hf
    by_cases h3 : x1 = 1
    · replace hf := (if_pos h3).symm.trans hf
      refine g_tableIn (tgt := 39) dX3_count_1 (by rw [h3]; decide) (by rw [h3]; decide) (by rw [h3]; rfl) (by decide) ?_
      refine g_aload_n (pc' := 40) dX3_count_39 rfl rfl rfl ?_
      refine gt_get (k := 7) (pc' := 43) (by decide) dX3_count_40 rfl q1055 rfl ?_
      obtain rfl := Option.some.inj hf
      exact g_iret dX3_count_43 rfl rfl ⟨rfl, rfl⟩
    · replace hf := (if_neg h3).symm.trans hf
      by_cases h4 : x1 = 2
      · replace hf := (if_pos h4).symm.trans hf
        refine g_tableIn (tgt := 44) dX3_count_1 (by rw [h4]; decide) (by rw [h4]; decide) (by rw [h4]; rfl) (by decide) ?_
        refine g_aload_n (pc' := 45) dX3_count_44 rfl rfl rfl ?_
        refine gt_get (k := 0) (pc' := 48) (by decide) dX3_count_45 rfl q1048 rfl ?_
        refine g_iconst (pc' := 49) (v := 0) dX3_count_48 rfl (by decide) ?_
        obtain ⟨v5, hv5, hf⟩ := Option.bind_eq_some_iff.mp hf
        refine gt_iald (pc' := 50) hA (by decide) dX3_count_49 rfl hv5 ?_
        refine g_aload_n (pc' := 51) dX3_count_50 rfl rfl rfl ?_
        refine g_iconst (pc' := 52) (v := (-1)) dX3_count_51 rfl (by decide) ?_
        obtain ⟨q6, hq6, hf⟩ := Option.bind_eq_some_iff.mp hf
        refine g_callV (pc' := 55) (mx := mdX3_thoseAt) (as := [.int (-1)]) (wX3_thoseAt g hA _ _ (-1) hq6) oX3_thoseAt ⟨Nat.le_of_ble_eq_true rfl, Nat.le_of_ble_eq_true rfl⟩ dX3_count_52 rfl (ci := 3) rfl tC ⟨by decide +kernel, by decide +kernel⟩ oX3_thoseAt.2.2.2 rfl q1130 q1132 qs35 qs35 q1132 (Nat.le_of_ble_eq_true rfl) (Nat.le_of_ble_eq_true rfl) (g_rI ?_) g_nt rfl
        obtain ⟨q7, hq7, hf⟩ := Option.bind_eq_some_iff.mp hf
        refine g_callS (pc' := 58) (as := [.int q6]) (wX3_ones g _ q6 hq7) oX3_ones ⟨Nat.le_of_ble_eq_true rfl, Nat.le_of_ble_eq_true rfl⟩ dX3_count_55 rfl q1214 q1215 q86 (Nat.le_of_ble_eq_true rfl) (Nat.le_of_ble_eq_true rfl) (g_rI ?_) g_nt rfl
        refine g_isub (pc' := 59) dX3_count_58 rfl ?_
        obtain rfl := Option.some.inj hf
        exact g_iret dX3_count_59 rfl rfl ⟨rfl, rfl⟩
      · replace hf := (if_neg h4).symm.trans hf
        by_cases h8 : x1 = 3
        · replace hf := (if_pos h8).symm.trans hf
          refine g_tableIn (tgt := 60) dX3_count_1 (by rw [h8]; decide) (by rw [h8]; decide) (by rw [h8]; rfl) (by decide) ?_
          refine g_aload_n (pc' := 61) dX3_count_60 rfl rfl rfl ?_
          obtain ⟨q9, hq9, hf⟩ := Option.bind_eq_some_iff.mp hf
          refine g_callV (pc' := 64) (mx := mdX3_bedsAll) (as := []) (wX3_bedsAll g hA _ _ hq9) oX3_bedsAll ⟨Nat.le_of_ble_eq_true rfl, Nat.le_of_ble_eq_true rfl⟩ dX3_count_61 rfl (ci := 3) rfl tC ⟨by decide +kernel, by decide +kernel⟩ oX3_bedsAll.2.2.2 rfl q1533 q1535 qs81 qs81 q1535 (Nat.le_of_ble_eq_true rfl) (Nat.le_of_ble_eq_true rfl) (g_rI ?_) g_nt rfl
          obtain rfl := Option.some.inj hf
          exact g_iret dX3_count_64 rfl rfl ⟨rfl, rfl⟩
        · replace hf := (if_neg h8).symm.trans hf
          refine g_tableOut (tgt := 65) dX3_count_1 (by have kh1 := lv_neT h1 (a := 0) rfl; have kh3 := lv_neT h3 (a := 1) rfl; have kh4 := lv_neT h4 (a := 2) rfl; have kh8 := lv_neT h8 (a := 3) rfl; omega) (by decide) ?_
          refine g_aload_n (pc' := 66) dX3_count_65 rfl rfl rfl ?_
          refine g_ldc (pc' := 68) dX3_count_66 rfl q1116 ?_
          obtain ⟨q10, hq10, hf⟩ := Option.bind_eq_some_iff.mp hf
          refine g_callV (pc' := 71) (mx := mdX3_finds) (as := [.int (-1000000001)]) (wX3_finds g hA _ _ (-1000000001) hq10) oX3_finds ⟨Nat.le_of_ble_eq_true rfl, Nat.le_of_ble_eq_true rfl⟩ dX3_count_68 rfl (ci := 3) rfl tC ⟨by decide +kernel, by decide +kernel⟩ oX3_finds.2.2.2 rfl q1117 q1119 qs33 qs33 q1119 (Nat.le_of_ble_eq_true rfl) (Nat.le_of_ble_eq_true rfl) (g_rI ?_) g_nt rfl
          obtain rfl := Option.some.inj hf
          exact g_iret dX3_count_71 rfl rfl ⟨rfl, rfl⟩
def mdX3_status : bMD := (yX3_status, cX3_status, 4, (some FieldType.int), [], 2, 37)
theorem oX3_status : bOkc mdX3_status 1 := ⟨by decide +kernel, ⟨by decide +kernel, by decide +kernel⟩, by decide +kernel, q1540⟩
def fX3_status_l25 (M : tM) (y1 : Int32) (rec : (Int32 × Int32) → Option (Int32 × Int32)) (s : Int32 × Int32) : Option (Int32 × Int32) :=
  (if 7 ≤ s.2 then
  some (s.1, s.2)
else
  Option.bind (α := Int32) ((if y1 < 0 then
  Option.bind (rA M 4 s.2) fun v6 =>
  some v6
else
  (if s.2 = y1 then
  Option.bind (rA M 4 s.2) fun v8 =>
  some v8
else
  some 0))) fun q4 =>
  rec ((s.1 + q4), (s.2 + 1)))
def fX3_status (M : tM) (x1 : Int32) : Option (Int32 × tM) :=
  Option.bind (fX3_in ((x1 : Int32).toInt64) (-1) 6) fun q1 =>
  (if q1 = 0 then
  Option.bind (fX3_finds M (-1000000001)) fun q10 =>
  some (q10.1, q10.2)
else
  Option.bind (lpF (fX3_status_l25 M x1) FU (0, 0)) fun q9 =>
  some (q9.1, M))
set_option maxHeartbeats 4000000 in
theorem wX3_status_l25 {g : bGh} {A : tA} (hA : tO A) {w : bWl} {M : tM} {n0 u0 : Nat} {Q : Outcome → bWl → Prop} (y1 : Int32) : ∀ (n : Nat) (s : Int32 × Int32) (r : (Int32 × Int32)), lpF (fX3_status_l25 M y1) n s = some r → bG (g, mdX3_status, n0, u0, Q) (tW A M w) 59 [some (.ref A.1), some (.int y1), some (.int r.1), some (.int r.2)] [] → bG (g, mdX3_status, n0, u0, Q) (tW A M w) 25 [some (.ref A.1), some (.int y1), some (.int s.1), some (.int s.2)] [] := by
  intro n
  induction n with
  | zero => intro s r hf; cases hf
  | succ n ih =>
    intro s r hf kx
    rw [lpF_s] at hf
    unfold fX3_status_l25 at hf
    refine g_iload_n (pc' := 26) dX3_status_25 rfl rfl rfl ?_
    refine g_bipush (pc' := 28) (v := 7) dX3_status_26 rfl (by decide) ?_
    refine g_icmp_ge (tgt := 59) (pc' := 31) dX3_status_28 (by decide) rfl (fun h3 => ?_) (fun h3 => ?_)
    · replace hf := (if_pos h3).symm.trans hf
      obtain rfl := Option.some.inj hf
      exact kx
    · replace hf := (if_neg h3).symm.trans hf
      refine g_iload_n (pc' := 32) dX3_status_31 rfl rfl rfl ?_
      refine g_iload_n (pc' := 33) dX3_status_32 rfl rfl rfl ?_
      obtain ⟨q4, hqq4, hf⟩ := Option.bind_eq_some_iff.mp hf
      have hJq4 : bG (g, mdX3_status, n0, u0, Q) (tW A M w) 51 [some (.ref A.1), some (.int y1), none, some (.int s.2)] [.int q4, .int s.1] := by
        refine g_iadd (pc' := 52) dX3_status_51 rfl ?_
        refine g_istore_n (pc' := 53) (L' := [some (.ref A.1), some (.int y1), some (.int (s.1 + q4)), some (.int s.2)]) dX3_status_52 rfl rfl (Nat.le_of_ble_eq_true rfl) rfl rfl ?_
        refine g_iinc (pc' := 56) (v := s.2 + 1) (L' := [some (.ref A.1), some (.int y1), some (.int (s.1 + q4)), some (.int (s.2 + 1))]) dX3_status_53 rfl rfl rfl (Nat.le_of_ble_eq_true rfl) rfl rfl ?_
        refine g_goto (tgt := 25) dX3_status_56 (by decide) ?_
        exact ih _ r hf kx
      replace hf := hqq4
      refine g_if_lt (tgt := 41) (pc' := 36) dX3_status_33 (by decide) rfl (fun h5 => ?_) (fun h5 => ?_)
      · replace hf := (if_pos h5).symm.trans hf
        refine g_aload_n (pc' := 42) dX3_status_41 rfl rfl rfl ?_
        refine gt_get (k := 4) (pc' := 45) (by decide) dX3_status_42 rfl q1052 rfl ?_
        refine g_iload_n (pc' := 46) dX3_status_45 rfl rfl rfl ?_
        obtain ⟨v6, hv6, hf⟩ := Option.bind_eq_some_iff.mp hf
        refine gt_iald (pc' := 47) hA (by decide) dX3_status_46 rfl hv6 ?_
        refine g_goto (tgt := 51) dX3_status_47 (by decide) ?_
        obtain rfl := Option.some.inj hf
        refine g_drop [2] (L' := [some (.ref A.1), some (.int y1), none, some (.int s.2)]) rfl ?_
        exact hJq4
      · replace hf := (if_neg h5).symm.trans hf
        refine g_iload_n (pc' := 37) dX3_status_36 rfl rfl rfl ?_
        refine g_iload_n (pc' := 38) dX3_status_37 rfl rfl rfl ?_
        refine g_icmp_ne (tgt := 50) (pc' := 41) dX3_status_38 (by decide) rfl (fun h7 => ?_) (fun h7 => ?_)
        · replace hf := (if_neg h7).symm.trans hf
          refine g_iconst (pc' := 51) (v := 0) dX3_status_50 rfl (by decide) ?_
          obtain rfl := Option.some.inj hf
          refine g_drop [2] (L' := [some (.ref A.1), some (.int y1), none, some (.int s.2)]) rfl ?_
          exact hJq4
        · replace hf := (if_pos h7).symm.trans hf
          refine g_aload_n (pc' := 42) dX3_status_41 rfl rfl rfl ?_
          refine gt_get (k := 4) (pc' := 45) (by decide) dX3_status_42 rfl q1052 rfl ?_
          refine g_iload_n (pc' := 46) dX3_status_45 rfl rfl rfl ?_
          obtain ⟨v8, hv8, hf⟩ := Option.bind_eq_some_iff.mp hf
          refine gt_iald (pc' := 47) hA (by decide) dX3_status_46 rfl hv8 ?_
          refine g_goto (tgt := 51) dX3_status_47 (by decide) ?_
          obtain rfl := Option.some.inj hf
          refine g_drop [2] (L' := [some (.ref A.1), some (.int y1), none, some (.int s.2)]) rfl ?_
          exact hJq4
set_option maxHeartbeats 4000000 in
theorem wX3_status (g : bGh) {A : tA} (hA : tO A) (w : bWl) (M : tM) (x1 : Int32) {r : (Int32 × tM)} (hf : fX3_status M x1 = some r) : bM g mdX3_status (tW A M w) [.ref A.1, .int x1] (q_ (eI r.1) (tW A r.2 w)) := by
  unfold fX3_status at hf
  change bG _ _ 0 [some (.ref A.1), some (.int x1)] []
  refine g_iload_n (pc' := 1) dX3_status_0 rfl rfl rfl ?_
  refine g_i2l (pc' := 2) dX3_status_1 rfl ?_
  refine g_ldc2 (pc' := 5) dX3_status_2 rfl q1541 ?_
  refine g_ldc2 (pc' := 8) dX3_status_5 rfl q1542 ?_
  obtain ⟨q1, hq1, hf⟩ := Option.bind_eq_some_iff.mp hf
  refine g_callS (pc' := 11) (as := [.long ((x1 : Int32).toInt64), .long (-1), .long 6]) (wX3_in g _ ((x1 : Int32).toInt64) (-1) 6 hq1) oX3_in ⟨Nat.le_of_ble_eq_true rfl, Nat.le_of_ble_eq_true rfl⟩ dX3_status_8 rfl q1102 q1103 q86 (Nat.le_of_ble_eq_true rfl) (Nat.le_of_ble_eq_true rfl) (g_rI ?_) g_nt rfl
  refine g_if_ne (tgt := 21) (pc' := 14) dX3_status_11 (by decide) rfl (fun h2 => ?_) (fun h2 => ?_)
  · replace hf := (if_neg h2).symm.trans hf
    refine g_iconst (pc' := 22) (v := 0) dX3_status_21 rfl (by decide) ?_
    refine g_istore_n (pc' := 23) (L' := [some (.ref A.1), some (.int x1), some (.int 0)]) dX3_status_22 rfl rfl (Nat.le_of_ble_eq_true rfl) rfl rfl ?_
    refine g_iconst (pc' := 24) (v := 0) dX3_status_23 rfl (by decide) ?_
    refine g_istore_n (pc' := 25) (L' := [some (.ref A.1), some (.int x1), some (.int 0), some (.int 0)]) dX3_status_24 rfl rfl (Nat.le_of_ble_eq_true rfl) rfl rfl ?_
    obtain ⟨q9, hq9, hf⟩ := Option.bind_eq_some_iff.mp hf
    refine wX3_status_l25 hA x1 FU (0, 0) q9 hq9 ?_
    refine g_iload_n (pc' := 60) dX3_status_59 rfl rfl rfl ?_
    obtain rfl := Option.some.inj hf
    exact g_iret dX3_status_60 rfl rfl ⟨rfl, rfl⟩
  · replace hf := (if_pos h2).symm.trans hf
    refine g_aload_n (pc' := 15) dX3_status_14 rfl rfl rfl ?_
    refine g_ldc (pc' := 17) dX3_status_15 rfl q1116 ?_
    obtain ⟨q10, hq10, hf⟩ := Option.bind_eq_some_iff.mp hf
    refine g_callV (pc' := 20) (mx := mdX3_finds) (as := [.int (-1000000001)]) (wX3_finds g hA _ _ (-1000000001) hq10) oX3_finds ⟨Nat.le_of_ble_eq_true rfl, Nat.le_of_ble_eq_true rfl⟩ dX3_status_17 rfl (ci := 3) rfl tC ⟨by decide +kernel, by decide +kernel⟩ oX3_finds.2.2.2 rfl q1117 q1119 qs33 qs33 q1119 (Nat.le_of_ble_eq_true rfl) (Nat.le_of_ble_eq_true rfl) (g_rI ?_) g_nt rfl
    obtain rfl := Option.some.inj hf
    exact g_iret dX3_status_20 rfl rfl ⟨rfl, rfl⟩
