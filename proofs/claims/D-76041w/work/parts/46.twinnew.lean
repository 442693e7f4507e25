/-! printed by tools/gen.py: 46.twinnew -/
set_option maxRecDepth 100000
def mdX3_init : bMD := (yX3_init, cX3_init, 2, none, [], 2, 60)
theorem oX3_init : bOkc mdX3_init 0 := ⟨by decide +kernel, ⟨by decide +kernel, by decide +kernel⟩, by decide +kernel, q1043⟩
def fX3_init_l85 (b0 : Nat) (rec : (Int32 × bWl) → Option (Int32 × bWl)) (s : Int32 × bWl) : Option (Int32 × bWl) :=
  (if 8 ≤ s.1 then
  some (s.1, s.2)
else
  Option.bind (hR s.2 (okc 3) b0 0) fun v22 =>
  Option.bind (fX3_partOf s.1 0) fun q23 =>
  Option.bind (sI s.2 0 v22 q23 1) fun w24 =>
  Option.bind (hR w24 (okc 3) b0 0) fun v25 =>
  Option.bind (fX3_partOf s.1 1) fun q26 =>
  Option.bind (sI w24 0 v25 q26 50) fun w27 =>
  Option.bind (hR w27 (okc 3) b0 0) fun v28 =>
  Option.bind (fX3_partOf s.1 2) fun q29 =>
  Option.bind (sI w27 0 v28 q29 3) fun w30 =>
  rec ((s.1 + 1), w30))
def fX3_init (w : bWl) (a0 : Nat) : Option bWl :=
  Option.bind (nI0 w 0 77) fun v1 =>
  Option.bind (hP v1.2 (okc 3) a0 0 (.ref v1.1)) fun w2 =>
  Option.bind (nI0 w2 0 77) fun v3 =>
  Option.bind (hP v3.2 (okc 3) a0 1 (.ref v3.1)) fun w4 =>
  Option.bind (nI0 w4 0 77) fun v5 =>
  Option.bind (hP v5.2 (okc 3) a0 2 (.ref v5.1)) fun w6 =>
  Option.bind (nI0 w6 0 77) fun v7 =>
  Option.bind (hP v7.2 (okc 3) a0 3 (.ref v7.1)) fun w8 =>
  Option.bind (nI0 w8 0 7) fun v9 =>
  Option.bind (hP v9.2 (okc 3) a0 4 (.ref v9.1)) fun w10 =>
  Option.bind (nI0 w10 0 120) fun v11 =>
  Option.bind (hP v11.2 (okc 3) a0 6 (.ref v11.1)) fun w12 =>
  Option.bind (nI0 w12 0 4) fun v13 =>
  Option.bind (hP v13.2 (okc 3) a0 12 (.ref v13.1)) fun w14 =>
  Option.bind (nI0 w14 0 4) fun v15 =>
  Option.bind (hP v15.2 (okc 3) a0 13 (.ref v15.1)) fun w16 =>
  Option.bind (nJ0 w16 160) fun v17 =>
  Option.bind (hP v17.2 (okc 3) a0 14 (.ref v17.1)) fun w18 =>
  Option.bind (nJ0 w18 40) fun v19 =>
  Option.bind (hP v19.2 (okc 3) a0 15 (.ref v19.1)) fun w20 =>
  Option.bind (lpF (fX3_init_l85 a0) FU (0, w20)) fun q31 =>
  some q31.2
set_option maxHeartbeats 4000000 in
theorem wX3_init_l85 {g : bGh} {n0 u0 : Nat} {Q : Outcome → bWl → Prop} (b0 : Nat) : ∀ (n : Nat) (s : Int32 × bWl) (r : (Int32 × bWl)), lpF (fX3_init_l85 b0) n s = some r → bG (g, mdX3_init, n0, u0, Q) r.2 131 [some (.ref b0), some (.int r.1)] [] → bG (g, mdX3_init, n0, u0, Q) s.2 85 [some (.ref b0), some (.int s.1)] [] := by
  intro n
  induction n with
  | zero => intro s r hf; cases hf
  | succ n ih =>
    intro s r hf kx
    rw [lpF_s] at hf
    unfold fX3_init_l85 at hf
    refine g_iload_n (pc' := 86) dX3_init_85 rfl rfl rfl ?_
    refine g_bipush (pc' := 88) (v := 8) dX3_init_86 rfl (by decide) ?_
    refine g_icmp_ge (tgt := 131) (pc' := 91) dX3_init_88 (by decide) rfl (fun h21 => ?_) (fun h21 => ?_)
    · replace hf := (if_pos h21).symm.trans hf
      obtain rfl := Option.some.inj hf
      exact kx
    · replace hf := (if_neg h21).symm.trans hf
      refine g_aload_n (pc' := 92) dX3_init_91 rfl rfl rfl ?_
      obtain ⟨v22, hv22, hf⟩ := Option.bind_eq_some_iff.mp hf
      refine g_get (pc' := 95) (fok_3 0 (by decide)) (Or.inl rfl) dX3_init_92 rfl q1048 (hR_spec hv22) ?_
      refine g_iload_n (pc' := 96) dX3_init_95 rfl rfl rfl ?_
      refine g_iconst (pc' := 97) (v := 0) dX3_init_96 rfl (by decide) ?_
      obtain ⟨q23, hq23, hf⟩ := Option.bind_eq_some_iff.mp hf
      refine g_callS (pc' := 100) (as := [.int s.1, .int 0]) (wX3_partOf g _ s.1 0 hq23) oX3_partOf ⟨Nat.le_of_ble_eq_true rfl, Nat.le_of_ble_eq_true rfl⟩ dX3_init_97 rfl q1045 q1046 q86 (Nat.le_of_ble_eq_true rfl) (Nat.le_of_ble_eq_true rfl) (g_rI ?_) g_nt rfl
      refine g_iconst (pc' := 101) (v := 1) dX3_init_100 rfl (by decide) ?_
      obtain ⟨w24, hw24, hf⟩ := Option.bind_eq_some_iff.mp hf
      refine g_iast (pc' := 102) dX3_init_101 rfl hw24 ?_
      refine g_aload_n (pc' := 103) dX3_init_102 rfl rfl rfl ?_
      obtain ⟨v25, hv25, hf⟩ := Option.bind_eq_some_iff.mp hf
      refine g_get (pc' := 106) (fok_3 0 (by decide)) (Or.inl rfl) dX3_init_103 rfl q1048 (hR_spec hv25) ?_
      refine g_iload_n (pc' := 107) dX3_init_106 rfl rfl rfl ?_
      refine g_iconst (pc' := 108) (v := 1) dX3_init_107 rfl (by decide) ?_
      obtain ⟨q26, hq26, hf⟩ := Option.bind_eq_some_iff.mp hf
      refine g_callS (pc' := 111) (as := [.int s.1, .int 1]) (wX3_partOf g _ s.1 1 hq26) oX3_partOf ⟨Nat.le_of_ble_eq_true rfl, Nat.le_of_ble_eq_true rfl⟩ dX3_init_108 rfl q1045 q1046 q86 (Nat.le_of_ble_eq_true rfl) (Nat.le_of_ble_eq_true rfl) (g_rI ?_) g_nt rfl
      refine g_bipush (pc' := 113) (v := 50) dX3_init_111 rfl (by decide) ?_
      obtain ⟨w27, hw27, hf⟩ := Option.bind_eq_some_iff.mp hf
      refine g_iast (pc' := 114) dX3_init_113 rfl hw27 ?_
      refine g_aload_n (pc' := 115) dX3_init_114 rfl rfl rfl ?_
      obtain ⟨v28, hv28, hf⟩ := Option.bind_eq_some_iff.mp hf
      refine g_get (pc' := 118) (fok_3 0 (by decide)) (Or.inl rfl) dX3_init_115 rfl q1048 (hR_spec hv28) ?_
      refine g_iload_n (pc' := 119) dX3_init_118 rfl rfl rfl ?_
      refine g_iconst (pc' := 120) (v := 2) dX3_init_119 rfl (by decide) ?_
      obtain ⟨q29, hq29, hf⟩ := Option.bind_eq_some_iff.mp hf
      refine g_callS (pc' := 123) (as := [.int s.1, .int 2]) (wX3_partOf g _ s.1 2 hq29) oX3_partOf ⟨Nat.le_of_ble_eq_true rfl, Nat.le_of_ble_eq_true rfl⟩ dX3_init_120 rfl q1045 q1046 q86 (Nat.le_of_ble_eq_true rfl) (Nat.le_of_ble_eq_true rfl) (g_rI ?_) g_nt rfl
      refine g_iconst (pc' := 124) (v := 3) dX3_init_123 rfl (by decide) ?_
      obtain ⟨w30, hw30, hf⟩ := Option.bind_eq_some_iff.mp hf
      refine g_iast (pc' := 125) dX3_init_124 rfl hw30 ?_
      refine g_iinc (pc' := 128) (v := s.1 + 1) (L' := [some (.ref b0), some (.int (s.1 + 1))]) dX3_init_125 rfl rfl rfl (Nat.le_of_ble_eq_true rfl) rfl rfl ?_
      refine g_goto (tgt := 85) dX3_init_128 (by decide) ?_
      exact ih _ r hf kx
set_option maxHeartbeats 4000000 in
theorem wX3_init (g : bGh) (w : bWl) (a0 : Nat) {r : bWl} (hf : fX3_init w a0 = some r) : bM g mdX3_init w [.ref a0] (q_ none r) := by
  unfold fX3_init at hf
  change bG _ _ 0 [some (.ref a0)] []
  refine g_aload_n (pc' := 1) dX3_init_0 rfl rfl rfl ?_
  refine g_obj (pc' := 4) dX3_init_1 rfl q1044 ⟨Nat.le_of_ble_eq_true rfl, Nat.le_of_ble_eq_true rfl⟩ (Nat.le_of_ble_eq_true rfl) ?_
  refine g_aload_n (pc' := 5) dX3_init_4 rfl rfl rfl ?_
  refine g_bipush (pc' := 7) (v := 77) dX3_init_5 rfl (by decide) ?_
  obtain ⟨v1, hv1, hf⟩ := Option.bind_eq_some_iff.mp hf
  refine g_newI (pc' := 9) dX3_init_7 rfl hv1 q134 ?_
  obtain ⟨w2, hw2, hf⟩ := Option.bind_eq_some_iff.mp hf
  refine g_putF (ty := (.array .int)) (pc' := 12) (fok_3 0 (by decide)) (Or.inl rfl) dX3_init_9 rfl q1048 rfl rfl (by decide +kernel) rfl rfl hw2 ?_
  refine g_aload_n (pc' := 13) dX3_init_12 rfl rfl rfl ?_
  refine g_bipush (pc' := 15) (v := 77) dX3_init_13 rfl (by decide) ?_
  obtain ⟨v3, hv3, hf⟩ := Option.bind_eq_some_iff.mp hf
  refine g_newI (pc' := 17) dX3_init_15 rfl hv3 q134 ?_
  obtain ⟨w4, hw4, hf⟩ := Option.bind_eq_some_iff.mp hf
  refine g_putF (ty := (.array .int)) (pc' := 20) (fok_3 1 (by decide)) (Or.inl rfl) dX3_init_17 rfl q1049 rfl rfl (by decide +kernel) rfl rfl hw4 ?_
  refine g_aload_n (pc' := 21) dX3_init_20 rfl rfl rfl ?_
  refine g_bipush (pc' := 23) (v := 77) dX3_init_21 rfl (by decide) ?_
  obtain ⟨v5, hv5, hf⟩ := Option.bind_eq_some_iff.mp hf
  refine g_newI (pc' := 25) dX3_init_23 rfl hv5 q134 ?_
  obtain ⟨w6, hw6, hf⟩ := Option.bind_eq_some_iff.mp hf
  refine g_putF (ty := (.array .int)) (pc' := 28) (fok_3 2 (by decide)) (Or.inl rfl) dX3_init_25 rfl q1050 rfl rfl (by decide +kernel) rfl rfl hw6 ?_
  refine g_aload_n (pc' := 29) dX3_init_28 rfl rfl rfl ?_
  refine g_bipush (pc' := 31) (v := 77) dX3_init_29 rfl (by decide) ?_
  obtain ⟨v7, hv7, hf⟩ := Option.bind_eq_some_iff.mp hf
  refine g_newI (pc' := 33) dX3_init_31 rfl hv7 q134 ?_
  obtain ⟨w8, hw8, hf⟩ := Option.bind_eq_some_iff.mp hf
  refine g_putF (ty := (.array .int)) (pc' := 36) (fok_3 3 (by decide)) (Or.inl rfl) dX3_init_33 rfl q1051 rfl rfl (by decide +kernel) rfl rfl hw8 ?_
  refine g_aload_n (pc' := 37) dX3_init_36 rfl rfl rfl ?_
  refine g_bipush (pc' := 39) (v := 7) dX3_init_37 rfl (by decide) ?_
  obtain ⟨v9, hv9, hf⟩ := Option.bind_eq_some_iff.mp hf
  refine g_newI (pc' := 41) dX3_init_39 rfl hv9 q134 ?_
  obtain ⟨w10, hw10, hf⟩ := Option.bind_eq_some_iff.mp hf
  refine g_putF (ty := (.array .int)) (pc' := 44) (fok_3 4 (by decide)) (Or.inl rfl) dX3_init_41 rfl q1052 rfl rfl (by decide +kernel) rfl rfl hw10 ?_
  refine g_aload_n (pc' := 45) dX3_init_44 rfl rfl rfl ?_
  refine g_bipush (pc' := 47) (v := 120) dX3_init_45 rfl (by decide) ?_
  obtain ⟨v11, hv11, hf⟩ := Option.bind_eq_some_iff.mp hf
  refine g_newI (pc' := 49) dX3_init_47 rfl hv11 q134 ?_
  obtain ⟨w12, hw12, hf⟩ := Option.bind_eq_some_iff.mp hf
  refine g_putF (ty := (.array .int)) (pc' := 52) (fok_3 6 (by decide)) (Or.inl rfl) dX3_init_49 rfl q1054 rfl rfl (by decide +kernel) rfl rfl hw12 ?_
  refine g_aload_n (pc' := 53) dX3_init_52 rfl rfl rfl ?_
  refine g_iconst (pc' := 54) (v := 4) dX3_init_53 rfl (by decide) ?_
  obtain ⟨v13, hv13, hf⟩ := Option.bind_eq_some_iff.mp hf
  refine g_newI (pc' := 56) dX3_init_54 rfl hv13 q134 ?_
  obtain ⟨w14, hw14, hf⟩ := Option.bind_eq_some_iff.mp hf
  refine g_putF (ty := (.array .int)) (pc' := 59) (fok_3 12 (by decide)) (Or.inl rfl) dX3_init_56 rfl q1060 rfl rfl (by decide +kernel) rfl rfl hw14 ?_
  refine g_aload_n (pc' := 60) dX3_init_59 rfl rfl rfl ?_
  refine g_iconst (pc' := 61) (v := 4) dX3_init_60 rfl (by decide) ?_
  obtain ⟨v15, hv15, hf⟩ := Option.bind_eq_some_iff.mp hf
  refine g_newI (pc' := 63) dX3_init_61 rfl hv15 q134 ?_
  obtain ⟨w16, hw16, hf⟩ := Option.bind_eq_some_iff.mp hf
  refine g_putF (ty := (.array .int)) (pc' := 66) (fok_3 13 (by decide)) (Or.inl rfl) dX3_init_63 rfl q1061 rfl rfl (by decide +kernel) rfl rfl hw16 ?_
  refine g_aload_n (pc' := 67) dX3_init_66 rfl rfl rfl ?_
  refine g_sipush (pc' := 70) (v := 160) dX3_init_67 rfl (by decide) ?_
  obtain ⟨v17, hv17, hf⟩ := Option.bind_eq_some_iff.mp hf
  refine g_newJ (pc' := 72) dX3_init_70 rfl hv17 q997 ?_
  obtain ⟨w18, hw18, hf⟩ := Option.bind_eq_some_iff.mp hf
  refine g_putF (ty := (.array .long)) (pc' := 75) (fok_3 14 (by decide)) (Or.inl rfl) dX3_init_72 rfl q1062 rfl rfl (by decide +kernel) rfl rfl hw18 ?_
  refine g_aload_n (pc' := 76) dX3_init_75 rfl rfl rfl ?_
  refine g_bipush (pc' := 78) (v := 40) dX3_init_76 rfl (by decide) ?_
  obtain ⟨v19, hv19, hf⟩ := Option.bind_eq_some_iff.mp hf
  refine g_newJ (pc' := 80) dX3_init_78 rfl hv19 q997 ?_
  obtain ⟨w20, hw20, hf⟩ := Option.bind_eq_some_iff.mp hf
  refine g_putF (ty := (.array .long)) (pc' := 83) (fok_3 15 (by decide)) (Or.inl rfl) dX3_init_80 rfl q1063 rfl rfl (by decide +kernel) rfl rfl hw20 ?_
  refine g_iconst (pc' := 84) (v := 0) dX3_init_83 rfl (by decide) ?_
  refine g_istore_n (pc' := 85) (L' := [some (.ref a0), some (.int 0)]) dX3_init_84 rfl rfl (Nat.le_of_ble_eq_true rfl) rfl rfl ?_
  obtain ⟨q31, hq31, hf⟩ := Option.bind_eq_some_iff.mp hf
  refine wX3_init_l85 a0 FU (0, w20) q31 hq31 ?_
  obtain rfl := Option.some.inj hf
  exact g_vret dX3_init_131 rfl ⟨rfl, rfl⟩
