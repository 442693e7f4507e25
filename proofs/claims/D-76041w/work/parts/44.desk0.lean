/-! printed by tools/gen.py: 44.desk0 -/
set_option maxRecDepth 100000
def mdX0_init : bMD := (yX0_init, cX0_init, 1, none, [], 5, 123)
theorem oX0_init : bOkc mdX0_init 0 := ⟨by decide +kernel, ⟨by decide +kernel, by decide +kernel⟩, by decide +kernel, q109⟩
def fX0_init (w : bWl) (a0 : Nat) : Option bWl :=
  Option.bind (nC w (.inr (1, dX1)) 8) fun v1 =>
  Option.bind (fX1_init v1.2 v1.1) fun q2 =>
  Option.bind (hP q2 (okc 0) a0 0 (.ref v1.1)) fun w3 =>
  Option.bind (nC w3 (.inr (1, dX1)) 8) fun v4 =>
  Option.bind (fX1_init v4.2 v4.1) fun q5 =>
  Option.bind (hP q5 (okc 0) a0 1 (.ref v4.1)) fun w6 =>
  Option.bind (nC w6 (.inr (1, dX1)) 8) fun v7 =>
  Option.bind (fX1_init v7.2 v7.1) fun q8 =>
  Option.bind (hP q8 (okc 0) a0 2 (.ref v7.1)) fun w9 =>
  Option.bind (nC w9 (.inr (1, dX1)) 8) fun v10 =>
  Option.bind (fX1_init v10.2 v10.1) fun q11 =>
  Option.bind (hP q11 (okc 0) a0 3 (.ref v10.1)) fun w12 =>
  Option.bind (nI0 w12 1 120) fun v13 =>
  Option.bind (hP v13.2 (okc 0) a0 5 (.ref v13.1)) fun w14 =>
  Option.bind (fX0_slots w14 4) fun q15 =>
  Option.bind (hP q15.2 (okc 0) a0 7 (.ref q15.1)) fun w16 =>
  Option.bind (nI0 w16 0 7) fun v17 =>
  Option.bind (hP v17.2 (okc 0) a0 8 (.ref v17.1)) fun w18 =>
  some w18
set_option maxHeartbeats 4000000 in
theorem wX0_init (g : bGh) (w : bWl) (a0 : Nat) {r : bWl} (hf : fX0_init w a0 = some r) : bM g mdX0_init w [.ref a0] (q_ none r) := by
  unfold fX0_init at hf
  change bG _ _ 0 [some (.ref a0)] []
  refine g_aload_n (pc' := 1) dX0_init_0 rfl rfl rfl ?_
  refine g_obj (pc' := 4) dX0_init_1 rfl q110 ⟨Nat.le_of_ble_eq_true rfl, Nat.le_of_ble_eq_true rfl⟩ (Nat.le_of_ble_eq_true rfl) ?_
  refine g_aload_n (pc' := 5) dX0_init_4 rfl rfl rfl ?_
  obtain ⟨v1, hv1, hf⟩ := Option.bind_eq_some_iff.mp hf
  refine g_new (ci := 1) (pc' := 8) rfl in_X1 tyX1_ok dX1_ok dX0_init_5 rfl q113 q114 q84 hv1 ?_
  refine g_dup (pc' := 9) dX0_init_8 rfl rfl ?_
  obtain ⟨q2, hq2, hf⟩ := Option.bind_eq_some_iff.mp hf
  refine g_callI (pc' := 12) (as := []) (wX1_init g _ v1.1 hq2) oX1_init ⟨Nat.le_of_ble_eq_true rfl, Nat.le_of_ble_eq_true rfl⟩ dX0_init_9 rfl rfl q115 q116 (Nat.le_of_ble_eq_true rfl) (Nat.le_of_ble_eq_true rfl) (g_rV ?_) g_nt rfl
  obtain ⟨w3, hw3, hf⟩ := Option.bind_eq_some_iff.mp hf
  refine g_putF (ty := (.object "RumourBeds$Town")) (pc' := 15) (fok_0 0 (by decide)) (Or.inl rfl) dX0_init_12 rfl q171 rfl rfl (by decide +kernel) rfl rfl hw3 ?_
  refine g_aload_n (pc' := 16) dX0_init_15 rfl rfl rfl ?_
  obtain ⟨v4, hv4, hf⟩ := Option.bind_eq_some_iff.mp hf
  refine g_new (ci := 1) (pc' := 19) rfl in_X1 tyX1_ok dX1_ok dX0_init_16 rfl q113 q114 q84 hv4 ?_
  refine g_dup (pc' := 20) dX0_init_19 rfl rfl ?_
  obtain ⟨q5, hq5, hf⟩ := Option.bind_eq_some_iff.mp hf
  refine g_callI (pc' := 23) (as := []) (wX1_init g _ v4.1 hq5) oX1_init ⟨Nat.le_of_ble_eq_true rfl, Nat.le_of_ble_eq_true rfl⟩ dX0_init_20 rfl rfl q115 q116 (Nat.le_of_ble_eq_true rfl) (Nat.le_of_ble_eq_true rfl) (g_rV ?_) g_nt rfl
  obtain ⟨w6, hw6, hf⟩ := Option.bind_eq_some_iff.mp hf
  refine g_putF (ty := (.object "RumourBeds$Town")) (pc' := 26) (fok_0 1 (by decide)) (Or.inl rfl) dX0_init_23 rfl q172 rfl rfl (by decide +kernel) rfl rfl hw6 ?_
  refine g_aload_n (pc' := 27) dX0_init_26 rfl rfl rfl ?_
  obtain ⟨v7, hv7, hf⟩ := Option.bind_eq_some_iff.mp hf
  refine g_new (ci := 1) (pc' := 30) rfl in_X1 tyX1_ok dX1_ok dX0_init_27 rfl q113 q114 q84 hv7 ?_
  refine g_dup (pc' := 31) dX0_init_30 rfl rfl ?_
  obtain ⟨q8, hq8, hf⟩ := Option.bind_eq_some_iff.mp hf
  refine g_callI (pc' := 34) (as := []) (wX1_init g _ v7.1 hq8) oX1_init ⟨Nat.le_of_ble_eq_true rfl, Nat.le_of_ble_eq_true rfl⟩ dX0_init_31 rfl rfl q115 q116 (Nat.le_of_ble_eq_true rfl) (Nat.le_of_ble_eq_true rfl) (g_rV ?_) g_nt rfl
  obtain ⟨w9, hw9, hf⟩ := Option.bind_eq_some_iff.mp hf
  refine g_putF (ty := (.object "RumourBeds$Town")) (pc' := 37) (fok_0 2 (by decide)) (Or.inl rfl) dX0_init_34 rfl q173 rfl rfl (by decide +kernel) rfl rfl hw9 ?_
  refine g_aload_n (pc' := 38) dX0_init_37 rfl rfl rfl ?_
  obtain ⟨v10, hv10, hf⟩ := Option.bind_eq_some_iff.mp hf
  refine g_new (ci := 1) (pc' := 41) rfl in_X1 tyX1_ok dX1_ok dX0_init_38 rfl q113 q114 q84 hv10 ?_
  refine g_dup (pc' := 42) dX0_init_41 rfl rfl ?_
  obtain ⟨q11, hq11, hf⟩ := Option.bind_eq_some_iff.mp hf
  refine g_callI (pc' := 45) (as := []) (wX1_init g _ v10.1 hq11) oX1_init ⟨Nat.le_of_ble_eq_true rfl, Nat.le_of_ble_eq_true rfl⟩ dX0_init_42 rfl rfl q115 q116 (Nat.le_of_ble_eq_true rfl) (Nat.le_of_ble_eq_true rfl) (g_rV ?_) g_nt rfl
  obtain ⟨w12, hw12, hf⟩ := Option.bind_eq_some_iff.mp hf
  refine g_putF (ty := (.object "RumourBeds$Town")) (pc' := 48) (fok_0 3 (by decide)) (Or.inl rfl) dX0_init_45 rfl q174 rfl rfl (by decide +kernel) rfl rfl hw12 ?_
  refine g_aload_n (pc' := 49) dX0_init_48 rfl rfl rfl ?_
  refine g_bipush (pc' := 51) (v := 120) dX0_init_49 rfl (by decide) ?_
  obtain ⟨v13, hv13, hf⟩ := Option.bind_eq_some_iff.mp hf
  refine g_newB (pc' := 53) dX0_init_51 rfl hv13 q199 ?_
  obtain ⟨w14, hw14, hf⟩ := Option.bind_eq_some_iff.mp hf
  refine g_putF (ty := (.array .byte)) (pc' := 56) (fok_0 5 (by decide)) (Or.inl rfl) dX0_init_53 rfl q176 rfl rfl (by decide +kernel) rfl rfl hw14 ?_
  refine g_aload_n (pc' := 57) dX0_init_56 rfl rfl rfl ?_
  refine g_iconst (pc' := 58) (v := 4) dX0_init_57 rfl (by decide) ?_
  obtain ⟨q15, hq15, hf⟩ := Option.bind_eq_some_iff.mp hf
  refine g_callS (pc' := 61) (as := [.int 4]) (wX0_slots g _ 4 hq15) oX0_slots ⟨Nat.le_of_ble_eq_true rfl, Nat.le_of_ble_eq_true rfl⟩ dX0_init_58 rfl q170 q120 q83 (Nat.le_of_ble_eq_true rfl) (Nat.le_of_ble_eq_true rfl) (g_rA ?_) g_nt rfl
  obtain ⟨w16, hw16, hf⟩ := Option.bind_eq_some_iff.mp hf
  refine g_putF (ty := (.array (.object "RumourBeds$Slot"))) (pc' := 64) (fok_0 7 (by decide)) (Or.inl rfl) dX0_init_61 rfl q178 rfl rfl (by decide +kernel) rfl rfl hw16 ?_
  refine g_aload_n (pc' := 65) dX0_init_64 rfl rfl rfl ?_
  refine g_bipush (pc' := 67) (v := 7) dX0_init_65 rfl (by decide) ?_
  obtain ⟨v17, hv17, hf⟩ := Option.bind_eq_some_iff.mp hf
  refine g_newI (pc' := 69) dX0_init_67 rfl hv17 q134 ?_
  obtain ⟨w18, hw18, hf⟩ := Option.bind_eq_some_iff.mp hf
  refine g_putF (ty := (.array .int)) (pc' := 72) (fok_0 8 (by decide)) (Or.inl rfl) dX0_init_69 rfl q179 rfl rfl (by decide +kernel) rfl rfl hw18 ?_
  obtain rfl := Option.some.inj hf
  exact g_vret dX0_init_72 rfl ⟨rfl, rfl⟩
def mdX0_isTold : bMD := (yX0_isTold, cX0_isTold, 1, none, [], 6, 137)
theorem oX0_isTold : bOkc mdX0_isTold 1 := ⟨by decide +kernel, ⟨by decide +kernel, by decide +kernel⟩, by decide +kernel, q218⟩
def fX0_isTold (w : bWl) (x0 : Int32) : Option ((Unit ⊕ Nat) × bWl) :=
  Option.bind (fX0_need w x0 0) fun q1 => sm q1.1 (fun v2 =>
  some (Sum.inl (), q1.2)) (fun a3 => some (Sum.inr a3, q1.2))
set_option maxHeartbeats 4000000 in
theorem wX0_isTold (g : bGh) (w : bWl) (x0 : Int32) {r : ((Unit ⊕ Nat) × bWl)} (hf : fX0_isTold w x0 = some r) : bM g mdX0_isTold w [.int x0] (qX eV r.1 r.2) := by
  unfold fX0_isTold at hf
  change bG _ _ 0 [some (.int x0)] []
  refine g_iload_n (pc' := 1) dX0_isTold_0 rfl rfl rfl ?_
  refine g_iconst (pc' := 2) (v := 0) dX0_isTold_1 rfl (by decide) ?_
  obtain ⟨q1, hq1, hf⟩ := Option.bind_eq_some_iff.mp hf
  obtain ⟨zq1, wq1⟩ := q1
  cases zq1 with
  | inl v2 =>
    replace hf : _ = some _ := hf
    refine g_callS (pc' := 5) (as := [.int x0, .int 0]) (wX0_need g _ x0 0 hq1) oX0_need ⟨Nat.le_of_ble_eq_true rfl, Nat.le_of_ble_eq_true rfl⟩ dX0_isTold_2 rfl q219 q220 q83 (Nat.le_of_ble_eq_true rfl) (Nat.le_of_ble_eq_true rfl) (g_rV ?_) g_nt rfl
    obtain rfl := Option.some.inj hf
    exact g_vret dX0_isTold_5 rfl ⟨rfl, rfl⟩
  | inr a3 =>
    replace hf : _ = some _ := hf
    refine g_callS (pc' := 5) (as := [.int x0, .int 0]) (wX0_need g _ x0 0 hq1) oX0_need ⟨Nat.le_of_ble_eq_true rfl, Nat.le_of_ble_eq_true rfl⟩ dX0_isTold_2 rfl q219 q220 q83 (Nat.le_of_ble_eq_true rfl) (Nat.le_of_ble_eq_true rfl) g_nr (g_tt ?_) rfl
    obtain rfl := Option.some.inj hf
    exact t_leave rfl ⟨rfl, rfl⟩
def mdX0_finds : bMD := (yX0_finds, cX0_finds, 2, (some FieldType.int), [], 2, 32)
theorem oX0_finds : bOkc mdX0_finds 1 := ⟨by decide +kernel, ⟨by decide +kernel, by decide +kernel⟩, by decide +kernel, q292⟩
def fX0_finds (w : bWl) (a0 : Nat) (a1 : Nat) : Option (Int32 × bWl) :=
  Option.bind (hR w (okc 0) a0 8) fun v1 =>
  Option.bind (hI w (okc 4) a1 6) fun v2 =>
  Option.bind (aI w 0 v1 v2) fun v3 =>
  Option.bind (sI w 0 v1 v2 (v3 + 1)) fun w4 =>
  Option.bind (vK 4 w4 a1 (fX4_answer w4 a1)) fun q5 =>
  some (q5, w4)
set_option maxHeartbeats 4000000 in
theorem wX0_finds (g : bGh) (w : bWl) (a0 : Nat) (a1 : Nat) {r : (Int32 × bWl)} (hf : fX0_finds w a0 a1 = some r) : bM g mdX0_finds w [.ref a0, .ref a1] (q_ (eI r.1) r.2) := by
  unfold fX0_finds at hf
  change bG _ _ 0 [some (.ref a0), some (.ref a1)] []
  refine g_aload_n (pc' := 1) dX0_finds_0 rfl rfl rfl ?_
  obtain ⟨v1, hv1, hf⟩ := Option.bind_eq_some_iff.mp hf
  refine g_get (pc' := 4) (fok_0 8 (by decide)) (Or.inl rfl) dX0_finds_1 rfl q179 (hR_spec hv1) ?_
  refine g_aload_n (pc' := 5) dX0_finds_4 rfl rfl rfl ?_
  obtain ⟨v2, hv2, hf⟩ := Option.bind_eq_some_iff.mp hf
  refine g_get (pc' := 8) (fok_4 6 (by decide)) (Or.inl rfl) dX0_finds_5 rfl q269 (hI_spec hv2) ?_
  refine g_dup2 (pc' := 9) dX0_finds_8 rfl rfl rfl ?_
  obtain ⟨v3, hv3, hf⟩ := Option.bind_eq_some_iff.mp hf
  refine g_iald (pc' := 10) dX0_finds_9 rfl hv3 ?_
  refine g_iconst (pc' := 11) (v := 1) dX0_finds_10 rfl (by decide) ?_
  refine g_iadd (pc' := 12) dX0_finds_11 rfl ?_
  obtain ⟨w4, hw4, hf⟩ := Option.bind_eq_some_iff.mp hf
  refine g_iast (pc' := 13) dX0_finds_12 rfl hw4 ?_
  refine g_aload_n (pc' := 14) dX0_finds_13 rfl rfl rfl ?_
  obtain ⟨q5, hq5, hf⟩ := Option.bind_eq_some_iff.mp hf
  obtain ⟨h6, hq5⟩ := vK_spec hq5
  refine g_callV (pc' := 17) (mx := mdX4_answer) (as := []) (wX4_answer g _ a1 hq5) oX4_answer ⟨Nat.le_of_ble_eq_true rfl, Nat.le_of_ble_eq_true rfl⟩ dX0_finds_14 rfl (ci := 4) rfl h6 ⟨by decide +kernel, by decide +kernel⟩ oX4_answer.2.2.2 rfl q293 q294 q295 q295 q294 (Nat.le_of_ble_eq_true rfl) (Nat.le_of_ble_eq_true rfl) (g_rI ?_) g_nt rfl
  obtain rfl := Option.some.inj hf
  exact g_iret dX0_finds_17 rfl rfl ⟨rfl, rfl⟩
def mdX0_house : bMD := (yX0_house, cX0_house, 5, (some FieldType.int), [(0, 85, 86, 1)], 7, 157)
theorem oX0_house : bOkc mdX0_house 3 := ⟨by decide +kernel, ⟨by decide +kernel, by decide +kernel⟩, by decide +kernel, q203⟩
def fX0_house (w : bWl) (a0 : Nat) (x1 : Int32) (x2 : Int32) (x3 : Int32) : Option (Int32 × bWl) :=
  Option.bind (fX0_isHouse x1) fun q1 =>
  Option.bind (α := Int32) ((if q1 = 0 then
  some 0
else
  Option.bind (fX0_in ((x2 : Int32).toInt64) 0 2) fun q4 =>
  (if q4 = 0 then
  some 0
else
  Option.bind (α := Int64) ((if x2 = 0 then
  some 3
else
  (if x2 = 1 then
  some 999
else
  some 9))) fun q6 =>
  Option.bind (fX0_in ((x3 : Int32).toInt64) 0 q6) fun q9 =>
  (if q9 = 0 then
  some 0
else
  some 1)))) fun q2 =>
  Option.bind (fX0_isTold w q2) fun q11 => sm q11.1 (fun v12 =>
  Option.bind (hR q11.2 (okc 0) a0 0) fun v14 =>
  Option.bind (vK 1 q11.2 v14 (fX1_rowOf q11.2 v14 x2)) fun q15 =>
  Option.bind (aI q11.2 0 q15 x1) fun v17 =>
  Option.bind (hR q11.2 (okc 0) a0 0) fun v18 =>
  Option.bind (vK 1 q11.2 v18 (fX1_rowOf q11.2 v18 x2)) fun q19 =>
  Option.bind (sI q11.2 0 q19 x1 x3) fun w21 =>
  some (v17, w21)) (fun a13 => vK 4 q11.2 a13 (Option.bind (vK 0 q11.2 a0 (fX0_finds q11.2 a0 a13)) fun q23 =>
  some (q23.1, q23.2)))
set_option maxHeartbeats 4000000 in
theorem wX0_house (g : bGh) (w : bWl) (a0 : Nat) (x1 : Int32) (x2 : Int32) (x3 : Int32) {r : (Int32 × bWl)} (hf : fX0_house w a0 x1 x2 x3 = some r) : bM g mdX0_house w [.ref a0, .int x1, .int x2, .int x3] (q_ (eI r.1) r.2) := by
  unfold fX0_house at hf
  change bG _ _ 0 [some (.ref a0), some (.int x1), some (.int x2), some (.int x3)] []
  refine g_iload_n (pc' := 1) dX0_house_0 rfl rfl rfl ?_
  obtain ⟨q1, hq1, hf⟩ := Option.bind_eq_some_iff.mp hf
  refine g_callS (pc' := 4) (as := [.int x1]) (wX0_isHouse g _ x1 hq1) oX0_isHouse ⟨Nat.le_of_ble_eq_true rfl, Nat.le_of_ble_eq_true rfl⟩ dX0_house_1 rfl q205 q206 q83 (Nat.le_of_ble_eq_true rfl) (Nat.le_of_ble_eq_true rfl) (g_rI ?_) g_nt rfl
  obtain ⟨q2, hqq2, hf⟩ := Option.bind_eq_some_iff.mp hf
  have hJq2 : bG (g, mdX0_house, w.2.1, w.2.2.1, (q_ (eI r.1) r.2)) w 57 [some (.ref a0), some (.int x1), some (.int x2), some (.int x3)] [.int q2] := by
    obtain ⟨q11, hq11, hf⟩ := Option.bind_eq_some_iff.mp hf
    obtain ⟨zq11, wq11⟩ := q11
    cases zq11 with
    | inl v12 =>
      replace hf : _ = some _ := hf
      refine g_callS (pc' := 60) (as := [.int q2]) (wX0_isTold g _ q2 hq11) oX0_isTold ⟨Nat.le_of_ble_eq_true rfl, Nat.le_of_ble_eq_true rfl⟩ dX0_house_57 rfl q216 q217 q83 (Nat.le_of_ble_eq_true rfl) (Nat.le_of_ble_eq_true rfl) (g_rV ?_) g_nt rfl
      refine g_aload_n (pc' := 61) dX0_house_60 rfl rfl rfl ?_
      obtain ⟨v14, hv14, hf⟩ := Option.bind_eq_some_iff.mp hf
      refine g_get (pc' := 64) (fok_0 0 (by decide)) (Or.inl rfl) dX0_house_61 rfl q171 (hR_spec hv14) ?_
      refine g_iload_n (pc' := 65) dX0_house_64 rfl rfl rfl ?_
      obtain ⟨q15, hq15, hf⟩ := Option.bind_eq_some_iff.mp hf
      obtain ⟨h16, hq15⟩ := vK_spec hq15
      refine g_callV (pc' := 68) (mx := mdX1_rowOf) (as := [.int x2]) (wX1_rowOf g _ v14 x2 hq15) oX1_rowOf ⟨Nat.le_of_ble_eq_true rfl, Nat.le_of_ble_eq_true rfl⟩ dX0_house_65 rfl (ci := 1) rfl h16 ⟨by decide +kernel, by decide +kernel⟩ oX1_rowOf.2.2.2 rfl q285 q286 q287 q287 q286 (Nat.le_of_ble_eq_true rfl) (Nat.le_of_ble_eq_true rfl) (g_rA ?_) g_nt rfl
      refine g_iload_n (pc' := 69) dX0_house_68 rfl rfl rfl ?_
      obtain ⟨v17, hv17, hf⟩ := Option.bind_eq_some_iff.mp hf
      refine g_iald (pc' := 70) dX0_house_69 rfl hv17 ?_
      refine g_istore (pc' := 72) (L' := [some (.ref a0), some (.int x1), some (.int x2), some (.int x3), some (.int v17)]) dX0_house_70 rfl (Nat.le_of_ble_eq_true rfl) rfl rfl ?_
      refine g_aload_n (pc' := 73) dX0_house_72 rfl rfl rfl ?_
      obtain ⟨v18, hv18, hf⟩ := Option.bind_eq_some_iff.mp hf
      refine g_get (pc' := 76) (fok_0 0 (by decide)) (Or.inl rfl) dX0_house_73 rfl q171 (hR_spec hv18) ?_
      refine g_iload_n (pc' := 77) dX0_house_76 rfl rfl rfl ?_
      obtain ⟨q19, hq19, hf⟩ := Option.bind_eq_some_iff.mp hf
      obtain ⟨h20, hq19⟩ := vK_spec hq19
      refine g_callV (pc' := 80) (mx := mdX1_rowOf) (as := [.int x2]) (wX1_rowOf g _ v18 x2 hq19) oX1_rowOf ⟨Nat.le_of_ble_eq_true rfl, Nat.le_of_ble_eq_true rfl⟩ dX0_house_77 rfl (ci := 1) rfl h20 ⟨by decide +kernel, by decide +kernel⟩ oX1_rowOf.2.2.2 rfl q285 q286 q287 q287 q286 (Nat.le_of_ble_eq_true rfl) (Nat.le_of_ble_eq_true rfl) (g_rA ?_) g_nt rfl
      refine g_iload_n (pc' := 81) dX0_house_80 rfl rfl rfl ?_
      refine g_iload_n (pc' := 82) dX0_house_81 rfl rfl rfl ?_
      obtain ⟨w21, hw21, hf⟩ := Option.bind_eq_some_iff.mp hf
      refine g_iast (pc' := 83) dX0_house_82 rfl hw21 ?_
      refine g_iload (pc' := 85) dX0_house_83 rfl rfl ?_
      obtain rfl := Option.some.inj hf
      exact g_iret dX0_house_85 rfl rfl ⟨rfl, rfl⟩
    | inr a13 =>
      replace hf : _ = some _ := hf
      refine g_callS (pc' := 60) (as := [.int q2]) (wX0_isTold g _ q2 hq11) oX0_isTold ⟨Nat.le_of_ble_eq_true rfl, Nat.le_of_ble_eq_true rfl⟩ dX0_house_57 rfl q216 q217 q83 (Nat.le_of_ble_eq_true rfl) (Nat.le_of_ble_eq_true rfl) g_nr (g_tt ?_) rfl
      obtain ⟨h22, hf⟩ := vK_spec hf
      refine t_catch (ci := 4) rfl (by decide) q204 rfl h22 ?_
      refine g_astore (pc' := 88) (L' := [some (.ref a0), some (.int x1), some (.int x2), some (.int x3), some (.ref a13)]) dX0_house_86 rfl (Nat.le_of_ble_eq_true rfl) rfl rfl ?_
      refine g_aload_n (pc' := 89) dX0_house_88 rfl rfl rfl ?_
      refine g_aload (pc' := 91) dX0_house_89 rfl rfl ?_
      obtain ⟨q23, hq23, hf⟩ := Option.bind_eq_some_iff.mp hf
      obtain ⟨h24, hq23⟩ := vK_spec hq23
      refine g_callV (pc' := 94) (mx := mdX0_finds) (as := [.ref a13]) (wX0_finds g _ a0 a13 hq23) oX0_finds ⟨Nat.le_of_ble_eq_true rfl, Nat.le_of_ble_eq_true rfl⟩ dX0_house_91 rfl (ci := 0) rfl h24 ⟨by decide +kernel, by decide +kernel⟩ oX0_finds.2.2.2 rfl q289 q291 qs1 qs1 q291 (Nat.le_of_ble_eq_true rfl) (Nat.le_of_ble_eq_true rfl) (g_rI ?_) g_nt rfl
      obtain rfl := Option.some.inj hf
      exact g_iret dX0_house_94 rfl rfl ⟨rfl, rfl⟩
  replace hf := hqq2
  refine g_if_eq (tgt := 56) (pc' := 7) dX0_house_4 (by decide) rfl (fun h3 => ?_) (fun h3 => ?_)
  · replace hf := (if_pos h3).symm.trans hf
    refine g_iconst (pc' := 57) (v := 0) dX0_house_56 rfl (by decide) ?_
    obtain rfl := Option.some.inj hf
    exact hJq2
  · replace hf := (if_neg h3).symm.trans hf
    refine g_iload_n (pc' := 8) dX0_house_7 rfl rfl rfl ?_
    refine g_i2l (pc' := 9) dX0_house_8 rfl ?_
    refine g_lconst (pc' := 10) (v := 0) dX0_house_9 rfl (by decide) ?_
    refine g_ldc2 (pc' := 13) dX0_house_10 rfl q212 ?_
    obtain ⟨q4, hq4, hf⟩ := Option.bind_eq_some_iff.mp hf
    refine g_callS (pc' := 16) (as := [.long ((x2 : Int32).toInt64), .long 0, .long 2]) (wX0_in g _ ((x2 : Int32).toInt64) 0 2 hq4) oX0_in ⟨Nat.le_of_ble_eq_true rfl, Nat.le_of_ble_eq_true rfl⟩ dX0_house_13 rfl q209 q210 q83 (Nat.le_of_ble_eq_true rfl) (Nat.le_of_ble_eq_true rfl) (g_rI ?_) g_nt rfl
    refine g_if_eq (tgt := 56) (pc' := 19) dX0_house_16 (by decide) rfl (fun h5 => ?_) (fun h5 => ?_)
    · replace hf := (if_pos h5).symm.trans hf
      refine g_iconst (pc' := 57) (v := 0) dX0_house_56 rfl (by decide) ?_
      obtain rfl := Option.some.inj hf
      exact hJq2
    · replace hf := (if_neg h5).symm.trans hf
      refine g_iload_n (pc' := 20) dX0_house_19 rfl rfl rfl ?_
      refine g_i2l (pc' := 21) dX0_house_20 rfl ?_
      refine g_lconst (pc' := 22) (v := 0) dX0_house_21 rfl (by decide) ?_
      refine g_iload_n (pc' := 23) dX0_house_22 rfl rfl rfl ?_
      obtain ⟨q6, hqq6, hf⟩ := Option.bind_eq_some_iff.mp hf
      have hJq6 : bG (g, mdX0_house, w.2.1, w.2.2.1, (q_ (eI r.1) r.2)) w 46 [some (.ref a0), some (.int x1), some (.int x2), some (.int x3)] [.long q6, .long 0, .long ((x3 : Int32).toInt64)] := by
        obtain ⟨q9, hq9, hf⟩ := Option.bind_eq_some_iff.mp hf
        refine g_callS (pc' := 49) (as := [.long ((x3 : Int32).toInt64), .long 0, .long q6]) (wX0_in g _ ((x3 : Int32).toInt64) 0 q6 hq9) oX0_in ⟨Nat.le_of_ble_eq_true rfl, Nat.le_of_ble_eq_true rfl⟩ dX0_house_46 rfl q209 q210 q83 (Nat.le_of_ble_eq_true rfl) (Nat.le_of_ble_eq_true rfl) (g_rI ?_) g_nt rfl
        refine g_if_eq (tgt := 56) (pc' := 52) dX0_house_49 (by decide) rfl (fun h10 => ?_) (fun h10 => ?_)
        · replace hf := (if_pos h10).symm.trans hf
          refine g_iconst (pc' := 57) (v := 0) dX0_house_56 rfl (by decide) ?_
          obtain rfl := Option.some.inj hf
          exact hJq2
        · replace hf := (if_neg h10).symm.trans hf
          refine g_iconst (pc' := 53) (v := 1) dX0_house_52 rfl (by decide) ?_
          refine g_goto (tgt := 57) dX0_house_53 (by decide) ?_
          obtain rfl := Option.some.inj hf
          exact hJq2
      replace hf := hqq6
      refine g_if_ne (tgt := 32) (pc' := 26) dX0_house_23 (by decide) rfl (fun h7 => ?_) (fun h7 => ?_)
      · replace hf := (if_neg h7).symm.trans hf
        refine g_iload_n (pc' := 33) dX0_house_32 rfl rfl rfl ?_
        refine g_iconst (pc' := 34) (v := 1) dX0_house_33 rfl (by decide) ?_
        refine g_icmp_ne (tgt := 43) (pc' := 37) dX0_house_34 (by decide) rfl (fun h8 => ?_) (fun h8 => ?_)
        · replace hf := (if_neg h8).symm.trans hf
          refine g_ldc2 (pc' := 46) dX0_house_43 rfl q215 ?_
          obtain rfl := Option.some.inj hf
          exact hJq6
        · replace hf := (if_pos h8).symm.trans hf
          refine g_ldc2 (pc' := 40) dX0_house_37 rfl q214 ?_
          refine g_goto (tgt := 46) dX0_house_40 (by decide) ?_
          obtain rfl := Option.some.inj hf
          exact hJq6
      · replace hf := (if_pos h7).symm.trans hf
        refine g_ldc2 (pc' := 29) dX0_house_26 rfl q213 ?_
        refine g_goto (tgt := 46) dX0_house_29 (by decide) ?_
        obtain rfl := Option.some.inj hf
        exact hJq6
def mdX0_eventsIn : bMD := (yX0_eventsIn, cX0_eventsIn, 4, (some FieldType.int), [], 2, 33)
theorem oX0_eventsIn : bOkc mdX0_eventsIn 1 := ⟨by decide +kernel, ⟨by decide +kernel, by decide +kernel⟩, by decide +kernel, q315⟩
def fX0_eventsIn_l4 (w : bWl) (b0 : Nat) (y1 : Int32) (rec : (Int32 × Int32) → Option (Int32 × Int32)) (s : Int32 × Int32) : Option (Int32 × Int32) :=
  Option.bind (hR w (okc 0) b0 0) fun v1 =>
  Option.bind (hI w (okc 1) v1 2) fun v2 =>
  (if v2 ≤ s.2 then
  some (s.1, s.2)
else
  Option.bind (hR w (okc 0) b0 0) fun v4 =>
  Option.bind (vK 1 w v4 (fX1_rumour w v4 s.2)) fun q5 =>
  Option.bind (hR w okRu q5 0) fun v7 =>
  Option.bind (aI w 0 v7 3) fun v8 =>
  Option.bind (α := Int32) ((if v8 = y1 then
  Option.bind (hR w (okc 0) b0 0) fun v11 =>
  Option.bind (vK 1 w v11 (fX1_rumour w v11 s.2)) fun q12 =>
  Option.bind (hR w okRu q12 0) fun v14 =>
  Option.bind (aI w 0 v14 0) fun v15 =>
  some (s.1 ||| (1 <<< (v15 &&& 31)))
else
  some s.1)) fun q9 =>
  rec (q9, (s.2 + 1)))
def fX0_eventsIn (w : bWl) (a0 : Nat) (x1 : Int32) : Option Int32 :=
  Option.bind (lpF (fX0_eventsIn_l4 w a0 x1) FU (0, 0)) fun q16 =>
  some q16.1
set_option maxHeartbeats 4000000 in
theorem wX0_eventsIn_l4 {g : bGh} {w : bWl} {n0 u0 : Nat} {Q : Outcome → bWl → Prop} (b0 : Nat) (y1 : Int32) : ∀ (n : Nat) (s : Int32 × Int32) (r : (Int32 × Int32)), lpF (fX0_eventsIn_l4 w b0 y1) n s = some r → bG (g, mdX0_eventsIn, n0, u0, Q) w 56 [some (.ref b0), some (.int y1), some (.int r.1), some (.int r.2)] [] → bG (g, mdX0_eventsIn, n0, u0, Q) w 4 [some (.ref b0), some (.int y1), some (.int s.1), some (.int s.2)] [] := by
  intro n
  induction n with
  | zero => intro s r hf; cases hf
  | succ n ih =>
    intro s r hf kx
    rw [lpF_s] at hf
    unfold fX0_eventsIn_l4 at hf
    refine g_iload_n (pc' := 5) dX0_eventsIn_4 rfl rfl rfl ?_
    refine g_aload_n (pc' := 6) dX0_eventsIn_5 rfl rfl rfl ?_
    obtain ⟨v1, hv1, hf⟩ := Option.bind_eq_some_iff.mp hf
    refine g_get (pc' := 9) (fok_0 0 (by decide)) (Or.inl rfl) dX0_eventsIn_6 rfl q171 (hR_spec hv1) ?_
    obtain ⟨v2, hv2, hf⟩ := Option.bind_eq_some_iff.mp hf
    refine g_get (pc' := 12) (fok_1 2 (by decide)) (Or.inl rfl) dX0_eventsIn_9 rfl q141 (hI_spec hv2) ?_
    refine g_icmp_ge (tgt := 56) (pc' := 15) dX0_eventsIn_12 (by decide) rfl (fun h3 => ?_) (fun h3 => ?_)
    · replace hf := (if_pos h3).symm.trans hf
      obtain rfl := Option.some.inj hf
      exact kx
    · replace hf := (if_neg h3).symm.trans hf
      refine g_aload_n (pc' := 16) dX0_eventsIn_15 rfl rfl rfl ?_
      obtain ⟨v4, hv4, hf⟩ := Option.bind_eq_some_iff.mp hf
      refine g_get (pc' := 19) (fok_0 0 (by decide)) (Or.inl rfl) dX0_eventsIn_16 rfl q171 (hR_spec hv4) ?_
      refine g_iload_n (pc' := 20) dX0_eventsIn_19 rfl rfl rfl ?_
      obtain ⟨q5, hq5, hf⟩ := Option.bind_eq_some_iff.mp hf
      obtain ⟨h6, hq5⟩ := vK_spec hq5
      refine g_callV (pc' := 23) (mx := mdX1_rumour) (as := [.int s.2]) (wX1_rumour g _ v4 s.2 hq5) oX1_rumour ⟨Nat.le_of_ble_eq_true rfl, Nat.le_of_ble_eq_true rfl⟩ dX0_eventsIn_20 rfl (ci := 1) rfl h6 ⟨by decide +kernel, by decide +kernel⟩ oX1_rumour.2.2.2 rfl q316 q308 q309 q309 q308 (Nat.le_of_ble_eq_true rfl) (Nat.le_of_ble_eq_true rfl) (g_rA ?_) g_nt rfl
      obtain ⟨v7, hv7, hf⟩ := Option.bind_eq_some_iff.mp hf
      refine g_get (pc' := 26) fok_Ru (Or.inl rfl) dX0_eventsIn_23 rfl q384 (hR_spec hv7) ?_
      refine g_iconst (pc' := 27) (v := 3) dX0_eventsIn_26 rfl (by decide) ?_
      obtain ⟨v8, hv8, hf⟩ := Option.bind_eq_some_iff.mp hf
      refine g_iald (pc' := 28) dX0_eventsIn_27 rfl hv8 ?_
      refine g_iload_n (pc' := 29) dX0_eventsIn_28 rfl rfl rfl ?_
      obtain ⟨q9, hqq9, hf⟩ := Option.bind_eq_some_iff.mp hf
      have hJq9 : bG (g, mdX0_eventsIn, n0, u0, Q) w 50 [some (.ref b0), some (.int y1), some (.int q9), some (.int s.2)] [] := by
        refine g_iinc (pc' := 53) (v := s.2 + 1) (L' := [some (.ref b0), some (.int y1), some (.int q9), some (.int (s.2 + 1))]) dX0_eventsIn_50 rfl rfl rfl (Nat.le_of_ble_eq_true rfl) rfl rfl ?_
        refine g_goto (tgt := 4) dX0_eventsIn_53 (by decide) ?_
        exact ih _ r hf kx
      replace hf := hqq9
      refine g_icmp_ne (tgt := 50) (pc' := 32) dX0_eventsIn_29 (by decide) rfl (fun h10 => ?_) (fun h10 => ?_)
      · replace hf := (if_neg h10).symm.trans hf
        obtain rfl := Option.some.inj hf
        exact hJq9
      · replace hf := (if_pos h10).symm.trans hf
        refine g_iload_n (pc' := 33) dX0_eventsIn_32 rfl rfl rfl ?_
        refine g_iconst (pc' := 34) (v := 1) dX0_eventsIn_33 rfl (by decide) ?_
        refine g_aload_n (pc' := 35) dX0_eventsIn_34 rfl rfl rfl ?_
        obtain ⟨v11, hv11, hf⟩ := Option.bind_eq_some_iff.mp hf
        refine g_get (pc' := 38) (fok_0 0 (by decide)) (Or.inl rfl) dX0_eventsIn_35 rfl q171 (hR_spec hv11) ?_
        refine g_iload_n (pc' := 39) dX0_eventsIn_38 rfl rfl rfl ?_
        obtain ⟨q12, hq12, hf⟩ := Option.bind_eq_some_iff.mp hf
        obtain ⟨h13, hq12⟩ := vK_spec hq12
        refine g_callV (pc' := 42) (mx := mdX1_rumour) (as := [.int s.2]) (wX1_rumour g _ v11 s.2 hq12) oX1_rumour ⟨Nat.le_of_ble_eq_true rfl, Nat.le_of_ble_eq_true rfl⟩ dX0_eventsIn_39 rfl (ci := 1) rfl h13 ⟨by decide +kernel, by decide +kernel⟩ oX1_rumour.2.2.2 rfl q316 q308 q309 q309 q308 (Nat.le_of_ble_eq_true rfl) (Nat.le_of_ble_eq_true rfl) (g_rA ?_) g_nt rfl
        obtain ⟨v14, hv14, hf⟩ := Option.bind_eq_some_iff.mp hf
        refine g_get (pc' := 45) fok_Ru (Or.inl rfl) dX0_eventsIn_42 rfl q384 (hR_spec hv14) ?_
        refine g_iconst (pc' := 46) (v := 0) dX0_eventsIn_45 rfl (by decide) ?_
        obtain ⟨v15, hv15, hf⟩ := Option.bind_eq_some_iff.mp hf
        refine g_iald (pc' := 47) dX0_eventsIn_46 rfl hv15 ?_
        refine g_ishl (pc' := 48) dX0_eventsIn_47 rfl ?_
        refine g_ior (pc' := 49) dX0_eventsIn_48 rfl ?_
        refine g_istore_n (pc' := 50) (L' := [some (.ref b0), some (.int y1), some (.int (s.1 ||| (1 <<< (v15 &&& 31)))), some (.int s.2)]) dX0_eventsIn_49 rfl rfl (Nat.le_of_ble_eq_true rfl) rfl rfl ?_
        obtain rfl := Option.some.inj hf
        exact hJq9
set_option maxHeartbeats 4000000 in
theorem wX0_eventsIn (g : bGh) (w : bWl) (a0 : Nat) (x1 : Int32) {r : Int32} (hf : fX0_eventsIn w a0 x1 = some r) : bM g mdX0_eventsIn w [.ref a0, .int x1] (q_ (eI r) w) := by
  unfold fX0_eventsIn at hf
  change bG _ _ 0 [some (.ref a0), some (.int x1)] []
  refine g_iconst (pc' := 1) (v := 0) dX0_eventsIn_0 rfl (by decide) ?_
  refine g_istore_n (pc' := 2) (L' := [some (.ref a0), some (.int x1), some (.int 0)]) dX0_eventsIn_1 rfl rfl (Nat.le_of_ble_eq_true rfl) rfl rfl ?_
  refine g_iconst (pc' := 3) (v := 0) dX0_eventsIn_2 rfl (by decide) ?_
  refine g_istore_n (pc' := 4) (L' := [some (.ref a0), some (.int x1), some (.int 0), some (.int 0)]) dX0_eventsIn_3 rfl rfl (Nat.le_of_ble_eq_true rfl) rfl rfl ?_
  obtain ⟨q16, hq16, hf⟩ := Option.bind_eq_some_iff.mp hf
  refine wX0_eventsIn_l4 a0 x1 FU (0, 0) q16 hq16 ?_
  refine g_iload_n (pc' := 57) dX0_eventsIn_56 rfl rfl rfl ?_
  obtain rfl := Option.some.inj hf
  exact g_iret dX0_eventsIn_57 rfl rfl ⟨rfl, rfl⟩
def mdX0_houseOf : bMD := (yX0_houseOf, cX0_houseOf, 4, (some FieldType.int), [(0, 64, 91, 1), (65, 70, 91, 1), (71, 79, 91, 1), (80, 90, 91, 1)], 7, 157)
theorem oX0_houseOf : bOkc mdX0_houseOf 2 := ⟨by decide +kernel, ⟨by decide +kernel, by decide +kernel⟩, by decide +kernel, q301⟩
def fX0_houseOf (w : bWl) (a0 : Nat) (x1 : Int32) (x2 : Int32) : Option (Int32 × bWl) :=
  Option.bind (fX0_isHouse x1) fun q1 =>
  Option.bind (α := Int32) ((if q1 = 0 then
  some 0
else
  Option.bind (fX0_in ((x2 : Int32).toInt64) 0 5) fun q4 =>
  (if q4 = 0 then
  some 0
else
  some 1))) fun q2 =>
  Option.bind (fX0_isTold w q2) fun q6 => sm q6.1 (fun v7 =>
  (if x2 = 3 then
  Option.bind (hR q6.2 (okc 0) a0 0) fun v10 =>
  Option.bind (vK 1 q6.2 v10 (fX1_inside q6.2 v10 x1)) fun q11 =>
  some (q11, q6.2)
else
  (if x2 = 4 then
  Option.bind (vK 0 q6.2 a0 (fX0_eventsIn q6.2 a0 x1)) fun q14 =>
  some (q14, q6.2)
else
  (if x2 = 5 then
  Option.bind (hR q6.2 (okc 0) a0 0) fun v17 =>
  Option.bind (vK 1 q6.2 v17 (fX1_eaten q6.2 v17 x1)) fun q18 =>
  some (q18, q6.2)
else
  Option.bind (hR q6.2 (okc 0) a0 0) fun v20 =>
  Option.bind (vK 1 q6.2 v20 (fX1_rowOf q6.2 v20 x2)) fun q21 =>
  Option.bind (aI q6.2 0 q21 x1) fun v23 =>
  some (v23, q6.2))))) (fun a8 => vK 4 q6.2 a8 (Option.bind (vK 0 q6.2 a0 (fX0_finds q6.2 a0 a8)) fun q25 =>
  some (q25.1, q25.2)))
set_option maxHeartbeats 4000000 in
theorem wX0_houseOf (g : bGh) (w : bWl) (a0 : Nat) (x1 : Int32) (x2 : Int32) {r : (Int32 × bWl)} (hf : fX0_houseOf w a0 x1 x2 = some r) : bM g mdX0_houseOf w [.ref a0, .int x1, .int x2] (q_ (eI r.1) r.2) := by
  unfold fX0_houseOf at hf
  change bG _ _ 0 [some (.ref a0), some (.int x1), some (.int x2)] []
  refine g_iload_n (pc' := 1) dX0_houseOf_0 rfl rfl rfl ?_
  obtain ⟨q1, hq1, hf⟩ := Option.bind_eq_some_iff.mp hf
  refine g_callS (pc' := 4) (as := [.int x1]) (wX0_isHouse g _ x1 hq1) oX0_isHouse ⟨Nat.le_of_ble_eq_true rfl, Nat.le_of_ble_eq_true rfl⟩ dX0_houseOf_1 rfl q205 q206 q83 (Nat.le_of_ble_eq_true rfl) (Nat.le_of_ble_eq_true rfl) (g_rI ?_) g_nt rfl
  obtain ⟨q2, hqq2, hf⟩ := Option.bind_eq_some_iff.mp hf
  have hJq2 : bG (g, mdX0_houseOf, w.2.1, w.2.2.1, (q_ (eI r.1) r.2)) w 24 [some (.ref a0), some (.int x1), some (.int x2)] [.int q2] := by
    obtain ⟨q6, hq6, hf⟩ := Option.bind_eq_some_iff.mp hf
    obtain ⟨zq6, wq6⟩ := q6
    cases zq6 with
    | inl v7 =>
      replace hf : _ = some _ := hf
      refine g_callS (pc' := 27) (as := [.int q2]) (wX0_isTold g _ q2 hq6) oX0_isTold ⟨Nat.le_of_ble_eq_true rfl, Nat.le_of_ble_eq_true rfl⟩ dX0_houseOf_24 rfl q216 q217 q83 (Nat.le_of_ble_eq_true rfl) (Nat.le_of_ble_eq_true rfl) (g_rV ?_) g_nt rfl
      refine g_iload_n (pc' := 28) dX0_houseOf_27 rfl rfl rfl ?_
      by_cases h9 : x2 = 3
      · replace hf := (if_pos h9).symm.trans hf
        refine g_tableIn (tgt := 56) dX0_houseOf_28 (by rw [h9]; decide) (by rw [h9]; decide) (by rw [h9]; rfl) (by decide) ?_
        refine g_aload_n (pc' := 57) dX0_houseOf_56 rfl rfl rfl ?_
        obtain ⟨v10, hv10, hf⟩ := Option.bind_eq_some_iff.mp hf
        refine g_get (pc' := 60) (fok_0 0 (by decide)) (Or.inl rfl) dX0_houseOf_57 rfl q171 (hR_spec hv10) ?_
        refine g_iload_n (pc' := 61) dX0_houseOf_60 rfl rfl rfl ?_
        obtain ⟨q11, hq11, hf⟩ := Option.bind_eq_some_iff.mp hf
        obtain ⟨h12, hq11⟩ := vK_spec hq11
        refine g_callV (pc' := 64) (mx := mdX1_inside) (as := [.int x1]) (wX1_inside g _ v10 x1 hq11) oX1_inside ⟨Nat.le_of_ble_eq_true rfl, Nat.le_of_ble_eq_true rfl⟩ dX0_houseOf_61 rfl (ci := 1) rfl h12 ⟨by decide +kernel, by decide +kernel⟩ oX1_inside.2.2.2 rfl q303 q304 q305 q305 q304 (Nat.le_of_ble_eq_true rfl) (Nat.le_of_ble_eq_true rfl) (g_rI ?_) g_nt rfl
        obtain rfl := Option.some.inj hf
        exact g_iret dX0_houseOf_64 rfl rfl ⟨rfl, rfl⟩
      · replace hf := (if_neg h9).symm.trans hf
        by_cases h13 : x2 = 4
        · replace hf := (if_pos h13).symm.trans hf
          refine g_tableIn (tgt := 65) dX0_houseOf_28 (by rw [h13]; decide) (by rw [h13]; decide) (by rw [h13]; rfl) (by decide) ?_
          refine g_aload_n (pc' := 66) dX0_houseOf_65 rfl rfl rfl ?_
          refine g_iload_n (pc' := 67) dX0_houseOf_66 rfl rfl rfl ?_
          obtain ⟨q14, hq14, hf⟩ := Option.bind_eq_some_iff.mp hf
          obtain ⟨h15, hq14⟩ := vK_spec hq14
          refine g_callV (pc' := 70) (mx := mdX0_eventsIn) (as := [.int x1]) (wX0_eventsIn g _ a0 x1 hq14) oX0_eventsIn ⟨Nat.le_of_ble_eq_true rfl, Nat.le_of_ble_eq_true rfl⟩ dX0_houseOf_67 rfl (ci := 0) rfl h15 ⟨by decide +kernel, by decide +kernel⟩ oX0_eventsIn.2.2.2 rfl q312 q314 qs2 qs2 q314 (Nat.le_of_ble_eq_true rfl) (Nat.le_of_ble_eq_true rfl) (g_rI ?_) g_nt rfl
          obtain rfl := Option.some.inj hf
          exact g_iret dX0_houseOf_70 rfl rfl ⟨rfl, rfl⟩
        · replace hf := (if_neg h13).symm.trans hf
          by_cases h16 : x2 = 5
          · replace hf := (if_pos h16).symm.trans hf
            refine g_tableIn (tgt := 71) dX0_houseOf_28 (by rw [h16]; decide) (by rw [h16]; decide) (by rw [h16]; rfl) (by decide) ?_
            refine g_aload_n (pc' := 72) dX0_houseOf_71 rfl rfl rfl ?_
            obtain ⟨v17, hv17, hf⟩ := Option.bind_eq_some_iff.mp hf
            refine g_get (pc' := 75) (fok_0 0 (by decide)) (Or.inl rfl) dX0_houseOf_72 rfl q171 (hR_spec hv17) ?_
            refine g_iload_n (pc' := 76) dX0_houseOf_75 rfl rfl rfl ?_
            obtain ⟨q18, hq18, hf⟩ := Option.bind_eq_some_iff.mp hf
            obtain ⟨h19, hq18⟩ := vK_spec hq18
            refine g_callV (pc' := 79) (mx := mdX1_eaten) (as := [.int x1]) (wX1_eaten g _ v17 x1 hq18) oX1_eaten ⟨Nat.le_of_ble_eq_true rfl, Nat.le_of_ble_eq_true rfl⟩ dX0_houseOf_76 rfl (ci := 1) rfl h19 ⟨by decide +kernel, by decide +kernel⟩ oX1_eaten.2.2.2 rfl q317 q318 q319 q319 q318 (Nat.le_of_ble_eq_true rfl) (Nat.le_of_ble_eq_true rfl) (g_rI ?_) g_nt rfl
            obtain rfl := Option.some.inj hf
            exact g_iret dX0_houseOf_79 rfl rfl ⟨rfl, rfl⟩
          · replace hf := (if_neg h16).symm.trans hf
            refine g_tableOut (tgt := 80) dX0_houseOf_28 (by have kh9 := lv_neT h9 (a := 3) rfl; have kh13 := lv_neT h13 (a := 4) rfl; have kh16 := lv_neT h16 (a := 5) rfl; omega) (by decide) ?_
            refine g_aload_n (pc' := 81) dX0_houseOf_80 rfl rfl rfl ?_
            obtain ⟨v20, hv20, hf⟩ := Option.bind_eq_some_iff.mp hf
            refine g_get (pc' := 84) (fok_0 0 (by decide)) (Or.inl rfl) dX0_houseOf_81 rfl q171 (hR_spec hv20) ?_
            refine g_iload_n (pc' := 85) dX0_houseOf_84 rfl rfl rfl ?_
            obtain ⟨q21, hq21, hf⟩ := Option.bind_eq_some_iff.mp hf
            obtain ⟨h22, hq21⟩ := vK_spec hq21
            refine g_callV (pc' := 88) (mx := mdX1_rowOf) (as := [.int x2]) (wX1_rowOf g _ v20 x2 hq21) oX1_rowOf ⟨Nat.le_of_ble_eq_true rfl, Nat.le_of_ble_eq_true rfl⟩ dX0_houseOf_85 rfl (ci := 1) rfl h22 ⟨by decide +kernel, by decide +kernel⟩ oX1_rowOf.2.2.2 rfl q285 q286 q287 q287 q286 (Nat.le_of_ble_eq_true rfl) (Nat.le_of_ble_eq_true rfl) (g_rA ?_) g_nt rfl
            refine g_iload_n (pc' := 89) dX0_houseOf_88 rfl rfl rfl ?_
            obtain ⟨v23, hv23, hf⟩ := Option.bind_eq_some_iff.mp hf
            refine g_iald (pc' := 90) dX0_houseOf_89 rfl hv23 ?_
            obtain rfl := Option.some.inj hf
            exact g_iret dX0_houseOf_90 rfl rfl ⟨rfl, rfl⟩
    | inr a8 =>
      replace hf : _ = some _ := hf
      refine g_callS (pc' := 27) (as := [.int q2]) (wX0_isTold g _ q2 hq6) oX0_isTold ⟨Nat.le_of_ble_eq_true rfl, Nat.le_of_ble_eq_true rfl⟩ dX0_houseOf_24 rfl q216 q217 q83 (Nat.le_of_ble_eq_true rfl) (Nat.le_of_ble_eq_true rfl) g_nr (g_tt ?_) rfl
      obtain ⟨h24, hf⟩ := vK_spec hf
      refine t_catch (ci := 4) rfl (by decide) q204 rfl h24 ?_
      refine g_astore_n (pc' := 92) (L' := [some (.ref a0), some (.int x1), some (.int x2), some (.ref a8)]) dX0_houseOf_91 rfl rfl (Nat.le_of_ble_eq_true rfl) rfl rfl ?_
      refine g_aload_n (pc' := 93) dX0_houseOf_92 rfl rfl rfl ?_
      refine g_aload_n (pc' := 94) dX0_houseOf_93 rfl rfl rfl ?_
      obtain ⟨q25, hq25, hf⟩ := Option.bind_eq_some_iff.mp hf
      obtain ⟨h26, hq25⟩ := vK_spec hq25
      refine g_callV (pc' := 97) (mx := mdX0_finds) (as := [.ref a8]) (wX0_finds g _ a0 a8 hq25) oX0_finds ⟨Nat.le_of_ble_eq_true rfl, Nat.le_of_ble_eq_true rfl⟩ dX0_houseOf_94 rfl (ci := 0) rfl h26 ⟨by decide +kernel, by decide +kernel⟩ oX0_finds.2.2.2 rfl q289 q291 qs1 qs1 q291 (Nat.le_of_ble_eq_true rfl) (Nat.le_of_ble_eq_true rfl) (g_rI ?_) g_nt rfl
      obtain rfl := Option.some.inj hf
      exact g_iret dX0_houseOf_97 rfl rfl ⟨rfl, rfl⟩
  replace hf := hqq2
  refine g_if_eq (tgt := 23) (pc' := 7) dX0_houseOf_4 (by decide) rfl (fun h3 => ?_) (fun h3 => ?_)
  · replace hf := (if_pos h3).symm.trans hf
    refine g_iconst (pc' := 24) (v := 0) dX0_houseOf_23 rfl (by decide) ?_
    obtain rfl := Option.some.inj hf
    exact hJq2
  · replace hf := (if_neg h3).symm.trans hf
    refine g_iload_n (pc' := 8) dX0_houseOf_7 rfl rfl rfl ?_
    refine g_i2l (pc' := 9) dX0_houseOf_8 rfl ?_
    refine g_lconst (pc' := 10) (v := 0) dX0_houseOf_9 rfl (by decide) ?_
    refine g_ldc2 (pc' := 13) dX0_houseOf_10 rfl q302 ?_
    obtain ⟨q4, hq4, hf⟩ := Option.bind_eq_some_iff.mp hf
    refine g_callS (pc' := 16) (as := [.long ((x2 : Int32).toInt64), .long 0, .long 5]) (wX0_in g _ ((x2 : Int32).toInt64) 0 5 hq4) oX0_in ⟨Nat.le_of_ble_eq_true rfl, Nat.le_of_ble_eq_true rfl⟩ dX0_houseOf_13 rfl q209 q210 q83 (Nat.le_of_ble_eq_true rfl) (Nat.le_of_ble_eq_true rfl) (g_rI ?_) g_nt rfl
    refine g_if_eq (tgt := 23) (pc' := 19) dX0_houseOf_16 (by decide) rfl (fun h5 => ?_) (fun h5 => ?_)
    · replace hf := (if_pos h5).symm.trans hf
      refine g_iconst (pc' := 24) (v := 0) dX0_houseOf_23 rfl (by decide) ?_
      obtain rfl := Option.some.inj hf
      exact hJq2
    · replace hf := (if_neg h5).symm.trans hf
      refine g_iconst (pc' := 20) (v := 1) dX0_houseOf_19 rfl (by decide) ?_
      refine g_goto (tgt := 24) dX0_houseOf_20 (by decide) ?_
      obtain rfl := Option.some.inj hf
      exact hJq2
def mdX0_rumour : bMD := (yX0_rumour, cX0_rumour, 4, (some FieldType.int), [(0, 69, 70, 1)], 8, 188)
theorem oX0_rumour : bOkc mdX0_rumour 2 := ⟨by decide +kernel, ⟨by decide +kernel, by decide +kernel⟩, by decide +kernel, q355⟩
def fX0_rumour (w : bWl) (a0 : Nat) (x1 : Int32) (x2 : Int32) : Option (Int32 × bWl) :=
  Option.bind (fX0_in ((x1 : Int32).toInt64) 0 5) fun q1 =>
  Option.bind (α := Int32) ((if q1 = 0 then
  some 0
else
  Option.bind (fX0_isEvent x2) fun q4 =>
  (if q4 = 0 then
  some 0
else
  some 1))) fun q2 =>
  Option.bind (fX0_isTold w q2) fun q6 => sm q6.1 (fun v7 =>
  Option.bind (hR q6.2 (okc 0) a0 0) fun v9 =>
  Option.bind (hI q6.2 (okc 1) v9 2) fun v10 =>
  Option.bind (α := Int32) ((if 10 ≤ v10 then
  some 0
else
  some 1)) fun q11 =>
  Option.bind (fX0_need q6.2 q11 1) fun q13 => sm q13.1 (fun v14 =>
  Option.bind (hR q13.2 (okc 0) a0 0) fun v16 =>
  Option.bind (vK 1 q13.2 v16 (fX1_comes q13.2 v16 x1 x2 10)) fun q17 =>
  Option.bind (hR q17.2 (okc 0) a0 0) fun v19 =>
  Option.bind (hI q17.2 (okc 1) v19 2) fun v20 =>
  some ((v20 - 1), q17.2)) (fun a15 => vK 4 q13.2 a15 (Option.bind (vK 0 q13.2 a0 (fX0_finds q13.2 a0 a15)) fun q22 =>
  some (q22.1, q22.2)))) (fun a8 => vK 4 q6.2 a8 (Option.bind (vK 0 q6.2 a0 (fX0_finds q6.2 a0 a8)) fun q25 =>
  some (q25.1, q25.2)))
set_option maxHeartbeats 4000000 in
theorem wX0_rumour (g : bGh) (w : bWl) (a0 : Nat) (x1 : Int32) (x2 : Int32) {r : (Int32 × bWl)} (hf : fX0_rumour w a0 x1 x2 = some r) : bM g mdX0_rumour w [.ref a0, .int x1, .int x2] (q_ (eI r.1) r.2) := by
  unfold fX0_rumour at hf
  change bG _ _ 0 [some (.ref a0), some (.int x1), some (.int x2)] []
  refine g_iload_n (pc' := 1) dX0_rumour_0 rfl rfl rfl ?_
  refine g_i2l (pc' := 2) dX0_rumour_1 rfl ?_
  refine g_lconst (pc' := 3) (v := 0) dX0_rumour_2 rfl (by decide) ?_
  refine g_ldc2 (pc' := 6) dX0_rumour_3 rfl q302 ?_
  obtain ⟨q1, hq1, hf⟩ := Option.bind_eq_some_iff.mp hf
  refine g_callS (pc' := 9) (as := [.long ((x1 : Int32).toInt64), .long 0, .long 5]) (wX0_in g _ ((x1 : Int32).toInt64) 0 5 hq1) oX0_in ⟨Nat.le_of_ble_eq_true rfl, Nat.le_of_ble_eq_true rfl⟩ dX0_rumour_6 rfl q209 q210 q83 (Nat.le_of_ble_eq_true rfl) (Nat.le_of_ble_eq_true rfl) (g_rI ?_) g_nt rfl
  obtain ⟨q2, hqq2, hf⟩ := Option.bind_eq_some_iff.mp hf
  have hJq2 : bG (g, mdX0_rumour, w.2.1, w.2.2.1, (q_ (eI r.1) r.2)) w 24 [some (.ref a0), some (.int x1), some (.int x2)] [.int q2] := by
    obtain ⟨q6, hq6, hf⟩ := Option.bind_eq_some_iff.mp hf
    obtain ⟨zq6, wq6⟩ := q6
    cases zq6 with
    | inl v7 =>
      replace hf : _ = some _ := hf
      refine g_callS (pc' := 27) (as := [.int q2]) (wX0_isTold g _ q2 hq6) oX0_isTold ⟨Nat.le_of_ble_eq_true rfl, Nat.le_of_ble_eq_true rfl⟩ dX0_rumour_24 rfl q216 q217 q83 (Nat.le_of_ble_eq_true rfl) (Nat.le_of_ble_eq_true rfl) (g_rV ?_) g_nt rfl
      refine g_aload_n (pc' := 28) dX0_rumour_27 rfl rfl rfl ?_
      obtain ⟨v9, hv9, hf⟩ := Option.bind_eq_some_iff.mp hf
      refine g_get (pc' := 31) (fok_0 0 (by decide)) (Or.inl rfl) dX0_rumour_28 rfl q171 (hR_spec hv9) ?_
      obtain ⟨v10, hv10, hf⟩ := Option.bind_eq_some_iff.mp hf
      refine g_get (pc' := 34) (fok_1 2 (by decide)) (Or.inl rfl) dX0_rumour_31 rfl q141 (hI_spec hv10) ?_
      refine g_bipush (pc' := 36) (v := 10) dX0_rumour_34 rfl (by decide) ?_
      obtain ⟨q11, hqq11, hf⟩ := Option.bind_eq_some_iff.mp hf
      have hJq11 : bG (g, mdX0_rumour, w.2.1, w.2.2.1, (q_ (eI r.1) r.2)) wq6 44 [some (.ref a0), some (.int x1), some (.int x2)] [.int q11] := by
        refine g_iconst (pc' := 45) (v := 1) dX0_rumour_44 rfl (by decide) ?_
        obtain ⟨q13, hq13, hf⟩ := Option.bind_eq_some_iff.mp hf
        obtain ⟨zq13, wq13⟩ := q13
        cases zq13 with
        | inl v14 =>
          replace hf : _ = some _ := hf
          refine g_callS (pc' := 48) (as := [.int q11, .int 1]) (wX0_need g _ q11 1 hq13) oX0_need ⟨Nat.le_of_ble_eq_true rfl, Nat.le_of_ble_eq_true rfl⟩ dX0_rumour_45 rfl q219 q220 q83 (Nat.le_of_ble_eq_true rfl) (Nat.le_of_ble_eq_true rfl) (g_rV ?_) g_nt rfl
          refine g_aload_n (pc' := 49) dX0_rumour_48 rfl rfl rfl ?_
          obtain ⟨v16, hv16, hf⟩ := Option.bind_eq_some_iff.mp hf
          refine g_get (pc' := 52) (fok_0 0 (by decide)) (Or.inl rfl) dX0_rumour_49 rfl q171 (hR_spec hv16) ?_
          refine g_iload_n (pc' := 53) dX0_rumour_52 rfl rfl rfl ?_
          refine g_iload_n (pc' := 54) dX0_rumour_53 rfl rfl rfl ?_
          refine g_bipush (pc' := 56) (v := 10) dX0_rumour_54 rfl (by decide) ?_
          obtain ⟨q17, hq17, hf⟩ := Option.bind_eq_some_iff.mp hf
          obtain ⟨h18, hq17⟩ := vK_spec hq17
          refine g_callV (pc' := 59) (mx := mdX1_comes) (as := [.int x1, .int x2, .int 10]) (wX1_comes g _ v16 x1 x2 10 hq17) oX1_comes ⟨Nat.le_of_ble_eq_true rfl, Nat.le_of_ble_eq_true rfl⟩ dX0_rumour_56 rfl (ci := 1) rfl h18 ⟨by decide +kernel, by decide +kernel⟩ oX1_comes.2.2.2 rfl q360 q361 q362 q362 q361 (Nat.le_of_ble_eq_true rfl) (Nat.le_of_ble_eq_true rfl) (g_rA ?_) g_nt rfl
          refine g_pop (pc' := 60) dX0_rumour_59 rfl rfl ?_
          refine g_aload_n (pc' := 61) dX0_rumour_60 rfl rfl rfl ?_
          obtain ⟨v19, hv19, hf⟩ := Option.bind_eq_some_iff.mp hf
          refine g_get (pc' := 64) (fok_0 0 (by decide)) (Or.inl rfl) dX0_rumour_61 rfl q171 (hR_spec hv19) ?_
          obtain ⟨v20, hv20, hf⟩ := Option.bind_eq_some_iff.mp hf
          refine g_get (pc' := 67) (fok_1 2 (by decide)) (Or.inl rfl) dX0_rumour_64 rfl q141 (hI_spec hv20) ?_
          refine g_iconst (pc' := 68) (v := 1) dX0_rumour_67 rfl (by decide) ?_
          refine g_isub (pc' := 69) dX0_rumour_68 rfl ?_
          obtain rfl := Option.some.inj hf
          exact g_iret dX0_rumour_69 rfl rfl ⟨rfl, rfl⟩
        | inr a15 =>
          replace hf : _ = some _ := hf
          refine g_callS (pc' := 48) (as := [.int q11, .int 1]) (wX0_need g _ q11 1 hq13) oX0_need ⟨Nat.le_of_ble_eq_true rfl, Nat.le_of_ble_eq_true rfl⟩ dX0_rumour_45 rfl q219 q220 q83 (Nat.le_of_ble_eq_true rfl) (Nat.le_of_ble_eq_true rfl) g_nr (g_tt ?_) rfl
          obtain ⟨h21, hf⟩ := vK_spec hf
          refine t_catch (ci := 4) rfl (by decide) q204 rfl h21 ?_
          refine g_astore_n (pc' := 71) (L' := [some (.ref a0), some (.int x1), some (.int x2), some (.ref a15)]) dX0_rumour_70 rfl rfl (Nat.le_of_ble_eq_true rfl) rfl rfl ?_
          refine g_aload_n (pc' := 72) dX0_rumour_71 rfl rfl rfl ?_
          refine g_aload_n (pc' := 73) dX0_rumour_72 rfl rfl rfl ?_
          obtain ⟨q22, hq22, hf⟩ := Option.bind_eq_some_iff.mp hf
          obtain ⟨h23, hq22⟩ := vK_spec hq22
          refine g_callV (pc' := 76) (mx := mdX0_finds) (as := [.ref a15]) (wX0_finds g _ a0 a15 hq22) oX0_finds ⟨Nat.le_of_ble_eq_true rfl, Nat.le_of_ble_eq_true rfl⟩ dX0_rumour_73 rfl (ci := 0) rfl h23 ⟨by decide +kernel, by decide +kernel⟩ oX0_finds.2.2.2 rfl q289 q291 qs1 qs1 q291 (Nat.le_of_ble_eq_true rfl) (Nat.le_of_ble_eq_true rfl) (g_rI ?_) g_nt rfl
          obtain rfl := Option.some.inj hf
          exact g_iret dX0_rumour_76 rfl rfl ⟨rfl, rfl⟩
      replace hf := hqq11
      refine g_icmp_ge (tgt := 43) (pc' := 39) dX0_rumour_36 (by decide) rfl (fun h12 => ?_) (fun h12 => ?_)
      · replace hf := (if_pos h12).symm.trans hf
        refine g_iconst (pc' := 44) (v := 0) dX0_rumour_43 rfl (by decide) ?_
        obtain rfl := Option.some.inj hf
        exact hJq11
      · replace hf := (if_neg h12).symm.trans hf
        refine g_iconst (pc' := 40) (v := 1) dX0_rumour_39 rfl (by decide) ?_
        refine g_goto (tgt := 44) dX0_rumour_40 (by decide) ?_
        obtain rfl := Option.some.inj hf
        exact hJq11
    | inr a8 =>
      replace hf : _ = some _ := hf
      refine g_callS (pc' := 27) (as := [.int q2]) (wX0_isTold g _ q2 hq6) oX0_isTold ⟨Nat.le_of_ble_eq_true rfl, Nat.le_of_ble_eq_true rfl⟩ dX0_rumour_24 rfl q216 q217 q83 (Nat.le_of_ble_eq_true rfl) (Nat.le_of_ble_eq_true rfl) g_nr (g_tt ?_) rfl
      obtain ⟨h24, hf⟩ := vK_spec hf
      refine t_catch (ci := 4) rfl (by decide) q204 rfl h24 ?_
      refine g_astore_n (pc' := 71) (L' := [some (.ref a0), some (.int x1), some (.int x2), some (.ref a8)]) dX0_rumour_70 rfl rfl (Nat.le_of_ble_eq_true rfl) rfl rfl ?_
      refine g_aload_n (pc' := 72) dX0_rumour_71 rfl rfl rfl ?_
      refine g_aload_n (pc' := 73) dX0_rumour_72 rfl rfl rfl ?_
      obtain ⟨q25, hq25, hf⟩ := Option.bind_eq_some_iff.mp hf
      obtain ⟨h26, hq25⟩ := vK_spec hq25
      refine g_callV (pc' := 76) (mx := mdX0_finds) (as := [.ref a8]) (wX0_finds g _ a0 a8 hq25) oX0_finds ⟨Nat.le_of_ble_eq_true rfl, Nat.le_of_ble_eq_true rfl⟩ dX0_rumour_73 rfl (ci := 0) rfl h26 ⟨by decide +kernel, by decide +kernel⟩ oX0_finds.2.2.2 rfl q289 q291 qs1 qs1 q291 (Nat.le_of_ble_eq_true rfl) (Nat.le_of_ble_eq_true rfl) (g_rI ?_) g_nt rfl
      obtain rfl := Option.some.inj hf
      exact g_iret dX0_rumour_76 rfl rfl ⟨rfl, rfl⟩
  replace hf := hqq2
  refine g_if_eq (tgt := 23) (pc' := 12) dX0_rumour_9 (by decide) rfl (fun h3 => ?_) (fun h3 => ?_)
  · replace hf := (if_pos h3).symm.trans hf
    refine g_iconst (pc' := 24) (v := 0) dX0_rumour_23 rfl (by decide) ?_
    obtain rfl := Option.some.inj hf
    exact hJq2
  · replace hf := (if_neg h3).symm.trans hf
    refine g_iload_n (pc' := 13) dX0_rumour_12 rfl rfl rfl ?_
    obtain ⟨q4, hq4, hf⟩ := Option.bind_eq_some_iff.mp hf
    refine g_callS (pc' := 16) (as := [.int x2]) (wX0_isEvent g _ x2 hq4) oX0_isEvent ⟨Nat.le_of_ble_eq_true rfl, Nat.le_of_ble_eq_true rfl⟩ dX0_rumour_13 rfl q356 q357 q83 (Nat.le_of_ble_eq_true rfl) (Nat.le_of_ble_eq_true rfl) (g_rI ?_) g_nt rfl
    refine g_if_eq (tgt := 23) (pc' := 19) dX0_rumour_16 (by decide) rfl (fun h5 => ?_) (fun h5 => ?_)
    · replace hf := (if_pos h5).symm.trans hf
      refine g_iconst (pc' := 24) (v := 0) dX0_rumour_23 rfl (by decide) ?_
      obtain rfl := Option.some.inj hf
      exact hJq2
    · replace hf := (if_neg h5).symm.trans hf
      refine g_iconst (pc' := 20) (v := 1) dX0_rumour_19 rfl (by decide) ?_
      refine g_goto (tgt := 24) dX0_rumour_20 (by decide) ?_
      obtain rfl := Option.some.inj hf
      exact hJq2
def mdX0_rumourAt : bMD := (yX0_rumourAt, cX0_rumourAt, 2, (some (FieldType.object "RumourBeds$Rumour")), [], 6, 137)
theorem oX0_rumourAt : bOkc mdX0_rumourAt 1 := ⟨by decide +kernel, ⟨by decide +kernel, by decide +kernel⟩, by decide +kernel, q431⟩
def fX0_rumourAt (w : bWl) (a0 : Nat) (x1 : Int32) : Option ((Nat ⊕ Nat) × bWl) :=
  Option.bind (hR w (okc 0) a0 0) fun v1 =>
  Option.bind (hI w (okc 1) v1 2) fun v2 =>
  Option.bind (fX0_in ((x1 : Int32).toInt64) 0 (((v2 - 1) : Int32).toInt64)) fun q3 =>
  Option.bind (fX0_need w q3 0) fun q4 => sm q4.1 (fun v5 =>
  Option.bind (hR q4.2 (okc 0) a0 0) fun v7 =>
  Option.bind (vK 1 q4.2 v7 (fX1_rumour q4.2 v7 x1)) fun q8 =>
  some (Sum.inl q8, q4.2)) (fun a6 => some (Sum.inr a6, q4.2))
set_option maxHeartbeats 4000000 in
theorem wX0_rumourAt (g : bGh) (w : bWl) (a0 : Nat) (x1 : Int32) {r : ((Nat ⊕ Nat) × bWl)} (hf : fX0_rumourAt w a0 x1 = some r) : bM g mdX0_rumourAt w [.ref a0, .int x1] (qX eA r.1 r.2) := by
  unfold fX0_rumourAt at hf
  change bG _ _ 0 [some (.ref a0), some (.int x1)] []
  refine g_iload_n (pc' := 1) dX0_rumourAt_0 rfl rfl rfl ?_
  refine g_i2l (pc' := 2) dX0_rumourAt_1 rfl ?_
  refine g_lconst (pc' := 3) (v := 0) dX0_rumourAt_2 rfl (by decide) ?_
  refine g_aload_n (pc' := 4) dX0_rumourAt_3 rfl rfl rfl ?_
  obtain ⟨v1, hv1, hf⟩ := Option.bind_eq_some_iff.mp hf
  refine g_get (pc' := 7) (fok_0 0 (by decide)) (Or.inl rfl) dX0_rumourAt_4 rfl q171 (hR_spec hv1) ?_
  obtain ⟨v2, hv2, hf⟩ := Option.bind_eq_some_iff.mp hf
  refine g_get (pc' := 10) (fok_1 2 (by decide)) (Or.inl rfl) dX0_rumourAt_7 rfl q141 (hI_spec hv2) ?_
  refine g_iconst (pc' := 11) (v := 1) dX0_rumourAt_10 rfl (by decide) ?_
  refine g_isub (pc' := 12) dX0_rumourAt_11 rfl ?_
  refine g_i2l (pc' := 13) dX0_rumourAt_12 rfl ?_
  obtain ⟨q3, hq3, hf⟩ := Option.bind_eq_some_iff.mp hf
  refine g_callS (pc' := 16) (as := [.long ((x1 : Int32).toInt64), .long 0, .long (((v2 - 1) : Int32).toInt64)]) (wX0_in g _ ((x1 : Int32).toInt64) 0 (((v2 - 1) : Int32).toInt64) hq3) oX0_in ⟨Nat.le_of_ble_eq_true rfl, Nat.le_of_ble_eq_true rfl⟩ dX0_rumourAt_13 rfl q209 q210 q83 (Nat.le_of_ble_eq_true rfl) (Nat.le_of_ble_eq_true rfl) (g_rI ?_) g_nt rfl
  refine g_iconst (pc' := 17) (v := 0) dX0_rumourAt_16 rfl (by decide) ?_
  obtain ⟨q4, hq4, hf⟩ := Option.bind_eq_some_iff.mp hf
  obtain ⟨zq4, wq4⟩ := q4
  cases zq4 with
  | inl v5 =>
    replace hf : _ = some _ := hf
    refine g_callS (pc' := 20) (as := [.int q3, .int 0]) (wX0_need g _ q3 0 hq4) oX0_need ⟨Nat.le_of_ble_eq_true rfl, Nat.le_of_ble_eq_true rfl⟩ dX0_rumourAt_17 rfl q219 q220 q83 (Nat.le_of_ble_eq_true rfl) (Nat.le_of_ble_eq_true rfl) (g_rV ?_) g_nt rfl
    refine g_aload_n (pc' := 21) dX0_rumourAt_20 rfl rfl rfl ?_
    obtain ⟨v7, hv7, hf⟩ := Option.bind_eq_some_iff.mp hf
    refine g_get (pc' := 24) (fok_0 0 (by decide)) (Or.inl rfl) dX0_rumourAt_21 rfl q171 (hR_spec hv7) ?_
    refine g_iload_n (pc' := 25) dX0_rumourAt_24 rfl rfl rfl ?_
    obtain ⟨q8, hq8, hf⟩ := Option.bind_eq_some_iff.mp hf
    obtain ⟨h9, hq8⟩ := vK_spec hq8
    refine g_callV (pc' := 28) (mx := mdX1_rumour) (as := [.int x1]) (wX1_rumour g _ v7 x1 hq8) oX1_rumour ⟨Nat.le_of_ble_eq_true rfl, Nat.le_of_ble_eq_true rfl⟩ dX0_rumourAt_25 rfl (ci := 1) rfl h9 ⟨by decide +kernel, by decide +kernel⟩ oX1_rumour.2.2.2 rfl q316 q308 q309 q309 q308 (Nat.le_of_ble_eq_true rfl) (Nat.le_of_ble_eq_true rfl) (g_rA ?_) g_nt rfl
    obtain rfl := Option.some.inj hf
    exact g_aret dX0_rumourAt_28 rfl (Or.inl ⟨_, rfl⟩) (Or.inr ⟨_, rfl⟩) ⟨rfl, rfl⟩
  | inr a6 =>
    replace hf : _ = some _ := hf
    refine g_callS (pc' := 20) (as := [.int q3, .int 0]) (wX0_need g _ q3 0 hq4) oX0_need ⟨Nat.le_of_ble_eq_true rfl, Nat.le_of_ble_eq_true rfl⟩ dX0_rumourAt_17 rfl q219 q220 q83 (Nat.le_of_ble_eq_true rfl) (Nat.le_of_ble_eq_true rfl) g_nr (g_tt ?_) rfl
    obtain rfl := Option.some.inj hf
    exact t_leave rfl ⟨rfl, rfl⟩
def mdX0_of : bMD := (yX0_of, cX0_of, 4, (some FieldType.int), [(0, 35, 77, 1), (36, 76, 77, 1)], 7, 158)
theorem oX0_of : bOkc mdX0_of 2 := ⟨by decide +kernel, ⟨by decide +kernel, by decide +kernel⟩, by decide +kernel, q427⟩
def fX0_of (w : bWl) (a0 : Nat) (x1 : Int32) (x2 : Int32) : Option (Int32 × bWl) :=
  Option.bind (vK 0 w a0 (fX0_rumourAt w a0 x1)) fun q1 => sm q1.1 (fun v3 =>
  Option.bind (fX0_in ((x2 : Int32).toInt64) 0 7) fun q5 =>
  Option.bind (fX0_isTold q1.2 q5) fun q6 => sm q6.1 (fun v7 =>
  (if x2 ≤ 0 then
  (if x2 = 0 then
  Option.bind (fv_kind q6.2 v3) fun v19 =>
  some (v19, q6.2)
else
  (if x2 = 5 then
  Option.bind (fv_eats q6.2 v3) fun v17 =>
  some (v17, q6.2)
else
  (if x2 = 6 then
  Option.bind (fv_needs q6.2 v3) fun v15 =>
  some (v15, q6.2)
else
  Option.bind (fv_grows q6.2 v3) fun v13 =>
  some (v13, q6.2))))
else
  (if 5 ≤ x2 then
  (if x2 = 0 then
  Option.bind (fv_kind q6.2 v3) fun v31 =>
  some (v31, q6.2)
else
  (if x2 = 5 then
  Option.bind (fv_eats q6.2 v3) fun v29 =>
  some (v29, q6.2)
else
  (if x2 = 6 then
  Option.bind (fv_needs q6.2 v3) fun v27 =>
  some (v27, q6.2)
else
  Option.bind (fv_grows q6.2 v3) fun v25 =>
  some (v25, q6.2))))
else
  Option.bind (hR q6.2 okRu v3 0) fun v33 =>
  Option.bind (aI q6.2 0 v33 (x2 - 1)) fun v34 =>
  some (v34, q6.2)))) (fun a8 => vK 4 q6.2 a8 (Option.bind (vK 0 q6.2 a0 (fX0_finds q6.2 a0 a8)) fun q36 =>
  some (q36.1, q36.2)))) (fun a4 => vK 4 q1.2 a4 (Option.bind (vK 0 q1.2 a0 (fX0_finds q1.2 a0 a4)) fun q39 =>
  some (q39.1, q39.2)))
set_option maxHeartbeats 4000000 in
theorem wX0_of (g : bGh) (w : bWl) (a0 : Nat) (x1 : Int32) (x2 : Int32) {r : (Int32 × bWl)} (hf : fX0_of w a0 x1 x2 = some r) : bM g mdX0_of w [.ref a0, .int x1, .int x2] (q_ (eI r.1) r.2) := by
  unfold fX0_of at hf
  change bG _ _ 0 [some (.ref a0), some (.int x1), some (.int x2)] []
  refine g_aload_n (pc' := 1) dX0_of_0 rfl rfl rfl ?_
  refine g_iload_n (pc' := 2) dX0_of_1 rfl rfl rfl ?_
  obtain ⟨q1, hq1, hf⟩ := Option.bind_eq_some_iff.mp hf
  obtain ⟨h2, hq1⟩ := vK_spec hq1
  obtain ⟨zq1, wq1⟩ := q1
  cases zq1 with
  | inl v3 =>
    replace hf : _ = some _ := hf
    refine g_callV (pc' := 5) (mx := mdX0_rumourAt) (as := [.int x1]) (wX0_rumourAt g _ a0 x1 hq1) oX0_rumourAt ⟨Nat.le_of_ble_eq_true rfl, Nat.le_of_ble_eq_true rfl⟩ dX0_of_2 rfl (ci := 0) rfl h2 ⟨by decide +kernel, by decide +kernel⟩ oX0_rumourAt.2.2.2 rfl q428 q430 qs4 qs4 q430 (Nat.le_of_ble_eq_true rfl) (Nat.le_of_ble_eq_true rfl) (g_rA ?_) g_nt rfl
    refine g_astore_n (pc' := 6) (L' := [some (.ref a0), some (.int x1), some (.int x2), some (.ref v3)]) dX0_of_5 rfl rfl (Nat.le_of_ble_eq_true rfl) rfl rfl ?_
    refine g_iload_n (pc' := 7) dX0_of_6 rfl rfl rfl ?_
    refine g_i2l (pc' := 8) dX0_of_7 rfl ?_
    refine g_lconst (pc' := 9) (v := 0) dX0_of_8 rfl (by decide) ?_
    refine g_ldc2 (pc' := 12) dX0_of_9 rfl q208 ?_
    obtain ⟨q5, hq5, hf⟩ := Option.bind_eq_some_iff.mp hf
    refine g_callS (pc' := 15) (as := [.long ((x2 : Int32).toInt64), .long 0, .long 7]) (wX0_in g _ ((x2 : Int32).toInt64) 0 7 hq5) oX0_in ⟨Nat.le_of_ble_eq_true rfl, Nat.le_of_ble_eq_true rfl⟩ dX0_of_12 rfl q209 q210 q83 (Nat.le_of_ble_eq_true rfl) (Nat.le_of_ble_eq_true rfl) (g_rI ?_) g_nt rfl
    obtain ⟨q6, hq6, hf⟩ := Option.bind_eq_some_iff.mp hf
    obtain ⟨zq6, wq6⟩ := q6
    cases zq6 with
    | inl v7 =>
      replace hf : _ = some _ := hf
      refine g_callS (pc' := 18) (as := [.int q5]) (wX0_isTold g _ q5 hq6) oX0_isTold ⟨Nat.le_of_ble_eq_true rfl, Nat.le_of_ble_eq_true rfl⟩ dX0_of_15 rfl q216 q217 q83 (Nat.le_of_ble_eq_true rfl) (Nat.le_of_ble_eq_true rfl) (g_rV ?_) g_nt rfl
      refine g_iload_n (pc' := 19) dX0_of_18 rfl rfl rfl ?_
      refine g_if_le (tgt := 36) (pc' := 22) dX0_of_19 (by decide) rfl (fun h9 => ?_) (fun h9 => ?_)
      · replace hf := (if_pos h9).symm.trans hf
        refine g_iload_n (pc' := 37) dX0_of_36 rfl rfl rfl ?_
        refine g_if_ne (tgt := 47) (pc' := 40) dX0_of_37 (by decide) rfl (fun h10 => ?_) (fun h10 => ?_)
        · replace hf := (if_neg h10).symm.trans hf
          refine g_iload_n (pc' := 48) dX0_of_47 rfl rfl rfl ?_
          refine g_iconst (pc' := 49) (v := 5) dX0_of_48 rfl (by decide) ?_
          refine g_icmp_ne (tgt := 59) (pc' := 52) dX0_of_49 (by decide) rfl (fun h11 => ?_) (fun h11 => ?_)
          · replace hf := (if_neg h11).symm.trans hf
            refine g_iload_n (pc' := 60) dX0_of_59 rfl rfl rfl ?_
            refine g_bipush (pc' := 62) (v := 6) dX0_of_60 rfl (by decide) ?_
            refine g_icmp_ne (tgt := 72) (pc' := 65) dX0_of_62 (by decide) rfl (fun h12 => ?_) (fun h12 => ?_)
            · replace hf := (if_neg h12).symm.trans hf
              refine g_aload_n (pc' := 73) dX0_of_72 rfl rfl rfl ?_
              obtain ⟨v13, hv13, hf⟩ := Option.bind_eq_some_iff.mp hf
              refine gv_grows (pc' := 76) dX0_of_73 rfl q480 ⟨Nat.le_of_ble_eq_true rfl, Nat.le_of_ble_eq_true rfl⟩ hv13 (Nat.le_of_ble_eq_true rfl) ?_
              obtain rfl := Option.some.inj hf
              exact g_iret dX0_of_76 rfl rfl ⟨rfl, rfl⟩
            · replace hf := (if_pos h12).symm.trans hf
              refine g_aload_n (pc' := 66) dX0_of_65 rfl rfl rfl ?_
              obtain ⟨v15, hv15, hf⟩ := Option.bind_eq_some_iff.mp hf
              refine gv_needs (pc' := 69) dX0_of_66 rfl (List.mem_of_getElem? (i := 0) rfl) ⟨Nat.le_of_ble_eq_true rfl, Nat.le_of_ble_eq_true rfl⟩ hv15 (Nat.le_of_ble_eq_true rfl) ?_
              refine g_goto (tgt := 76) dX0_of_69 (by decide) ?_
              obtain rfl := Option.some.inj hf
              exact g_iret dX0_of_76 rfl rfl ⟨rfl, rfl⟩
          · replace hf := (if_pos h11).symm.trans hf
            refine g_aload_n (pc' := 53) dX0_of_52 rfl rfl rfl ?_
            obtain ⟨v17, hv17, hf⟩ := Option.bind_eq_some_iff.mp hf
            refine gv_eats (pc' := 56) dX0_of_53 rfl q457 ⟨Nat.le_of_ble_eq_true rfl, Nat.le_of_ble_eq_true rfl⟩ hv17 (Nat.le_of_ble_eq_true rfl) ?_
            refine g_goto (tgt := 76) dX0_of_56 (by decide) ?_
            obtain rfl := Option.some.inj hf
            exact g_iret dX0_of_76 rfl rfl ⟨rfl, rfl⟩
        · replace hf := (if_pos h10).symm.trans hf
          refine g_aload_n (pc' := 41) dX0_of_40 rfl rfl rfl ?_
          obtain ⟨v19, hv19, hf⟩ := Option.bind_eq_some_iff.mp hf
          refine gv_kind (pc' := 44) dX0_of_41 rfl q432 ⟨Nat.le_of_ble_eq_true rfl, Nat.le_of_ble_eq_true rfl⟩ hv19 (Nat.le_of_ble_eq_true rfl) ?_
          refine g_goto (tgt := 76) dX0_of_44 (by decide) ?_
          obtain rfl := Option.some.inj hf
          exact g_iret dX0_of_76 rfl rfl ⟨rfl, rfl⟩
      · replace hf := (if_neg h9).symm.trans hf
        refine g_iload_n (pc' := 23) dX0_of_22 rfl rfl rfl ?_
        refine g_iconst (pc' := 24) (v := 5) dX0_of_23 rfl (by decide) ?_
        refine g_icmp_ge (tgt := 36) (pc' := 27) dX0_of_24 (by decide) rfl (fun h21 => ?_) (fun h21 => ?_)
        · replace hf := (if_pos h21).symm.trans hf
          refine g_iload_n (pc' := 37) dX0_of_36 rfl rfl rfl ?_
          refine g_if_ne (tgt := 47) (pc' := 40) dX0_of_37 (by decide) rfl (fun h22 => ?_) (fun h22 => ?_)
          · replace hf := (if_neg h22).symm.trans hf
            refine g_iload_n (pc' := 48) dX0_of_47 rfl rfl rfl ?_
            refine g_iconst (pc' := 49) (v := 5) dX0_of_48 rfl (by decide) ?_
            refine g_icmp_ne (tgt := 59) (pc' := 52) dX0_of_49 (by decide) rfl (fun h23 => ?_) (fun h23 => ?_)
            · replace hf := (if_neg h23).symm.trans hf
              refine g_iload_n (pc' := 60) dX0_of_59 rfl rfl rfl ?_
              refine g_bipush (pc' := 62) (v := 6) dX0_of_60 rfl (by decide) ?_
              refine g_icmp_ne (tgt := 72) (pc' := 65) dX0_of_62 (by decide) rfl (fun h24 => ?_) (fun h24 => ?_)
              · replace hf := (if_neg h24).symm.trans hf
                refine g_aload_n (pc' := 73) dX0_of_72 rfl rfl rfl ?_
                obtain ⟨v25, hv25, hf⟩ := Option.bind_eq_some_iff.mp hf
                refine gv_grows (pc' := 76) dX0_of_73 rfl q480 ⟨Nat.le_of_ble_eq_true rfl, Nat.le_of_ble_eq_true rfl⟩ hv25 (Nat.le_of_ble_eq_true rfl) ?_
                obtain rfl := Option.some.inj hf
                exact g_iret dX0_of_76 rfl rfl ⟨rfl, rfl⟩
              · replace hf := (if_pos h24).symm.trans hf
                refine g_aload_n (pc' := 66) dX0_of_65 rfl rfl rfl ?_
                obtain ⟨v27, hv27, hf⟩ := Option.bind_eq_some_iff.mp hf
                refine gv_needs (pc' := 69) dX0_of_66 rfl (List.mem_of_getElem? (i := 0) rfl) ⟨Nat.le_of_ble_eq_true rfl, Nat.le_of_ble_eq_true rfl⟩ hv27 (Nat.le_of_ble_eq_true rfl) ?_
                refine g_goto (tgt := 76) dX0_of_69 (by decide) ?_
                obtain rfl := Option.some.inj hf
                exact g_iret dX0_of_76 rfl rfl ⟨rfl, rfl⟩
            · replace hf := (if_pos h23).symm.trans hf
              refine g_aload_n (pc' := 53) dX0_of_52 rfl rfl rfl ?_
              obtain ⟨v29, hv29, hf⟩ := Option.bind_eq_some_iff.mp hf
              refine gv_eats (pc' := 56) dX0_of_53 rfl q457 ⟨Nat.le_of_ble_eq_true rfl, Nat.le_of_ble_eq_true rfl⟩ hv29 (Nat.le_of_ble_eq_true rfl) ?_
              refine g_goto (tgt := 76) dX0_of_56 (by decide) ?_
              obtain rfl := Option.some.inj hf
              exact g_iret dX0_of_76 rfl rfl ⟨rfl, rfl⟩
          · replace hf := (if_pos h22).symm.trans hf
            refine g_aload_n (pc' := 41) dX0_of_40 rfl rfl rfl ?_
            obtain ⟨v31, hv31, hf⟩ := Option.bind_eq_some_iff.mp hf
            refine gv_kind (pc' := 44) dX0_of_41 rfl q432 ⟨Nat.le_of_ble_eq_true rfl, Nat.le_of_ble_eq_true rfl⟩ hv31 (Nat.le_of_ble_eq_true rfl) ?_
            refine g_goto (tgt := 76) dX0_of_44 (by decide) ?_
            obtain rfl := Option.some.inj hf
            exact g_iret dX0_of_76 rfl rfl ⟨rfl, rfl⟩
        · replace hf := (if_neg h21).symm.trans hf
          refine g_aload_n (pc' := 28) dX0_of_27 rfl rfl rfl ?_
          obtain ⟨v33, hv33, hf⟩ := Option.bind_eq_some_iff.mp hf
          refine g_get (pc' := 31) fok_Ru (Or.inl rfl) dX0_of_28 rfl q384 (hR_spec hv33) ?_
          refine g_iload_n (pc' := 32) dX0_of_31 rfl rfl rfl ?_
          refine g_iconst (pc' := 33) (v := 1) dX0_of_32 rfl (by decide) ?_
          refine g_isub (pc' := 34) dX0_of_33 rfl ?_
          obtain ⟨v34, hv34, hf⟩ := Option.bind_eq_some_iff.mp hf
          refine g_iald (pc' := 35) dX0_of_34 rfl hv34 ?_
          obtain rfl := Option.some.inj hf
          exact g_iret dX0_of_35 rfl rfl ⟨rfl, rfl⟩
    | inr a8 =>
      replace hf : _ = some _ := hf
      refine g_callS (pc' := 18) (as := [.int q5]) (wX0_isTold g _ q5 hq6) oX0_isTold ⟨Nat.le_of_ble_eq_true rfl, Nat.le_of_ble_eq_true rfl⟩ dX0_of_15 rfl q216 q217 q83 (Nat.le_of_ble_eq_true rfl) (Nat.le_of_ble_eq_true rfl) g_nr (g_tt ?_) rfl
      obtain ⟨h35, hf⟩ := vK_spec hf
      refine t_catch (ci := 4) rfl (by decide) q204 rfl h35 ?_
      refine g_astore_n (pc' := 78) (L' := [some (.ref a0), some (.int x1), some (.int x2), some (.ref a8)]) dX0_of_77 rfl rfl (Nat.le_of_ble_eq_true rfl) rfl rfl ?_
      refine g_aload_n (pc' := 79) dX0_of_78 rfl rfl rfl ?_
      refine g_aload_n (pc' := 80) dX0_of_79 rfl rfl rfl ?_
      obtain ⟨q36, hq36, hf⟩ := Option.bind_eq_some_iff.mp hf
      obtain ⟨h37, hq36⟩ := vK_spec hq36
      refine g_callV (pc' := 83) (mx := mdX0_finds) (as := [.ref a8]) (wX0_finds g _ a0 a8 hq36) oX0_finds ⟨Nat.le_of_ble_eq_true rfl, Nat.le_of_ble_eq_true rfl⟩ dX0_of_80 rfl (ci := 0) rfl h37 ⟨by decide +kernel, by decide +kernel⟩ oX0_finds.2.2.2 rfl q289 q291 qs1 qs1 q291 (Nat.le_of_ble_eq_true rfl) (Nat.le_of_ble_eq_true rfl) (g_rI ?_) g_nt rfl
      obtain rfl := Option.some.inj hf
      exact g_iret dX0_of_83 rfl rfl ⟨rfl, rfl⟩
  | inr a4 =>
    replace hf : _ = some _ := hf
    refine g_callV (pc' := 5) (mx := mdX0_rumourAt) (as := [.int x1]) (wX0_rumourAt g _ a0 x1 hq1) oX0_rumourAt ⟨Nat.le_of_ble_eq_true rfl, Nat.le_of_ble_eq_true rfl⟩ dX0_of_2 rfl (ci := 0) rfl h2 ⟨by decide +kernel, by decide +kernel⟩ oX0_rumourAt.2.2.2 rfl q428 q430 qs4 qs4 q430 (Nat.le_of_ble_eq_true rfl) (Nat.le_of_ble_eq_true rfl) g_nr (g_tt ?_) rfl
    obtain ⟨h38, hf⟩ := vK_spec hf
    refine t_catch (ci := 4) rfl (by decide) q204 rfl h38 ?_
    refine g_astore_n (pc' := 78) (L' := [some (.ref a0), some (.int x1), some (.int x2), some (.ref a4)]) dX0_of_77 rfl rfl (Nat.le_of_ble_eq_true rfl) rfl rfl ?_
    refine g_aload_n (pc' := 79) dX0_of_78 rfl rfl rfl ?_
    refine g_aload_n (pc' := 80) dX0_of_79 rfl rfl rfl ?_
    obtain ⟨q39, hq39, hf⟩ := Option.bind_eq_some_iff.mp hf
    obtain ⟨h40, hq39⟩ := vK_spec hq39
    refine g_callV (pc' := 83) (mx := mdX0_finds) (as := [.ref a4]) (wX0_finds g _ a0 a4 hq39) oX0_finds ⟨Nat.le_of_ble_eq_true rfl, Nat.le_of_ble_eq_true rfl⟩ dX0_of_80 rfl (ci := 0) rfl h40 ⟨by decide +kernel, by decide +kernel⟩ oX0_finds.2.2.2 rfl q289 q291 qs1 qs1 q291 (Nat.le_of_ble_eq_true rfl) (Nat.le_of_ble_eq_true rfl) (g_rI ?_) g_nt rfl
    obtain rfl := Option.some.inj hf
    exact g_iret dX0_of_83 rfl rfl ⟨rfl, rfl⟩
def mdX0_set : bMD := (yX0_set, cX0_set, 6, (some FieldType.int), [(0, 84, 85, 1)], 7, 158)
theorem oX0_set : bOkc mdX0_set 3 := ⟨by decide +kernel, ⟨by decide +kernel, by decide +kernel⟩, by decide +kernel, q501⟩
def fX0_set (w : bWl) (a0 : Nat) (x1 : Int32) (x2 : Int32) (x3 : Int32) : Option (Int32 × bWl) :=
  Option.bind (vK 0 w a0 (fX0_rumourAt w a0 x1)) fun q1 => sm q1.1 (fun v3 =>
  Option.bind (α := Int32) ((if x2 = 1 then
  Option.bind (fX0_isEvent x3) fun q12 =>
  some q12
else
  (if x2 = 2 then
  Option.bind (fX0_in ((x3 : Int32).toInt64) 0 99) fun q11 =>
  some q11
else
  (if x2 = 3 then
  Option.bind (fX0_in ((x3 : Int32).toInt64) 0 999) fun q9 =>
  (if q9 = 0 then
  some 0
else
  some 1)
else
  some 0)))) fun q5 =>
  Option.bind (fX0_isTold q1.2 q5) fun q13 => sm q13.1 (fun v14 =>
  Option.bind (hR q13.2 okRu v3 0) fun v16 =>
  Option.bind (aI q13.2 0 v16 (x2 - 1)) fun v17 =>
  Option.bind (hR q13.2 okRu v3 0) fun v18 =>
  Option.bind (sI q13.2 0 v18 (x2 - 1) x3) fun w19 =>
  some (v17, w19)) (fun a15 => vK 4 q13.2 a15 (Option.bind (vK 0 q13.2 a0 (fX0_finds q13.2 a0 a15)) fun q21 =>
  some (q21.1, q21.2)))) (fun a4 => vK 4 q1.2 a4 (Option.bind (vK 0 q1.2 a0 (fX0_finds q1.2 a0 a4)) fun q24 =>
  some (q24.1, q24.2)))
set_option maxHeartbeats 4000000 in
theorem wX0_set (g : bGh) (w : bWl) (a0 : Nat) (x1 : Int32) (x2 : Int32) (x3 : Int32) {r : (Int32 × bWl)} (hf : fX0_set w a0 x1 x2 x3 = some r) : bM g mdX0_set w [.ref a0, .int x1, .int x2, .int x3] (q_ (eI r.1) r.2) := by
  unfold fX0_set at hf
  change bG _ _ 0 [some (.ref a0), some (.int x1), some (.int x2), some (.int x3)] []
  refine g_aload_n (pc' := 1) dX0_set_0 rfl rfl rfl ?_
  refine g_iload_n (pc' := 2) dX0_set_1 rfl rfl rfl ?_
  obtain ⟨q1, hq1, hf⟩ := Option.bind_eq_some_iff.mp hf
  obtain ⟨h2, hq1⟩ := vK_spec hq1
  obtain ⟨zq1, wq1⟩ := q1
  cases zq1 with
  | inl v3 =>
    replace hf : _ = some _ := hf
    refine g_callV (pc' := 5) (mx := mdX0_rumourAt) (as := [.int x1]) (wX0_rumourAt g _ a0 x1 hq1) oX0_rumourAt ⟨Nat.le_of_ble_eq_true rfl, Nat.le_of_ble_eq_true rfl⟩ dX0_set_2 rfl (ci := 0) rfl h2 ⟨by decide +kernel, by decide +kernel⟩ oX0_rumourAt.2.2.2 rfl q428 q430 qs4 qs4 q430 (Nat.le_of_ble_eq_true rfl) (Nat.le_of_ble_eq_true rfl) (g_rA ?_) g_nt rfl
    refine g_astore (pc' := 7) (L' := [some (.ref a0), some (.int x1), some (.int x2), some (.int x3), some (.ref v3)]) dX0_set_5 rfl (Nat.le_of_ble_eq_true rfl) rfl rfl ?_
    refine g_iload_n (pc' := 8) dX0_set_7 rfl rfl rfl ?_
    refine g_iconst (pc' := 9) (v := 1) dX0_set_8 rfl (by decide) ?_
    obtain ⟨q5, hqq5, hf⟩ := Option.bind_eq_some_iff.mp hf
    have hJq5 : bG (g, mdX0_set, w.2.1, w.2.2.1, (q_ (eI r.1) r.2)) wq1 58 [some (.ref a0), none, some (.int x2), some (.int x3), some (.ref v3)] [.int q5] := by
      obtain ⟨q13, hq13, hf⟩ := Option.bind_eq_some_iff.mp hf
      obtain ⟨zq13, wq13⟩ := q13
      cases zq13 with
      | inl v14 =>
        replace hf : _ = some _ := hf
        refine g_callS (pc' := 61) (as := [.int q5]) (wX0_isTold g _ q5 hq13) oX0_isTold ⟨Nat.le_of_ble_eq_true rfl, Nat.le_of_ble_eq_true rfl⟩ dX0_set_58 rfl q216 q217 q83 (Nat.le_of_ble_eq_true rfl) (Nat.le_of_ble_eq_true rfl) (g_rV ?_) g_nt rfl
        refine g_aload (pc' := 63) dX0_set_61 rfl rfl ?_
        obtain ⟨v16, hv16, hf⟩ := Option.bind_eq_some_iff.mp hf
        refine g_get (pc' := 66) fok_Ru (Or.inl rfl) dX0_set_63 rfl q384 (hR_spec hv16) ?_
        refine g_iload_n (pc' := 67) dX0_set_66 rfl rfl rfl ?_
        refine g_iconst (pc' := 68) (v := 1) dX0_set_67 rfl (by decide) ?_
        refine g_isub (pc' := 69) dX0_set_68 rfl ?_
        obtain ⟨v17, hv17, hf⟩ := Option.bind_eq_some_iff.mp hf
        refine g_iald (pc' := 70) dX0_set_69 rfl hv17 ?_
        refine g_istore (pc' := 72) (L' := [some (.ref a0), none, some (.int x2), some (.int x3), some (.ref v3), some (.int v17)]) dX0_set_70 rfl (Nat.le_of_ble_eq_true rfl) rfl rfl ?_
        refine g_aload (pc' := 74) dX0_set_72 rfl rfl ?_
        obtain ⟨v18, hv18, hf⟩ := Option.bind_eq_some_iff.mp hf
        refine g_get (pc' := 77) fok_Ru (Or.inl rfl) dX0_set_74 rfl q384 (hR_spec hv18) ?_
        refine g_iload_n (pc' := 78) dX0_set_77 rfl rfl rfl ?_
        refine g_iconst (pc' := 79) (v := 1) dX0_set_78 rfl (by decide) ?_
        refine g_isub (pc' := 80) dX0_set_79 rfl ?_
        refine g_iload_n (pc' := 81) dX0_set_80 rfl rfl rfl ?_
        obtain ⟨w19, hw19, hf⟩ := Option.bind_eq_some_iff.mp hf
        refine g_iast (pc' := 82) dX0_set_81 rfl hw19 ?_
        refine g_iload (pc' := 84) dX0_set_82 rfl rfl ?_
        obtain rfl := Option.some.inj hf
        exact g_iret dX0_set_84 rfl rfl ⟨rfl, rfl⟩
      | inr a15 =>
        replace hf : _ = some _ := hf
        refine g_callS (pc' := 61) (as := [.int q5]) (wX0_isTold g _ q5 hq13) oX0_isTold ⟨Nat.le_of_ble_eq_true rfl, Nat.le_of_ble_eq_true rfl⟩ dX0_set_58 rfl q216 q217 q83 (Nat.le_of_ble_eq_true rfl) (Nat.le_of_ble_eq_true rfl) g_nr (g_tt ?_) rfl
        obtain ⟨h20, hf⟩ := vK_spec hf
        refine t_catch (ci := 4) rfl (by decide) q204 rfl h20 ?_
        refine g_astore (pc' := 87) (L' := [some (.ref a0), none, some (.int x2), some (.int x3), some (.ref a15)]) dX0_set_85 rfl (Nat.le_of_ble_eq_true rfl) rfl rfl ?_
        refine g_aload_n (pc' := 88) dX0_set_87 rfl rfl rfl ?_
        refine g_aload (pc' := 90) dX0_set_88 rfl rfl ?_
        obtain ⟨q21, hq21, hf⟩ := Option.bind_eq_some_iff.mp hf
        obtain ⟨h22, hq21⟩ := vK_spec hq21
        refine g_callV (pc' := 93) (mx := mdX0_finds) (as := [.ref a15]) (wX0_finds g _ a0 a15 hq21) oX0_finds ⟨Nat.le_of_ble_eq_true rfl, Nat.le_of_ble_eq_true rfl⟩ dX0_set_90 rfl (ci := 0) rfl h22 ⟨by decide +kernel, by decide +kernel⟩ oX0_finds.2.2.2 rfl q289 q291 qs1 qs1 q291 (Nat.le_of_ble_eq_true rfl) (Nat.le_of_ble_eq_true rfl) (g_rI ?_) g_nt rfl
        obtain rfl := Option.some.inj hf
        exact g_iret dX0_set_93 rfl rfl ⟨rfl, rfl⟩
    replace hf := hqq5
    refine g_icmp_ne (tgt := 19) (pc' := 12) dX0_set_9 (by decide) rfl (fun h6 => ?_) (fun h6 => ?_)
    · replace hf := (if_neg h6).symm.trans hf
      refine g_iload_n (pc' := 20) dX0_set_19 rfl rfl rfl ?_
      refine g_iconst (pc' := 21) (v := 2) dX0_set_20 rfl (by decide) ?_
      refine g_icmp_ne (tgt := 36) (pc' := 24) dX0_set_21 (by decide) rfl (fun h7 => ?_) (fun h7 => ?_)
      · replace hf := (if_neg h7).symm.trans hf
        refine g_iload_n (pc' := 37) dX0_set_36 rfl rfl rfl ?_
        refine g_iconst (pc' := 38) (v := 3) dX0_set_37 rfl (by decide) ?_
        refine g_icmp_ne (tgt := 57) (pc' := 41) dX0_set_38 (by decide) rfl (fun h8 => ?_) (fun h8 => ?_)
        · replace hf := (if_neg h8).symm.trans hf
          refine g_iconst (pc' := 58) (v := 0) dX0_set_57 rfl (by decide) ?_
          obtain rfl := Option.some.inj hf
          refine g_drop [1] (L' := [some (.ref a0), none, some (.int x2), some (.int x3), some (.ref v3)]) rfl ?_
          exact hJq5
        · replace hf := (if_pos h8).symm.trans hf
          refine g_iload_n (pc' := 42) dX0_set_41 rfl rfl rfl ?_
          refine g_i2l (pc' := 43) dX0_set_42 rfl ?_
          refine g_lconst (pc' := 44) (v := 0) dX0_set_43 rfl (by decide) ?_
          refine g_ldc2 (pc' := 47) dX0_set_44 rfl q214 ?_
          obtain ⟨q9, hq9, hf⟩ := Option.bind_eq_some_iff.mp hf
          refine g_callS (pc' := 50) (as := [.long ((x3 : Int32).toInt64), .long 0, .long 999]) (wX0_in g _ ((x3 : Int32).toInt64) 0 999 hq9) oX0_in ⟨Nat.le_of_ble_eq_true rfl, Nat.le_of_ble_eq_true rfl⟩ dX0_set_47 rfl q209 q210 q83 (Nat.le_of_ble_eq_true rfl) (Nat.le_of_ble_eq_true rfl) (g_rI ?_) g_nt rfl
          refine g_if_eq (tgt := 57) (pc' := 53) dX0_set_50 (by decide) rfl (fun h10 => ?_) (fun h10 => ?_)
          · replace hf := (if_pos h10).symm.trans hf
            refine g_iconst (pc' := 58) (v := 0) dX0_set_57 rfl (by decide) ?_
            obtain rfl := Option.some.inj hf
            refine g_drop [1] (L' := [some (.ref a0), none, some (.int x2), some (.int x3), some (.ref v3)]) rfl ?_
            exact hJq5
          · replace hf := (if_neg h10).symm.trans hf
            refine g_iconst (pc' := 54) (v := 1) dX0_set_53 rfl (by decide) ?_
            refine g_goto (tgt := 58) dX0_set_54 (by decide) ?_
            obtain rfl := Option.some.inj hf
            refine g_drop [1] (L' := [some (.ref a0), none, some (.int x2), some (.int x3), some (.ref v3)]) rfl ?_
            exact hJq5
      · replace hf := (if_pos h7).symm.trans hf
        refine g_iload_n (pc' := 25) dX0_set_24 rfl rfl rfl ?_
        refine g_i2l (pc' := 26) dX0_set_25 rfl ?_
        refine g_lconst (pc' := 27) (v := 0) dX0_set_26 rfl (by decide) ?_
        refine g_ldc2 (pc' := 30) dX0_set_27 rfl q502 ?_
        obtain ⟨q11, hq11, hf⟩ := Option.bind_eq_some_iff.mp hf
        refine g_callS (pc' := 33) (as := [.long ((x3 : Int32).toInt64), .long 0, .long 99]) (wX0_in g _ ((x3 : Int32).toInt64) 0 99 hq11) oX0_in ⟨Nat.le_of_ble_eq_true rfl, Nat.le_of_ble_eq_true rfl⟩ dX0_set_30 rfl q209 q210 q83 (Nat.le_of_ble_eq_true rfl) (Nat.le_of_ble_eq_true rfl) (g_rI ?_) g_nt rfl
        refine g_goto (tgt := 58) dX0_set_33 (by decide) ?_
        obtain rfl := Option.some.inj hf
        refine g_drop [1] (L' := [some (.ref a0), none, some (.int x2), some (.int x3), some (.ref v3)]) rfl ?_
        exact hJq5
    · replace hf := (if_pos h6).symm.trans hf
      refine g_iload_n (pc' := 13) dX0_set_12 rfl rfl rfl ?_
      obtain ⟨q12, hq12, hf⟩ := Option.bind_eq_some_iff.mp hf
      refine g_callS (pc' := 16) (as := [.int x3]) (wX0_isEvent g _ x3 hq12) oX0_isEvent ⟨Nat.le_of_ble_eq_true rfl, Nat.le_of_ble_eq_true rfl⟩ dX0_set_13 rfl q356 q357 q83 (Nat.le_of_ble_eq_true rfl) (Nat.le_of_ble_eq_true rfl) (g_rI ?_) g_nt rfl
      refine g_goto (tgt := 58) dX0_set_16 (by decide) ?_
      obtain rfl := Option.some.inj hf
      refine g_drop [1] (L' := [some (.ref a0), none, some (.int x2), some (.int x3), some (.ref v3)]) rfl ?_
      exact hJq5
  | inr a4 =>
    replace hf : _ = some _ := hf
    refine g_callV (pc' := 5) (mx := mdX0_rumourAt) (as := [.int x1]) (wX0_rumourAt g _ a0 x1 hq1) oX0_rumourAt ⟨Nat.le_of_ble_eq_true rfl, Nat.le_of_ble_eq_true rfl⟩ dX0_set_2 rfl (ci := 0) rfl h2 ⟨by decide +kernel, by decide +kernel⟩ oX0_rumourAt.2.2.2 rfl q428 q430 qs4 qs4 q430 (Nat.le_of_ble_eq_true rfl) (Nat.le_of_ble_eq_true rfl) g_nr (g_tt ?_) rfl
    obtain ⟨h23, hf⟩ := vK_spec hf
    refine t_catch (ci := 4) rfl (by decide) q204 rfl h23 ?_
    refine g_astore (pc' := 87) (L' := [some (.ref a0), some (.int x1), some (.int x2), some (.int x3), some (.ref a4)]) dX0_set_85 rfl (Nat.le_of_ble_eq_true rfl) rfl rfl ?_
    refine g_aload_n (pc' := 88) dX0_set_87 rfl rfl rfl ?_
    refine g_aload (pc' := 90) dX0_set_88 rfl rfl ?_
    obtain ⟨q24, hq24, hf⟩ := Option.bind_eq_some_iff.mp hf
    obtain ⟨h25, hq24⟩ := vK_spec hq24
    refine g_callV (pc' := 93) (mx := mdX0_finds) (as := [.ref a4]) (wX0_finds g _ a0 a4 hq24) oX0_finds ⟨Nat.le_of_ble_eq_true rfl, Nat.le_of_ble_eq_true rfl⟩ dX0_set_90 rfl (ci := 0) rfl h25 ⟨by decide +kernel, by decide +kernel⟩ oX0_finds.2.2.2 rfl q289 q291 qs1 qs1 q291 (Nat.le_of_ble_eq_true rfl) (Nat.le_of_ble_eq_true rfl) (g_rI ?_) g_nt rfl
    obtain rfl := Option.some.inj hf
    exact g_iret dX0_set_93 rfl rfl ⟨rfl, rfl⟩
def mdX0_turn : bMD := (yX0_turn, cX0_turn, 4, (some FieldType.int), [(0, 31, 32, 1)], 8, 186)
theorem oX0_turn : bOkc mdX0_turn 2 := ⟨by decide +kernel, ⟨by decide +kernel, by decide +kernel⟩, by decide +kernel, q506⟩
def fX0_turn (w : bWl) (a0 : Nat) (x1 : Int32) (x2 : Int32) : Option (Int32 × bWl) :=
  Option.bind (vK 0 w a0 (fX0_rumourAt w a0 x1)) fun q1 => sm q1.1 (fun v3 =>
  Option.bind (fv_kind q1.2 v3) fun v5 =>
  Option.bind (fX0_in ((x2 : Int32).toInt64) 0 5) fun q7 =>
  Option.bind (fX0_isTold q1.2 q7) fun q8 => sm q8.1 (fun v9 =>
  Option.bind (hR q8.2 (okc 0) a0 0) fun v11 =>
  Option.bind (vK 1 q8.2 v11 (fX1_turns q8.2 v11 x1 x2)) fun q12 =>
  some (v5, q12)) (fun a10 => vK 4 q8.2 a10 (Option.bind (vK 0 q8.2 a0 (fX0_finds q8.2 a0 a10)) fun q15 =>
  some (q15.1, q15.2)))) (fun a4 => vK 4 q1.2 a4 (Option.bind (vK 0 q1.2 a0 (fX0_finds q1.2 a0 a4)) fun q18 =>
  some (q18.1, q18.2)))
set_option maxHeartbeats 4000000 in
theorem wX0_turn (g : bGh) (w : bWl) (a0 : Nat) (x1 : Int32) (x2 : Int32) {r : (Int32 × bWl)} (hf : fX0_turn w a0 x1 x2 = some r) : bM g mdX0_turn w [.ref a0, .int x1, .int x2] (q_ (eI r.1) r.2) := by
  unfold fX0_turn at hf
  change bG _ _ 0 [some (.ref a0), some (.int x1), some (.int x2)] []
  refine g_aload_n (pc' := 1) dX0_turn_0 rfl rfl rfl ?_
  refine g_iload_n (pc' := 2) dX0_turn_1 rfl rfl rfl ?_
  obtain ⟨q1, hq1, hf⟩ := Option.bind_eq_some_iff.mp hf
  obtain ⟨h2, hq1⟩ := vK_spec hq1
  obtain ⟨zq1, wq1⟩ := q1
  cases zq1 with
  | inl v3 =>
    replace hf : _ = some _ := hf
    refine g_callV (pc' := 5) (mx := mdX0_rumourAt) (as := [.int x1]) (wX0_rumourAt g _ a0 x1 hq1) oX0_rumourAt ⟨Nat.le_of_ble_eq_true rfl, Nat.le_of_ble_eq_true rfl⟩ dX0_turn_2 rfl (ci := 0) rfl h2 ⟨by decide +kernel, by decide +kernel⟩ oX0_rumourAt.2.2.2 rfl q428 q430 qs4 qs4 q430 (Nat.le_of_ble_eq_true rfl) (Nat.le_of_ble_eq_true rfl) (g_rA ?_) g_nt rfl
    obtain ⟨v5, hv5, hf⟩ := Option.bind_eq_some_iff.mp hf
    refine gv_kind (pc' := 8) dX0_turn_5 rfl q432 ⟨Nat.le_of_ble_eq_true rfl, Nat.le_of_ble_eq_true rfl⟩ hv5 (Nat.le_of_ble_eq_true rfl) ?_
    refine g_istore_n (pc' := 9) (L' := [some (.ref a0), some (.int x1), some (.int x2), some (.int v5)]) dX0_turn_8 rfl rfl (Nat.le_of_ble_eq_true rfl) rfl rfl ?_
    refine g_iload_n (pc' := 10) dX0_turn_9 rfl rfl rfl ?_
    refine g_i2l (pc' := 11) dX0_turn_10 rfl ?_
    refine g_lconst (pc' := 12) (v := 0) dX0_turn_11 rfl (by decide) ?_
    refine g_ldc2 (pc' := 15) dX0_turn_12 rfl q302 ?_
    obtain ⟨q7, hq7, hf⟩ := Option.bind_eq_some_iff.mp hf
    refine g_callS (pc' := 18) (as := [.long ((x2 : Int32).toInt64), .long 0, .long 5]) (wX0_in g _ ((x2 : Int32).toInt64) 0 5 hq7) oX0_in ⟨Nat.le_of_ble_eq_true rfl, Nat.le_of_ble_eq_true rfl⟩ dX0_turn_15 rfl q209 q210 q83 (Nat.le_of_ble_eq_true rfl) (Nat.le_of_ble_eq_true rfl) (g_rI ?_) g_nt rfl
    obtain ⟨q8, hq8, hf⟩ := Option.bind_eq_some_iff.mp hf
    obtain ⟨zq8, wq8⟩ := q8
    cases zq8 with
    | inl v9 =>
      replace hf : _ = some _ := hf
      refine g_callS (pc' := 21) (as := [.int q7]) (wX0_isTold g _ q7 hq8) oX0_isTold ⟨Nat.le_of_ble_eq_true rfl, Nat.le_of_ble_eq_true rfl⟩ dX0_turn_18 rfl q216 q217 q83 (Nat.le_of_ble_eq_true rfl) (Nat.le_of_ble_eq_true rfl) (g_rV ?_) g_nt rfl
      refine g_aload_n (pc' := 22) dX0_turn_21 rfl rfl rfl ?_
      obtain ⟨v11, hv11, hf⟩ := Option.bind_eq_some_iff.mp hf
      refine g_get (pc' := 25) (fok_0 0 (by decide)) (Or.inl rfl) dX0_turn_22 rfl q171 (hR_spec hv11) ?_
      refine g_iload_n (pc' := 26) dX0_turn_25 rfl rfl rfl ?_
      refine g_iload_n (pc' := 27) dX0_turn_26 rfl rfl rfl ?_
      obtain ⟨q12, hq12, hf⟩ := Option.bind_eq_some_iff.mp hf
      obtain ⟨h13, hq12⟩ := vK_spec hq12
      refine g_callV (pc' := 30) (mx := mdX1_turns) (as := [.int x1, .int x2]) (wX1_turns g _ v11 x1 x2 hq12) oX1_turns ⟨Nat.le_of_ble_eq_true rfl, Nat.le_of_ble_eq_true rfl⟩ dX0_turn_27 rfl (ci := 1) rfl h13 ⟨by decide +kernel, by decide +kernel⟩ oX1_turns.2.2.2 rfl q507 q508 q509 q509 q508 (Nat.le_of_ble_eq_true rfl) (Nat.le_of_ble_eq_true rfl) (g_rV ?_) g_nt rfl
      refine g_iload_n (pc' := 31) dX0_turn_30 rfl rfl rfl ?_
      obtain rfl := Option.some.inj hf
      exact g_iret dX0_turn_31 rfl rfl ⟨rfl, rfl⟩
    | inr a10 =>
      replace hf : _ = some _ := hf
      refine g_callS (pc' := 21) (as := [.int q7]) (wX0_isTold g _ q7 hq8) oX0_isTold ⟨Nat.le_of_ble_eq_true rfl, Nat.le_of_ble_eq_true rfl⟩ dX0_turn_18 rfl q216 q217 q83 (Nat.le_of_ble_eq_true rfl) (Nat.le_of_ble_eq_true rfl) g_nr (g_tt ?_) rfl
      obtain ⟨h14, hf⟩ := vK_spec hf
      refine t_catch (ci := 4) rfl (by decide) q204 rfl h14 ?_
      refine g_astore_n (pc' := 33) (L' := [some (.ref a0), some (.int x1), some (.int x2), some (.ref a10)]) dX0_turn_32 rfl rfl (Nat.le_of_ble_eq_true rfl) rfl rfl ?_
      refine g_aload_n (pc' := 34) dX0_turn_33 rfl rfl rfl ?_
      refine g_aload_n (pc' := 35) dX0_turn_34 rfl rfl rfl ?_
      obtain ⟨q15, hq15, hf⟩ := Option.bind_eq_some_iff.mp hf
      obtain ⟨h16, hq15⟩ := vK_spec hq15
      refine g_callV (pc' := 38) (mx := mdX0_finds) (as := [.ref a10]) (wX0_finds g _ a0 a10 hq15) oX0_finds ⟨Nat.le_of_ble_eq_true rfl, Nat.le_of_ble_eq_true rfl⟩ dX0_turn_35 rfl (ci := 0) rfl h16 ⟨by decide +kernel, by decide +kernel⟩ oX0_finds.2.2.2 rfl q289 q291 qs1 qs1 q291 (Nat.le_of_ble_eq_true rfl) (Nat.le_of_ble_eq_true rfl) (g_rI ?_) g_nt rfl
      obtain rfl := Option.some.inj hf
      exact g_iret dX0_turn_38 rfl rfl ⟨rfl, rfl⟩
  | inr a4 =>
    replace hf : _ = some _ := hf
    refine g_callV (pc' := 5) (mx := mdX0_rumourAt) (as := [.int x1]) (wX0_rumourAt g _ a0 x1 hq1) oX0_rumourAt ⟨Nat.le_of_ble_eq_true rfl, Nat.le_of_ble_eq_true rfl⟩ dX0_turn_2 rfl (ci := 0) rfl h2 ⟨by decide +kernel, by decide +kernel⟩ oX0_rumourAt.2.2.2 rfl q428 q430 qs4 qs4 q430 (Nat.le_of_ble_eq_true rfl) (Nat.le_of_ble_eq_true rfl) g_nr (g_tt ?_) rfl
    obtain ⟨h17, hf⟩ := vK_spec hf
    refine t_catch (ci := 4) rfl (by decide) q204 rfl h17 ?_
    refine g_astore_n (pc' := 33) (L' := [some (.ref a0), some (.int x1), some (.int x2), some (.ref a4)]) dX0_turn_32 rfl rfl (Nat.le_of_ble_eq_true rfl) rfl rfl ?_
    refine g_aload_n (pc' := 34) dX0_turn_33 rfl rfl rfl ?_
    refine g_aload_n (pc' := 35) dX0_turn_34 rfl rfl rfl ?_
    obtain ⟨q18, hq18, hf⟩ := Option.bind_eq_some_iff.mp hf
    obtain ⟨h19, hq18⟩ := vK_spec hq18
    refine g_callV (pc' := 38) (mx := mdX0_finds) (as := [.ref a4]) (wX0_finds g _ a0 a4 hq18) oX0_finds ⟨Nat.le_of_ble_eq_true rfl, Nat.le_of_ble_eq_true rfl⟩ dX0_turn_35 rfl (ci := 0) rfl h19 ⟨by decide +kernel, by decide +kernel⟩ oX0_finds.2.2.2 rfl q289 q291 qs1 qs1 q291 (Nat.le_of_ble_eq_true rfl) (Nat.le_of_ble_eq_true rfl) (g_rI ?_) g_nt rfl
    obtain rfl := Option.some.inj hf
    exact g_iret dX0_turn_38 rfl rfl ⟨rfl, rfl⟩
def mdX0_as : bMD := (yX0_as, cX0_as, 4, (some FieldType.int), [(0, 33, 34, 1)], 7, 158)
theorem oX0_as : bOkc mdX0_as 2 := ⟨by decide +kernel, ⟨by decide +kernel, by decide +kernel⟩, by decide +kernel, q527⟩
def fX0_as (w : bWl) (a0 : Nat) (x1 : Int32) (x2 : Int32) : Option (Int32 × bWl) :=
  Option.bind (vK 0 w a0 (fX0_rumourAt w a0 x1)) fun q1 => sm q1.1 (fun v3 =>
  Option.bind (fX0_in ((x2 : Int32).toInt64) 0 5) fun q5 =>
  Option.bind (fX0_isTold q1.2 q5) fun q6 => sm q6.1 (fun v7 =>
  Option.bind (fv_is q6.2 v3 x2) fun v9 =>
  Option.bind (fX0_need q6.2 v9 2) fun q11 => sm q11.1 (fun v12 =>
  Option.bind (hR q11.2 okRu v3 0) fun v14 =>
  Option.bind (aI q11.2 0 v14 1) fun v15 =>
  some (v15, q11.2)) (fun a13 => vK 4 q11.2 a13 (Option.bind (vK 0 q11.2 a0 (fX0_finds q11.2 a0 a13)) fun q17 =>
  some (q17.1, q17.2)))) (fun a8 => vK 4 q6.2 a8 (Option.bind (vK 0 q6.2 a0 (fX0_finds q6.2 a0 a8)) fun q20 =>
  some (q20.1, q20.2)))) (fun a4 => vK 4 q1.2 a4 (Option.bind (vK 0 q1.2 a0 (fX0_finds q1.2 a0 a4)) fun q23 =>
  some (q23.1, q23.2)))
set_option maxHeartbeats 4000000 in
theorem wX0_as (g : bGh) (w : bWl) (a0 : Nat) (x1 : Int32) (x2 : Int32) {r : (Int32 × bWl)} (hf : fX0_as w a0 x1 x2 = some r) : bM g mdX0_as w [.ref a0, .int x1, .int x2] (q_ (eI r.1) r.2) := by
  unfold fX0_as at hf
  change bG _ _ 0 [some (.ref a0), some (.int x1), some (.int x2)] []
  refine g_aload_n (pc' := 1) dX0_as_0 rfl rfl rfl ?_
  refine g_iload_n (pc' := 2) dX0_as_1 rfl rfl rfl ?_
  obtain ⟨q1, hq1, hf⟩ := Option.bind_eq_some_iff.mp hf
  obtain ⟨h2, hq1⟩ := vK_spec hq1
  obtain ⟨zq1, wq1⟩ := q1
  cases zq1 with
  | inl v3 =>
    replace hf : _ = some _ := hf
    refine g_callV (pc' := 5) (mx := mdX0_rumourAt) (as := [.int x1]) (wX0_rumourAt g _ a0 x1 hq1) oX0_rumourAt ⟨Nat.le_of_ble_eq_true rfl, Nat.le_of_ble_eq_true rfl⟩ dX0_as_2 rfl (ci := 0) rfl h2 ⟨by decide +kernel, by decide +kernel⟩ oX0_rumourAt.2.2.2 rfl q428 q430 qs4 qs4 q430 (Nat.le_of_ble_eq_true rfl) (Nat.le_of_ble_eq_true rfl) (g_rA ?_) g_nt rfl
    refine g_astore_n (pc' := 6) (L' := [some (.ref a0), some (.int x1), some (.int x2), some (.ref v3)]) dX0_as_5 rfl rfl (Nat.le_of_ble_eq_true rfl) rfl rfl ?_
    refine g_iload_n (pc' := 7) dX0_as_6 rfl rfl rfl ?_
    refine g_i2l (pc' := 8) dX0_as_7 rfl ?_
    refine g_lconst (pc' := 9) (v := 0) dX0_as_8 rfl (by decide) ?_
    refine g_ldc2 (pc' := 12) dX0_as_9 rfl q302 ?_
    obtain ⟨q5, hq5, hf⟩ := Option.bind_eq_some_iff.mp hf
    refine g_callS (pc' := 15) (as := [.long ((x2 : Int32).toInt64), .long 0, .long 5]) (wX0_in g _ ((x2 : Int32).toInt64) 0 5 hq5) oX0_in ⟨Nat.le_of_ble_eq_true rfl, Nat.le_of_ble_eq_true rfl⟩ dX0_as_12 rfl q209 q210 q83 (Nat.le_of_ble_eq_true rfl) (Nat.le_of_ble_eq_true rfl) (g_rI ?_) g_nt rfl
    obtain ⟨q6, hq6, hf⟩ := Option.bind_eq_some_iff.mp hf
    obtain ⟨zq6, wq6⟩ := q6
    cases zq6 with
    | inl v7 =>
      replace hf : _ = some _ := hf
      refine g_callS (pc' := 18) (as := [.int q5]) (wX0_isTold g _ q5 hq6) oX0_isTold ⟨Nat.le_of_ble_eq_true rfl, Nat.le_of_ble_eq_true rfl⟩ dX0_as_15 rfl q216 q217 q83 (Nat.le_of_ble_eq_true rfl) (Nat.le_of_ble_eq_true rfl) (g_rV ?_) g_nt rfl
      refine g_aload_n (pc' := 19) dX0_as_18 rfl rfl rfl ?_
      refine g_iload_n (pc' := 20) dX0_as_19 rfl rfl rfl ?_
      obtain ⟨v9, hv9, hf⟩ := Option.bind_eq_some_iff.mp hf
      refine gv_is (pc' := 23) dX0_as_20 rfl q528 ⟨Nat.le_of_ble_eq_true rfl, Nat.le_of_ble_eq_true rfl⟩ hv9 (Nat.le_of_ble_eq_true rfl) ?_
      refine g_iconst (pc' := 24) (v := 2) dX0_as_23 rfl (by decide) ?_
      obtain ⟨q11, hq11, hf⟩ := Option.bind_eq_some_iff.mp hf
      obtain ⟨zq11, wq11⟩ := q11
      cases zq11 with
      | inl v12 =>
        replace hf : _ = some _ := hf
        refine g_callS (pc' := 27) (as := [.int v9, .int 2]) (wX0_need g _ v9 2 hq11) oX0_need ⟨Nat.le_of_ble_eq_true rfl, Nat.le_of_ble_eq_true rfl⟩ dX0_as_24 rfl q219 q220 q83 (Nat.le_of_ble_eq_true rfl) (Nat.le_of_ble_eq_true rfl) (g_rV ?_) g_nt rfl
        refine g_aload_n (pc' := 28) dX0_as_27 rfl rfl rfl ?_
        obtain ⟨v14, hv14, hf⟩ := Option.bind_eq_some_iff.mp hf
        refine g_get (pc' := 31) fok_Ru (Or.inl rfl) dX0_as_28 rfl q384 (hR_spec hv14) ?_
        refine g_iconst (pc' := 32) (v := 1) dX0_as_31 rfl (by decide) ?_
        obtain ⟨v15, hv15, hf⟩ := Option.bind_eq_some_iff.mp hf
        refine g_iald (pc' := 33) dX0_as_32 rfl hv15 ?_
        obtain rfl := Option.some.inj hf
        exact g_iret dX0_as_33 rfl rfl ⟨rfl, rfl⟩
      | inr a13 =>
        replace hf : _ = some _ := hf
        refine g_callS (pc' := 27) (as := [.int v9, .int 2]) (wX0_need g _ v9 2 hq11) oX0_need ⟨Nat.le_of_ble_eq_true rfl, Nat.le_of_ble_eq_true rfl⟩ dX0_as_24 rfl q219 q220 q83 (Nat.le_of_ble_eq_true rfl) (Nat.le_of_ble_eq_true rfl) g_nr (g_tt ?_) rfl
        obtain ⟨h16, hf⟩ := vK_spec hf
        refine t_catch (ci := 4) rfl (by decide) q204 rfl h16 ?_
        refine g_astore_n (pc' := 35) (L' := [some (.ref a0), some (.int x1), some (.int x2), some (.ref a13)]) dX0_as_34 rfl rfl (Nat.le_of_ble_eq_true rfl) rfl rfl ?_
        refine g_aload_n (pc' := 36) dX0_as_35 rfl rfl rfl ?_
        refine g_aload_n (pc' := 37) dX0_as_36 rfl rfl rfl ?_
        obtain ⟨q17, hq17, hf⟩ := Option.bind_eq_some_iff.mp hf
        obtain ⟨h18, hq17⟩ := vK_spec hq17
        refine g_callV (pc' := 40) (mx := mdX0_finds) (as := [.ref a13]) (wX0_finds g _ a0 a13 hq17) oX0_finds ⟨Nat.le_of_ble_eq_true rfl, Nat.le_of_ble_eq_true rfl⟩ dX0_as_37 rfl (ci := 0) rfl h18 ⟨by decide +kernel, by decide +kernel⟩ oX0_finds.2.2.2 rfl q289 q291 qs1 qs1 q291 (Nat.le_of_ble_eq_true rfl) (Nat.le_of_ble_eq_true rfl) (g_rI ?_) g_nt rfl
        obtain rfl := Option.some.inj hf
        exact g_iret dX0_as_40 rfl rfl ⟨rfl, rfl⟩
    | inr a8 =>
      replace hf : _ = some _ := hf
      refine g_callS (pc' := 18) (as := [.int q5]) (wX0_isTold g _ q5 hq6) oX0_isTold ⟨Nat.le_of_ble_eq_true rfl, Nat.le_of_ble_eq_true rfl⟩ dX0_as_15 rfl q216 q217 q83 (Nat.le_of_ble_eq_true rfl) (Nat.le_of_ble_eq_true rfl) g_nr (g_tt ?_) rfl
      obtain ⟨h19, hf⟩ := vK_spec hf
      refine t_catch (ci := 4) rfl (by decide) q204 rfl h19 ?_
      refine g_astore_n (pc' := 35) (L' := [some (.ref a0), some (.int x1), some (.int x2), some (.ref a8)]) dX0_as_34 rfl rfl (Nat.le_of_ble_eq_true rfl) rfl rfl ?_
      refine g_aload_n (pc' := 36) dX0_as_35 rfl rfl rfl ?_
      refine g_aload_n (pc' := 37) dX0_as_36 rfl rfl rfl ?_
      obtain ⟨q20, hq20, hf⟩ := Option.bind_eq_some_iff.mp hf
      obtain ⟨h21, hq20⟩ := vK_spec hq20
      refine g_callV (pc' := 40) (mx := mdX0_finds) (as := [.ref a8]) (wX0_finds g _ a0 a8 hq20) oX0_finds ⟨Nat.le_of_ble_eq_true rfl, Nat.le_of_ble_eq_true rfl⟩ dX0_as_37 rfl (ci := 0) rfl h21 ⟨by decide +kernel, by decide +kernel⟩ oX0_finds.2.2.2 rfl q289 q291 qs1 qs1 q291 (Nat.le_of_ble_eq_true rfl) (Nat.le_of_ble_eq_true rfl) (g_rI ?_) g_nt rfl
      obtain rfl := Option.some.inj hf
      exact g_iret dX0_as_40 rfl rfl ⟨rfl, rfl⟩
  | inr a4 =>
    replace hf : _ = some _ := hf
    refine g_callV (pc' := 5) (mx := mdX0_rumourAt) (as := [.int x1]) (wX0_rumourAt g _ a0 x1 hq1) oX0_rumourAt ⟨Nat.le_of_ble_eq_true rfl, Nat.le_of_ble_eq_true rfl⟩ dX0_as_2 rfl (ci := 0) rfl h2 ⟨by decide +kernel, by decide +kernel⟩ oX0_rumourAt.2.2.2 rfl q428 q430 qs4 qs4 q430 (Nat.le_of_ble_eq_true rfl) (Nat.le_of_ble_eq_true rfl) g_nr (g_tt ?_) rfl
    obtain ⟨h22, hf⟩ := vK_spec hf
    refine t_catch (ci := 4) rfl (by decide) q204 rfl h22 ?_
    refine g_astore_n (pc' := 35) (L' := [some (.ref a0), some (.int x1), some (.int x2), some (.ref a4)]) dX0_as_34 rfl rfl (Nat.le_of_ble_eq_true rfl) rfl rfl ?_
    refine g_aload_n (pc' := 36) dX0_as_35 rfl rfl rfl ?_
    refine g_aload_n (pc' := 37) dX0_as_36 rfl rfl rfl ?_
    obtain ⟨q23, hq23, hf⟩ := Option.bind_eq_some_iff.mp hf
    obtain ⟨h24, hq23⟩ := vK_spec hq23
    refine g_callV (pc' := 40) (mx := mdX0_finds) (as := [.ref a4]) (wX0_finds g _ a0 a4 hq23) oX0_finds ⟨Nat.le_of_ble_eq_true rfl, Nat.le_of_ble_eq_true rfl⟩ dX0_as_37 rfl (ci := 0) rfl h24 ⟨by decide +kernel, by decide +kernel⟩ oX0_finds.2.2.2 rfl q289 q291 qs1 qs1 q291 (Nat.le_of_ble_eq_true rfl) (Nat.le_of_ble_eq_true rfl) (g_rI ?_) g_nt rfl
    obtain rfl := Option.some.inj hf
    exact g_iret dX0_as_40 rfl rfl ⟨rfl, rfl⟩
def mdX0_takes : bMD := (yX0_takes, cX0_takes, 4, (some FieldType.int), [(0, 28, 29, 1)], 7, 158)
theorem oX0_takes : bOkc mdX0_takes 2 := ⟨by decide +kernel, ⟨by decide +kernel, by decide +kernel⟩, by decide +kernel, q548⟩
def fX0_takes (w : bWl) (a0 : Nat) (x1 : Int32) (x2 : Int32) : Option (Int32 × bWl) :=
  Option.bind (fX0_isHouse x1) fun q1 =>
  Option.bind (fX0_isTold w q1) fun q2 => sm q2.1 (fun v3 =>
  Option.bind (hR q2.2 (okc 0) a0 0) fun v5 =>
  Option.bind (vK 0 q2.2 a0 (fX0_rumourAt q2.2 a0 x2)) fun q6 => sm q6.1 (fun v8 =>
  Option.bind (vK 1 q6.2 v5 (fX1_takes q6.2 v5 x1 v8)) fun q10 =>
  (if q10 = 0 then
  some (0, q6.2)
else
  some (1, q6.2))) (fun a9 => vK 4 q6.2 a9 (Option.bind (vK 0 q6.2 a0 (fX0_finds q6.2 a0 a9)) fun q14 =>
  some (q14.1, q14.2)))) (fun a4 => vK 4 q2.2 a4 (Option.bind (vK 0 q2.2 a0 (fX0_finds q2.2 a0 a4)) fun q17 =>
  some (q17.1, q17.2)))
set_option maxHeartbeats 4000000 in
theorem wX0_takes (g : bGh) (w : bWl) (a0 : Nat) (x1 : Int32) (x2 : Int32) {r : (Int32 × bWl)} (hf : fX0_takes w a0 x1 x2 = some r) : bM g mdX0_takes w [.ref a0, .int x1, .int x2] (q_ (eI r.1) r.2) := by
  unfold fX0_takes at hf
  change bG _ _ 0 [some (.ref a0), some (.int x1), some (.int x2)] []
  refine g_iload_n (pc' := 1) dX0_takes_0 rfl rfl rfl ?_
  obtain ⟨q1, hq1, hf⟩ := Option.bind_eq_some_iff.mp hf
  refine g_callS (pc' := 4) (as := [.int x1]) (wX0_isHouse g _ x1 hq1) oX0_isHouse ⟨Nat.le_of_ble_eq_true rfl, Nat.le_of_ble_eq_true rfl⟩ dX0_takes_1 rfl q205 q206 q83 (Nat.le_of_ble_eq_true rfl) (Nat.le_of_ble_eq_true rfl) (g_rI ?_) g_nt rfl
  obtain ⟨q2, hq2, hf⟩ := Option.bind_eq_some_iff.mp hf
  obtain ⟨zq2, wq2⟩ := q2
  cases zq2 with
  | inl v3 =>
    replace hf : _ = some _ := hf
    refine g_callS (pc' := 7) (as := [.int q1]) (wX0_isTold g _ q1 hq2) oX0_isTold ⟨Nat.le_of_ble_eq_true rfl, Nat.le_of_ble_eq_true rfl⟩ dX0_takes_4 rfl q216 q217 q83 (Nat.le_of_ble_eq_true rfl) (Nat.le_of_ble_eq_true rfl) (g_rV ?_) g_nt rfl
    refine g_aload_n (pc' := 8) dX0_takes_7 rfl rfl rfl ?_
    obtain ⟨v5, hv5, hf⟩ := Option.bind_eq_some_iff.mp hf
    refine g_get (pc' := 11) (fok_0 0 (by decide)) (Or.inl rfl) dX0_takes_8 rfl q171 (hR_spec hv5) ?_
    refine g_iload_n (pc' := 12) dX0_takes_11 rfl rfl rfl ?_
    refine g_aload_n (pc' := 13) dX0_takes_12 rfl rfl rfl ?_
    refine g_iload_n (pc' := 14) dX0_takes_13 rfl rfl rfl ?_
    obtain ⟨q6, hq6, hf⟩ := Option.bind_eq_some_iff.mp hf
    obtain ⟨h7, hq6⟩ := vK_spec hq6
    obtain ⟨zq6, wq6⟩ := q6
    cases zq6 with
    | inl v8 =>
      replace hf : _ = some _ := hf
      refine g_callV (pc' := 17) (mx := mdX0_rumourAt) (as := [.int x2]) (wX0_rumourAt g _ a0 x2 hq6) oX0_rumourAt ⟨Nat.le_of_ble_eq_true rfl, Nat.le_of_ble_eq_true rfl⟩ dX0_takes_14 rfl (ci := 0) rfl h7 ⟨by decide +kernel, by decide +kernel⟩ oX0_rumourAt.2.2.2 rfl q428 q430 qs4 qs4 q430 (Nat.le_of_ble_eq_true rfl) (Nat.le_of_ble_eq_true rfl) (g_rA ?_) g_nt rfl
      obtain ⟨q10, hq10, hf⟩ := Option.bind_eq_some_iff.mp hf
      obtain ⟨h11, hq10⟩ := vK_spec hq10
      refine g_callV (pc' := 20) (mx := mdX1_takes) (as := [.int x1, .ref v8]) (wX1_takes g _ v5 x1 v8 hq10) oX1_takes ⟨Nat.le_of_ble_eq_true rfl, Nat.le_of_ble_eq_true rfl⟩ dX0_takes_17 rfl (ci := 1) rfl h11 ⟨by decide +kernel, by decide +kernel⟩ oX1_takes.2.2.2 rfl q549 q550 q551 q551 q550 (Nat.le_of_ble_eq_true rfl) (Nat.le_of_ble_eq_true rfl) (g_rI ?_) g_nt rfl
      refine g_if_eq (tgt := 27) (pc' := 23) dX0_takes_20 (by decide) rfl (fun h12 => ?_) (fun h12 => ?_)
      · replace hf := (if_pos h12).symm.trans hf
        refine g_iconst (pc' := 28) (v := 0) dX0_takes_27 rfl (by decide) ?_
        obtain rfl := Option.some.inj hf
        exact g_iret dX0_takes_28 rfl rfl ⟨rfl, rfl⟩
      · replace hf := (if_neg h12).symm.trans hf
        refine g_iconst (pc' := 24) (v := 1) dX0_takes_23 rfl (by decide) ?_
        refine g_goto (tgt := 28) dX0_takes_24 (by decide) ?_
        obtain rfl := Option.some.inj hf
        exact g_iret dX0_takes_28 rfl rfl ⟨rfl, rfl⟩
    | inr a9 =>
      replace hf : _ = some _ := hf
      refine g_callV (pc' := 17) (mx := mdX0_rumourAt) (as := [.int x2]) (wX0_rumourAt g _ a0 x2 hq6) oX0_rumourAt ⟨Nat.le_of_ble_eq_true rfl, Nat.le_of_ble_eq_true rfl⟩ dX0_takes_14 rfl (ci := 0) rfl h7 ⟨by decide +kernel, by decide +kernel⟩ oX0_rumourAt.2.2.2 rfl q428 q430 qs4 qs4 q430 (Nat.le_of_ble_eq_true rfl) (Nat.le_of_ble_eq_true rfl) g_nr (g_tt ?_) rfl
      obtain ⟨h13, hf⟩ := vK_spec hf
      refine t_catch (ci := 4) rfl (by decide) q204 rfl h13 ?_
      refine g_astore_n (pc' := 30) (L' := [some (.ref a0), some (.int x1), some (.int x2), some (.ref a9)]) dX0_takes_29 rfl rfl (Nat.le_of_ble_eq_true rfl) rfl rfl ?_
      refine g_aload_n (pc' := 31) dX0_takes_30 rfl rfl rfl ?_
      refine g_aload_n (pc' := 32) dX0_takes_31 rfl rfl rfl ?_
      obtain ⟨q14, hq14, hf⟩ := Option.bind_eq_some_iff.mp hf
      obtain ⟨h15, hq14⟩ := vK_spec hq14
      refine g_callV (pc' := 35) (mx := mdX0_finds) (as := [.ref a9]) (wX0_finds g _ a0 a9 hq14) oX0_finds ⟨Nat.le_of_ble_eq_true rfl, Nat.le_of_ble_eq_true rfl⟩ dX0_takes_32 rfl (ci := 0) rfl h15 ⟨by decide +kernel, by decide +kernel⟩ oX0_finds.2.2.2 rfl q289 q291 qs1 qs1 q291 (Nat.le_of_ble_eq_true rfl) (Nat.le_of_ble_eq_true rfl) (g_rI ?_) g_nt rfl
      obtain rfl := Option.some.inj hf
      exact g_iret dX0_takes_35 rfl rfl ⟨rfl, rfl⟩
  | inr a4 =>
    replace hf : _ = some _ := hf
    refine g_callS (pc' := 7) (as := [.int q1]) (wX0_isTold g _ q1 hq2) oX0_isTold ⟨Nat.le_of_ble_eq_true rfl, Nat.le_of_ble_eq_true rfl⟩ dX0_takes_4 rfl q216 q217 q83 (Nat.le_of_ble_eq_true rfl) (Nat.le_of_ble_eq_true rfl) g_nr (g_tt ?_) rfl
    obtain ⟨h16, hf⟩ := vK_spec hf
    refine t_catch (ci := 4) rfl (by decide) q204 rfl h16 ?_
    refine g_astore_n (pc' := 30) (L' := [some (.ref a0), some (.int x1), some (.int x2), some (.ref a4)]) dX0_takes_29 rfl rfl (Nat.le_of_ble_eq_true rfl) rfl rfl ?_
    refine g_aload_n (pc' := 31) dX0_takes_30 rfl rfl rfl ?_
    refine g_aload_n (pc' := 32) dX0_takes_31 rfl rfl rfl ?_
    obtain ⟨q17, hq17, hf⟩ := Option.bind_eq_some_iff.mp hf
    obtain ⟨h18, hq17⟩ := vK_spec hq17
    refine g_callV (pc' := 35) (mx := mdX0_finds) (as := [.ref a4]) (wX0_finds g _ a0 a4 hq17) oX0_finds ⟨Nat.le_of_ble_eq_true rfl, Nat.le_of_ble_eq_true rfl⟩ dX0_takes_32 rfl (ci := 0) rfl h18 ⟨by decide +kernel, by decide +kernel⟩ oX0_finds.2.2.2 rfl q289 q291 qs1 qs1 q291 (Nat.le_of_ble_eq_true rfl) (Nat.le_of_ble_eq_true rfl) (g_rI ?_) g_nt rfl
    obtain rfl := Option.some.inj hf
    exact g_iret dX0_takes_35 rfl rfl ⟨rfl, rfl⟩
def mdX0_comeIn : bMD := (yX0_comeIn, cX0_comeIn, 3, (some FieldType.int), [(0, 52, 53, 1)], 7, 158)
theorem oX0_comeIn : bOkc mdX0_comeIn 1 := ⟨by decide +kernel, ⟨by decide +kernel, by decide +kernel⟩, by decide +kernel, q567⟩
def fX0_comeIn (w : bWl) (a0 : Nat) (x1 : Int32) : Option (Int32 × bWl) :=
  Option.bind (vK 0 w a0 (fX0_rumourAt w a0 x1)) fun q1 => sm q1.1 (fun v3 =>
  Option.bind (vR q1.2 v3 (fX5_isIn q1.2 v3)) fun q5 =>
  Option.bind (α := Int32) ((if q5 = 0 then
  Option.bind (hR q1.2 (okc 0) a0 0) fun v9 =>
  Option.bind (hR q1.2 okRu v3 0) fun v10 =>
  Option.bind (aI q1.2 0 v10 0) fun v11 =>
  Option.bind (vK 1 q1.2 v9 (fX1_isTrue q1.2 v9 v11)) fun q12 =>
  (if q12 = 0 then
  some 1
else
  some 0)
else
  some 0)) fun q7 =>
  Option.bind (fX0_need q1.2 q7 4) fun q15 => sm q15.1 (fun v16 =>
  Option.bind (hR q15.2 (okc 0) a0 0) fun v18 =>
  Option.bind (vK 1 q15.2 v18 (fX1_comesIn q15.2 v18 v3)) fun q19 =>
  Option.bind (hR q19 okRu v3 0) fun v21 =>
  Option.bind (aI q19 0 v21 3) fun v22 =>
  some (v22, q19)) (fun a17 => vK 4 q15.2 a17 (Option.bind (vK 0 q15.2 a0 (fX0_finds q15.2 a0 a17)) fun q24 =>
  some (q24.1, q24.2)))) (fun a4 => vK 4 q1.2 a4 (Option.bind (vK 0 q1.2 a0 (fX0_finds q1.2 a0 a4)) fun q27 =>
  some (q27.1, q27.2)))
set_option maxHeartbeats 4000000 in
theorem wX0_comeIn (g : bGh) (w : bWl) (a0 : Nat) (x1 : Int32) {r : (Int32 × bWl)} (hf : fX0_comeIn w a0 x1 = some r) : bM g mdX0_comeIn w [.ref a0, .int x1] (q_ (eI r.1) r.2) := by
  unfold fX0_comeIn at hf
  change bG _ _ 0 [some (.ref a0), some (.int x1)] []
  refine g_aload_n (pc' := 1) dX0_comeIn_0 rfl rfl rfl ?_
  refine g_iload_n (pc' := 2) dX0_comeIn_1 rfl rfl rfl ?_
  obtain ⟨q1, hq1, hf⟩ := Option.bind_eq_some_iff.mp hf
  obtain ⟨h2, hq1⟩ := vK_spec hq1
  obtain ⟨zq1, wq1⟩ := q1
  cases zq1 with
  | inl v3 =>
    replace hf : _ = some _ := hf
    refine g_callV (pc' := 5) (mx := mdX0_rumourAt) (as := [.int x1]) (wX0_rumourAt g _ a0 x1 hq1) oX0_rumourAt ⟨Nat.le_of_ble_eq_true rfl, Nat.le_of_ble_eq_true rfl⟩ dX0_comeIn_2 rfl (ci := 0) rfl h2 ⟨by decide +kernel, by decide +kernel⟩ oX0_rumourAt.2.2.2 rfl q428 q430 qs4 qs4 q430 (Nat.le_of_ble_eq_true rfl) (Nat.le_of_ble_eq_true rfl) (g_rA ?_) g_nt rfl
    refine g_astore_n (pc' := 6) (L' := [some (.ref a0), some (.int x1), some (.ref v3)]) dX0_comeIn_5 rfl rfl (Nat.le_of_ble_eq_true rfl) rfl rfl ?_
    refine g_aload_n (pc' := 7) dX0_comeIn_6 rfl rfl rfl ?_
    obtain ⟨q5, hq5, hf⟩ := Option.bind_eq_some_iff.mp hf
    obtain ⟨h6, hq5⟩ := vR_spec hq5
    refine g_callVR (pc' := 10) (as := []) (wX5_isIn g _ v3 hq5) oX5_isIn ⟨Nat.le_of_ble_eq_true rfl, Nat.le_of_ble_eq_true rfl⟩ dX0_comeIn_7 rfl h6 ⟨by decide +kernel, by decide +kernel⟩ q568 q569 q570 q572 q573 q575 q574 q576 (Nat.le_of_ble_eq_true rfl) (Nat.le_of_ble_eq_true rfl) (g_rI ?_) g_nt rfl
    obtain ⟨q7, hqq7, hf⟩ := Option.bind_eq_some_iff.mp hf
    have hJq7 : bG (g, mdX0_comeIn, w.2.1, w.2.2.1, (q_ (eI r.1) r.2)) wq1 34 [some (.ref a0), none, some (.ref v3)] [.int q7] := by
      refine g_iconst (pc' := 35) (v := 4) dX0_comeIn_34 rfl (by decide) ?_
      obtain ⟨q15, hq15, hf⟩ := Option.bind_eq_some_iff.mp hf
      obtain ⟨zq15, wq15⟩ := q15
      cases zq15 with
      | inl v16 =>
        replace hf : _ = some _ := hf
        refine g_callS (pc' := 38) (as := [.int q7, .int 4]) (wX0_need g _ q7 4 hq15) oX0_need ⟨Nat.le_of_ble_eq_true rfl, Nat.le_of_ble_eq_true rfl⟩ dX0_comeIn_35 rfl q219 q220 q83 (Nat.le_of_ble_eq_true rfl) (Nat.le_of_ble_eq_true rfl) (g_rV ?_) g_nt rfl
        refine g_aload_n (pc' := 39) dX0_comeIn_38 rfl rfl rfl ?_
        obtain ⟨v18, hv18, hf⟩ := Option.bind_eq_some_iff.mp hf
        refine g_get (pc' := 42) (fok_0 0 (by decide)) (Or.inl rfl) dX0_comeIn_39 rfl q171 (hR_spec hv18) ?_
        refine g_aload_n (pc' := 43) dX0_comeIn_42 rfl rfl rfl ?_
        obtain ⟨q19, hq19, hf⟩ := Option.bind_eq_some_iff.mp hf
        obtain ⟨h20, hq19⟩ := vK_spec hq19
        refine g_callV (pc' := 46) (mx := mdX1_comesIn) (as := [.ref v3]) (wX1_comesIn g _ v18 v3 hq19) oX1_comesIn ⟨Nat.le_of_ble_eq_true rfl, Nat.le_of_ble_eq_true rfl⟩ dX0_comeIn_43 rfl (ci := 1) rfl h20 ⟨by decide +kernel, by decide +kernel⟩ oX1_comesIn.2.2.2 rfl q585 q586 q587 q587 q586 (Nat.le_of_ble_eq_true rfl) (Nat.le_of_ble_eq_true rfl) (g_rV ?_) g_nt rfl
        refine g_aload_n (pc' := 47) dX0_comeIn_46 rfl rfl rfl ?_
        obtain ⟨v21, hv21, hf⟩ := Option.bind_eq_some_iff.mp hf
        refine g_get (pc' := 50) fok_Ru (Or.inl rfl) dX0_comeIn_47 rfl q384 (hR_spec hv21) ?_
        refine g_iconst (pc' := 51) (v := 3) dX0_comeIn_50 rfl (by decide) ?_
        obtain ⟨v22, hv22, hf⟩ := Option.bind_eq_some_iff.mp hf
        refine g_iald (pc' := 52) dX0_comeIn_51 rfl hv22 ?_
        obtain rfl := Option.some.inj hf
        exact g_iret dX0_comeIn_52 rfl rfl ⟨rfl, rfl⟩
      | inr a17 =>
        replace hf : _ = some _ := hf
        refine g_callS (pc' := 38) (as := [.int q7, .int 4]) (wX0_need g _ q7 4 hq15) oX0_need ⟨Nat.le_of_ble_eq_true rfl, Nat.le_of_ble_eq_true rfl⟩ dX0_comeIn_35 rfl q219 q220 q83 (Nat.le_of_ble_eq_true rfl) (Nat.le_of_ble_eq_true rfl) g_nr (g_tt ?_) rfl
        obtain ⟨h23, hf⟩ := vK_spec hf
        refine t_catch (ci := 4) rfl (by decide) q204 rfl h23 ?_
        refine g_astore_n (pc' := 54) (L' := [some (.ref a0), none, some (.ref a17)]) dX0_comeIn_53 rfl rfl (Nat.le_of_ble_eq_true rfl) rfl rfl ?_
        refine g_aload_n (pc' := 55) dX0_comeIn_54 rfl rfl rfl ?_
        refine g_aload_n (pc' := 56) dX0_comeIn_55 rfl rfl rfl ?_
        obtain ⟨q24, hq24, hf⟩ := Option.bind_eq_some_iff.mp hf
        obtain ⟨h25, hq24⟩ := vK_spec hq24
        refine g_callV (pc' := 59) (mx := mdX0_finds) (as := [.ref a17]) (wX0_finds g _ a0 a17 hq24) oX0_finds ⟨Nat.le_of_ble_eq_true rfl, Nat.le_of_ble_eq_true rfl⟩ dX0_comeIn_56 rfl (ci := 0) rfl h25 ⟨by decide +kernel, by decide +kernel⟩ oX0_finds.2.2.2 rfl q289 q291 qs1 qs1 q291 (Nat.le_of_ble_eq_true rfl) (Nat.le_of_ble_eq_true rfl) (g_rI ?_) g_nt rfl
        obtain rfl := Option.some.inj hf
        exact g_iret dX0_comeIn_59 rfl rfl ⟨rfl, rfl⟩
    replace hf := hqq7
    refine g_if_ne (tgt := 33) (pc' := 13) dX0_comeIn_10 (by decide) rfl (fun h8 => ?_) (fun h8 => ?_)
    · replace hf := (if_neg h8).symm.trans hf
      refine g_iconst (pc' := 34) (v := 0) dX0_comeIn_33 rfl (by decide) ?_
      obtain rfl := Option.some.inj hf
      refine g_drop [1] (L' := [some (.ref a0), none, some (.ref v3)]) rfl ?_
      exact hJq7
    · replace hf := (if_pos h8).symm.trans hf
      refine g_aload_n (pc' := 14) dX0_comeIn_13 rfl rfl rfl ?_
      obtain ⟨v9, hv9, hf⟩ := Option.bind_eq_some_iff.mp hf
      refine g_get (pc' := 17) (fok_0 0 (by decide)) (Or.inl rfl) dX0_comeIn_14 rfl q171 (hR_spec hv9) ?_
      refine g_aload_n (pc' := 18) dX0_comeIn_17 rfl rfl rfl ?_
      obtain ⟨v10, hv10, hf⟩ := Option.bind_eq_some_iff.mp hf
      refine g_get (pc' := 21) fok_Ru (Or.inl rfl) dX0_comeIn_18 rfl q384 (hR_spec hv10) ?_
      refine g_iconst (pc' := 22) (v := 0) dX0_comeIn_21 rfl (by decide) ?_
      obtain ⟨v11, hv11, hf⟩ := Option.bind_eq_some_iff.mp hf
      refine g_iald (pc' := 23) dX0_comeIn_22 rfl hv11 ?_
      obtain ⟨q12, hq12, hf⟩ := Option.bind_eq_some_iff.mp hf
      obtain ⟨h13, hq12⟩ := vK_spec hq12
      refine g_callV (pc' := 26) (mx := mdX1_isTrue) (as := [.int v11]) (wX1_isTrue g _ v9 v11 hq12) oX1_isTrue ⟨Nat.le_of_ble_eq_true rfl, Nat.le_of_ble_eq_true rfl⟩ dX0_comeIn_23 rfl (ci := 1) rfl h13 ⟨by decide +kernel, by decide +kernel⟩ oX1_isTrue.2.2.2 rfl q578 q579 q580 q580 q579 (Nat.le_of_ble_eq_true rfl) (Nat.le_of_ble_eq_true rfl) (g_rI ?_) g_nt rfl
      refine g_if_ne (tgt := 33) (pc' := 29) dX0_comeIn_26 (by decide) rfl (fun h14 => ?_) (fun h14 => ?_)
      · replace hf := (if_neg h14).symm.trans hf
        refine g_iconst (pc' := 34) (v := 0) dX0_comeIn_33 rfl (by decide) ?_
        obtain rfl := Option.some.inj hf
        refine g_drop [1] (L' := [some (.ref a0), none, some (.ref v3)]) rfl ?_
        exact hJq7
      · replace hf := (if_pos h14).symm.trans hf
        refine g_iconst (pc' := 30) (v := 1) dX0_comeIn_29 rfl (by decide) ?_
        refine g_goto (tgt := 34) dX0_comeIn_30 (by decide) ?_
        obtain rfl := Option.some.inj hf
        refine g_drop [1] (L' := [some (.ref a0), none, some (.ref v3)]) rfl ?_
        exact hJq7
  | inr a4 =>
    replace hf : _ = some _ := hf
    refine g_callV (pc' := 5) (mx := mdX0_rumourAt) (as := [.int x1]) (wX0_rumourAt g _ a0 x1 hq1) oX0_rumourAt ⟨Nat.le_of_ble_eq_true rfl, Nat.le_of_ble_eq_true rfl⟩ dX0_comeIn_2 rfl (ci := 0) rfl h2 ⟨by decide +kernel, by decide +kernel⟩ oX0_rumourAt.2.2.2 rfl q428 q430 qs4 qs4 q430 (Nat.le_of_ble_eq_true rfl) (Nat.le_of_ble_eq_true rfl) g_nr (g_tt ?_) rfl
    obtain ⟨h26, hf⟩ := vK_spec hf
    refine t_catch (ci := 4) rfl (by decide) q204 rfl h26 ?_
    refine g_astore_n (pc' := 54) (L' := [some (.ref a0), some (.int x1), some (.ref a4)]) dX0_comeIn_53 rfl rfl (Nat.le_of_ble_eq_true rfl) rfl rfl ?_
    refine g_aload_n (pc' := 55) dX0_comeIn_54 rfl rfl rfl ?_
    refine g_aload_n (pc' := 56) dX0_comeIn_55 rfl rfl rfl ?_
    obtain ⟨q27, hq27, hf⟩ := Option.bind_eq_some_iff.mp hf
    obtain ⟨h28, hq27⟩ := vK_spec hq27
    refine g_callV (pc' := 59) (mx := mdX0_finds) (as := [.ref a4]) (wX0_finds g _ a0 a4 hq27) oX0_finds ⟨Nat.le_of_ble_eq_true rfl, Nat.le_of_ble_eq_true rfl⟩ dX0_comeIn_56 rfl (ci := 0) rfl h28 ⟨by decide +kernel, by decide +kernel⟩ oX0_finds.2.2.2 rfl q289 q291 qs1 qs1 q291 (Nat.le_of_ble_eq_true rfl) (Nat.le_of_ble_eq_true rfl) (g_rI ?_) g_nt rfl
    obtain rfl := Option.some.inj hf
    exact g_iret dX0_comeIn_59 rfl rfl ⟨rfl, rfl⟩
def mdX0_lodger : bMD := (yX0_lodger, cX0_lodger, 3, (some (FieldType.object "RumourBeds$Rumour")), [], 7, 158)
theorem oX0_lodger : bOkc mdX0_lodger 1 := ⟨by decide +kernel, ⟨by decide +kernel, by decide +kernel⟩, by decide +kernel, q603⟩
def fX0_lodger (w : bWl) (a0 : Nat) (x1 : Int32) : Option ((Nat ⊕ Nat) × bWl) :=
  Option.bind (vK 0 w a0 (fX0_rumourAt w a0 x1)) fun q1 => sm q1.1 (fun v3 =>
  Option.bind (vR q1.2 v3 (fX5_isIn q1.2 v3)) fun q5 =>
  Option.bind (fX0_need q1.2 q5 4) fun q7 => sm q7.1 (fun v8 =>
  some (Sum.inl v3, q7.2)) (fun a9 => some (Sum.inr a9, q7.2))) (fun a4 => some (Sum.inr a4, q1.2))
set_option maxHeartbeats 4000000 in
theorem wX0_lodger (g : bGh) (w : bWl) (a0 : Nat) (x1 : Int32) {r : ((Nat ⊕ Nat) × bWl)} (hf : fX0_lodger w a0 x1 = some r) : bM g mdX0_lodger w [.ref a0, .int x1] (qX eA r.1 r.2) := by
  unfold fX0_lodger at hf
  change bG _ _ 0 [some (.ref a0), some (.int x1)] []
  refine g_aload_n (pc' := 1) dX0_lodger_0 rfl rfl rfl ?_
  refine g_iload_n (pc' := 2) dX0_lodger_1 rfl rfl rfl ?_
  obtain ⟨q1, hq1, hf⟩ := Option.bind_eq_some_iff.mp hf
  obtain ⟨h2, hq1⟩ := vK_spec hq1
  obtain ⟨zq1, wq1⟩ := q1
  cases zq1 with
  | inl v3 =>
    replace hf : _ = some _ := hf
    refine g_callV (pc' := 5) (mx := mdX0_rumourAt) (as := [.int x1]) (wX0_rumourAt g _ a0 x1 hq1) oX0_rumourAt ⟨Nat.le_of_ble_eq_true rfl, Nat.le_of_ble_eq_true rfl⟩ dX0_lodger_2 rfl (ci := 0) rfl h2 ⟨by decide +kernel, by decide +kernel⟩ oX0_rumourAt.2.2.2 rfl q428 q430 qs4 qs4 q430 (Nat.le_of_ble_eq_true rfl) (Nat.le_of_ble_eq_true rfl) (g_rA ?_) g_nt rfl
    refine g_astore_n (pc' := 6) (L' := [some (.ref a0), some (.int x1), some (.ref v3)]) dX0_lodger_5 rfl rfl (Nat.le_of_ble_eq_true rfl) rfl rfl ?_
    refine g_aload_n (pc' := 7) dX0_lodger_6 rfl rfl rfl ?_
    obtain ⟨q5, hq5, hf⟩ := Option.bind_eq_some_iff.mp hf
    obtain ⟨h6, hq5⟩ := vR_spec hq5
    refine g_callVR (pc' := 10) (as := []) (wX5_isIn g _ v3 hq5) oX5_isIn ⟨Nat.le_of_ble_eq_true rfl, Nat.le_of_ble_eq_true rfl⟩ dX0_lodger_7 rfl h6 ⟨by decide +kernel, by decide +kernel⟩ q568 q569 q570 q572 q573 q575 q574 q576 (Nat.le_of_ble_eq_true rfl) (Nat.le_of_ble_eq_true rfl) (g_rI ?_) g_nt rfl
    refine g_iconst (pc' := 11) (v := 4) dX0_lodger_10 rfl (by decide) ?_
    obtain ⟨q7, hq7, hf⟩ := Option.bind_eq_some_iff.mp hf
    obtain ⟨zq7, wq7⟩ := q7
    cases zq7 with
    | inl v8 =>
      replace hf : _ = some _ := hf
      refine g_callS (pc' := 14) (as := [.int q5, .int 4]) (wX0_need g _ q5 4 hq7) oX0_need ⟨Nat.le_of_ble_eq_true rfl, Nat.le_of_ble_eq_true rfl⟩ dX0_lodger_11 rfl q219 q220 q83 (Nat.le_of_ble_eq_true rfl) (Nat.le_of_ble_eq_true rfl) (g_rV ?_) g_nt rfl
      refine g_aload_n (pc' := 15) dX0_lodger_14 rfl rfl rfl ?_
      obtain rfl := Option.some.inj hf
      exact g_aret dX0_lodger_15 rfl (Or.inl ⟨_, rfl⟩) (Or.inr ⟨_, rfl⟩) ⟨rfl, rfl⟩
    | inr a9 =>
      replace hf : _ = some _ := hf
      refine g_callS (pc' := 14) (as := [.int q5, .int 4]) (wX0_need g _ q5 4 hq7) oX0_need ⟨Nat.le_of_ble_eq_true rfl, Nat.le_of_ble_eq_true rfl⟩ dX0_lodger_11 rfl q219 q220 q83 (Nat.le_of_ble_eq_true rfl) (Nat.le_of_ble_eq_true rfl) g_nr (g_tt ?_) rfl
      obtain rfl := Option.some.inj hf
      exact t_leave rfl ⟨rfl, rfl⟩
  | inr a4 =>
    replace hf : _ = some _ := hf
    refine g_callV (pc' := 5) (mx := mdX0_rumourAt) (as := [.int x1]) (wX0_rumourAt g _ a0 x1 hq1) oX0_rumourAt ⟨Nat.le_of_ble_eq_true rfl, Nat.le_of_ble_eq_true rfl⟩ dX0_lodger_2 rfl (ci := 0) rfl h2 ⟨by decide +kernel, by decide +kernel⟩ oX0_rumourAt.2.2.2 rfl q428 q430 qs4 qs4 q430 (Nat.le_of_ble_eq_true rfl) (Nat.le_of_ble_eq_true rfl) g_nr (g_tt ?_) rfl
    obtain rfl := Option.some.inj hf
    exact t_leave rfl ⟨rfl, rfl⟩
def mdX0_improve : bMD := (yX0_improve, cX0_improve, 4, (some FieldType.int), [(0, 39, 40, 1)], 8, 180)
theorem oX0_improve : bOkc mdX0_improve 2 := ⟨by decide +kernel, ⟨by decide +kernel, by decide +kernel⟩, by decide +kernel, q598⟩
def fX0_improve (w : bWl) (a0 : Nat) (x1 : Int32) (x2 : Int32) : Option (Int32 × bWl) :=
  Option.bind (vK 0 w a0 (fX0_rumourAt w a0 x1)) fun q1 => sm q1.1 (fun v3 =>
  Option.bind (fX0_in ((x2 : Int32).toInt64) 1 20) fun q5 =>
  Option.bind (fX0_isTold q1.2 q5) fun q6 => sm q6.1 (fun v7 =>
  Option.bind (vK 0 q6.2 a0 (fX0_lodger q6.2 a0 x1)) fun q9 => sm q9.1 (fun v11 =>
  Option.bind (hR q9.2 (okc 0) a0 0) fun v13 =>
  Option.bind (vK 1 q9.2 v13 (fX1_improves q9.2 v13 v11 x2)) fun q14 =>
  Option.bind (hR q14 okRu v11 0) fun v16 =>
  Option.bind (aI q14 0 v16 3) fun v17 =>
  some (v17, q14)) (fun a12 => vK 4 q9.2 a12 (Option.bind (vK 0 q9.2 a0 (fX0_finds q9.2 a0 a12)) fun q19 =>
  some (q19.1, q19.2)))) (fun a8 => vK 4 q6.2 a8 (Option.bind (vK 0 q6.2 a0 (fX0_finds q6.2 a0 a8)) fun q22 =>
  some (q22.1, q22.2)))) (fun a4 => vK 4 q1.2 a4 (Option.bind (vK 0 q1.2 a0 (fX0_finds q1.2 a0 a4)) fun q25 =>
  some (q25.1, q25.2)))
set_option maxHeartbeats 4000000 in
theorem wX0_improve (g : bGh) (w : bWl) (a0 : Nat) (x1 : Int32) (x2 : Int32) {r : (Int32 × bWl)} (hf : fX0_improve w a0 x1 x2 = some r) : bM g mdX0_improve w [.ref a0, .int x1, .int x2] (q_ (eI r.1) r.2) := by
  unfold fX0_improve at hf
  change bG _ _ 0 [some (.ref a0), some (.int x1), some (.int x2)] []
  refine g_aload_n (pc' := 1) dX0_improve_0 rfl rfl rfl ?_
  refine g_iload_n (pc' := 2) dX0_improve_1 rfl rfl rfl ?_
  obtain ⟨q1, hq1, hf⟩ := Option.bind_eq_some_iff.mp hf
  obtain ⟨h2, hq1⟩ := vK_spec hq1
  obtain ⟨zq1, wq1⟩ := q1
  cases zq1 with
  | inl v3 =>
    replace hf : _ = some _ := hf
    refine g_callV (pc' := 5) (mx := mdX0_rumourAt) (as := [.int x1]) (wX0_rumourAt g _ a0 x1 hq1) oX0_rumourAt ⟨Nat.le_of_ble_eq_true rfl, Nat.le_of_ble_eq_true rfl⟩ dX0_improve_2 rfl (ci := 0) rfl h2 ⟨by decide +kernel, by decide +kernel⟩ oX0_rumourAt.2.2.2 rfl q428 q430 qs4 qs4 q430 (Nat.le_of_ble_eq_true rfl) (Nat.le_of_ble_eq_true rfl) (g_rA ?_) g_nt rfl
    refine g_pop (pc' := 6) dX0_improve_5 rfl rfl ?_
    refine g_iload_n (pc' := 7) dX0_improve_6 rfl rfl rfl ?_
    refine g_i2l (pc' := 8) dX0_improve_7 rfl ?_
    refine g_lconst (pc' := 9) (v := 1) dX0_improve_8 rfl (by decide) ?_
    refine g_ldc2 (pc' := 12) dX0_improve_9 rfl q599 ?_
    obtain ⟨q5, hq5, hf⟩ := Option.bind_eq_some_iff.mp hf
    refine g_callS (pc' := 15) (as := [.long ((x2 : Int32).toInt64), .long 1, .long 20]) (wX0_in g _ ((x2 : Int32).toInt64) 1 20 hq5) oX0_in ⟨Nat.le_of_ble_eq_true rfl, Nat.le_of_ble_eq_true rfl⟩ dX0_improve_12 rfl q209 q210 q83 (Nat.le_of_ble_eq_true rfl) (Nat.le_of_ble_eq_true rfl) (g_rI ?_) g_nt rfl
    obtain ⟨q6, hq6, hf⟩ := Option.bind_eq_some_iff.mp hf
    obtain ⟨zq6, wq6⟩ := q6
    cases zq6 with
    | inl v7 =>
      replace hf : _ = some _ := hf
      refine g_callS (pc' := 18) (as := [.int q5]) (wX0_isTold g _ q5 hq6) oX0_isTold ⟨Nat.le_of_ble_eq_true rfl, Nat.le_of_ble_eq_true rfl⟩ dX0_improve_15 rfl q216 q217 q83 (Nat.le_of_ble_eq_true rfl) (Nat.le_of_ble_eq_true rfl) (g_rV ?_) g_nt rfl
      refine g_aload_n (pc' := 19) dX0_improve_18 rfl rfl rfl ?_
      refine g_iload_n (pc' := 20) dX0_improve_19 rfl rfl rfl ?_
      obtain ⟨q9, hq9, hf⟩ := Option.bind_eq_some_iff.mp hf
      obtain ⟨h10, hq9⟩ := vK_spec hq9
      obtain ⟨zq9, wq9⟩ := q9
      cases zq9 with
      | inl v11 =>
        replace hf : _ = some _ := hf
        refine g_callV (pc' := 23) (mx := mdX0_lodger) (as := [.int x1]) (wX0_lodger g _ a0 x1 hq9) oX0_lodger ⟨Nat.le_of_ble_eq_true rfl, Nat.le_of_ble_eq_true rfl⟩ dX0_improve_20 rfl (ci := 0) rfl h10 ⟨by decide +kernel, by decide +kernel⟩ oX0_lodger.2.2.2 rfl q600 q602 qs5 qs5 q602 (Nat.le_of_ble_eq_true rfl) (Nat.le_of_ble_eq_true rfl) (g_rA ?_) g_nt rfl
        refine g_astore_n (pc' := 24) (L' := [some (.ref a0), some (.int x1), some (.int x2), some (.ref v11)]) dX0_improve_23 rfl rfl (Nat.le_of_ble_eq_true rfl) rfl rfl ?_
        refine g_aload_n (pc' := 25) dX0_improve_24 rfl rfl rfl ?_
        obtain ⟨v13, hv13, hf⟩ := Option.bind_eq_some_iff.mp hf
        refine g_get (pc' := 28) (fok_0 0 (by decide)) (Or.inl rfl) dX0_improve_25 rfl q171 (hR_spec hv13) ?_
        refine g_aload_n (pc' := 29) dX0_improve_28 rfl rfl rfl ?_
        refine g_iload_n (pc' := 30) dX0_improve_29 rfl rfl rfl ?_
        obtain ⟨q14, hq14, hf⟩ := Option.bind_eq_some_iff.mp hf
        obtain ⟨h15, hq14⟩ := vK_spec hq14
        refine g_callV (pc' := 33) (mx := mdX1_improves) (as := [.ref v11, .int x2]) (wX1_improves g _ v13 v11 x2 hq14) oX1_improves ⟨Nat.le_of_ble_eq_true rfl, Nat.le_of_ble_eq_true rfl⟩ dX0_improve_30 rfl (ci := 1) rfl h15 ⟨by decide +kernel, by decide +kernel⟩ oX1_improves.2.2.2 rfl q604 q605 q606 q606 q605 (Nat.le_of_ble_eq_true rfl) (Nat.le_of_ble_eq_true rfl) (g_rV ?_) g_nt rfl
        refine g_aload_n (pc' := 34) dX0_improve_33 rfl rfl rfl ?_
        obtain ⟨v16, hv16, hf⟩ := Option.bind_eq_some_iff.mp hf
        refine g_get (pc' := 37) fok_Ru (Or.inl rfl) dX0_improve_34 rfl q384 (hR_spec hv16) ?_
        refine g_iconst (pc' := 38) (v := 3) dX0_improve_37 rfl (by decide) ?_
        obtain ⟨v17, hv17, hf⟩ := Option.bind_eq_some_iff.mp hf
        refine g_iald (pc' := 39) dX0_improve_38 rfl hv17 ?_
        obtain rfl := Option.some.inj hf
        exact g_iret dX0_improve_39 rfl rfl ⟨rfl, rfl⟩
      | inr a12 =>
        replace hf : _ = some _ := hf
        refine g_callV (pc' := 23) (mx := mdX0_lodger) (as := [.int x1]) (wX0_lodger g _ a0 x1 hq9) oX0_lodger ⟨Nat.le_of_ble_eq_true rfl, Nat.le_of_ble_eq_true rfl⟩ dX0_improve_20 rfl (ci := 0) rfl h10 ⟨by decide +kernel, by decide +kernel⟩ oX0_lodger.2.2.2 rfl q600 q602 qs5 qs5 q602 (Nat.le_of_ble_eq_true rfl) (Nat.le_of_ble_eq_true rfl) g_nr (g_tt ?_) rfl
        obtain ⟨h18, hf⟩ := vK_spec hf
        refine t_catch (ci := 4) rfl (by decide) q204 rfl h18 ?_
        refine g_astore_n (pc' := 41) (L' := [some (.ref a0), some (.int x1), some (.int x2), some (.ref a12)]) dX0_improve_40 rfl rfl (Nat.le_of_ble_eq_true rfl) rfl rfl ?_
        refine g_aload_n (pc' := 42) dX0_improve_41 rfl rfl rfl ?_
        refine g_aload_n (pc' := 43) dX0_improve_42 rfl rfl rfl ?_
        obtain ⟨q19, hq19, hf⟩ := Option.bind_eq_some_iff.mp hf
        obtain ⟨h20, hq19⟩ := vK_spec hq19
        refine g_callV (pc' := 46) (mx := mdX0_finds) (as := [.ref a12]) (wX0_finds g _ a0 a12 hq19) oX0_finds ⟨Nat.le_of_ble_eq_true rfl, Nat.le_of_ble_eq_true rfl⟩ dX0_improve_43 rfl (ci := 0) rfl h20 ⟨by decide +kernel, by decide +kernel⟩ oX0_finds.2.2.2 rfl q289 q291 qs1 qs1 q291 (Nat.le_of_ble_eq_true rfl) (Nat.le_of_ble_eq_true rfl) (g_rI ?_) g_nt rfl
        obtain rfl := Option.some.inj hf
        exact g_iret dX0_improve_46 rfl rfl ⟨rfl, rfl⟩
    | inr a8 =>
      replace hf : _ = some _ := hf
      refine g_callS (pc' := 18) (as := [.int q5]) (wX0_isTold g _ q5 hq6) oX0_isTold ⟨Nat.le_of_ble_eq_true rfl, Nat.le_of_ble_eq_true rfl⟩ dX0_improve_15 rfl q216 q217 q83 (Nat.le_of_ble_eq_true rfl) (Nat.le_of_ble_eq_true rfl) g_nr (g_tt ?_) rfl
      obtain ⟨h21, hf⟩ := vK_spec hf
      refine t_catch (ci := 4) rfl (by decide) q204 rfl h21 ?_
      refine g_astore_n (pc' := 41) (L' := [some (.ref a0), some (.int x1), some (.int x2), some (.ref a8)]) dX0_improve_40 rfl rfl (Nat.le_of_ble_eq_true rfl) rfl rfl ?_
      refine g_aload_n (pc' := 42) dX0_improve_41 rfl rfl rfl ?_
      refine g_aload_n (pc' := 43) dX0_improve_42 rfl rfl rfl ?_
      obtain ⟨q22, hq22, hf⟩ := Option.bind_eq_some_iff.mp hf
      obtain ⟨h23, hq22⟩ := vK_spec hq22
      refine g_callV (pc' := 46) (mx := mdX0_finds) (as := [.ref a8]) (wX0_finds g _ a0 a8 hq22) oX0_finds ⟨Nat.le_of_ble_eq_true rfl, Nat.le_of_ble_eq_true rfl⟩ dX0_improve_43 rfl (ci := 0) rfl h23 ⟨by decide +kernel, by decide +kernel⟩ oX0_finds.2.2.2 rfl q289 q291 qs1 qs1 q291 (Nat.le_of_ble_eq_true rfl) (Nat.le_of_ble_eq_true rfl) (g_rI ?_) g_nt rfl
      obtain rfl := Option.some.inj hf
      exact g_iret dX0_improve_46 rfl rfl ⟨rfl, rfl⟩
  | inr a4 =>
    replace hf : _ = some _ := hf
    refine g_callV (pc' := 5) (mx := mdX0_rumourAt) (as := [.int x1]) (wX0_rumourAt g _ a0 x1 hq1) oX0_rumourAt ⟨Nat.le_of_ble_eq_true rfl, Nat.le_of_ble_eq_true rfl⟩ dX0_improve_2 rfl (ci := 0) rfl h2 ⟨by decide +kernel, by decide +kernel⟩ oX0_rumourAt.2.2.2 rfl q428 q430 qs4 qs4 q430 (Nat.le_of_ble_eq_true rfl) (Nat.le_of_ble_eq_true rfl) g_nr (g_tt ?_) rfl
    obtain ⟨h24, hf⟩ := vK_spec hf
    refine t_catch (ci := 4) rfl (by decide) q204 rfl h24 ?_
    refine g_astore_n (pc' := 41) (L' := [some (.ref a0), some (.int x1), some (.int x2), some (.ref a4)]) dX0_improve_40 rfl rfl (Nat.le_of_ble_eq_true rfl) rfl rfl ?_
    refine g_aload_n (pc' := 42) dX0_improve_41 rfl rfl rfl ?_
    refine g_aload_n (pc' := 43) dX0_improve_42 rfl rfl rfl ?_
    obtain ⟨q25, hq25, hf⟩ := Option.bind_eq_some_iff.mp hf
    obtain ⟨h26, hq25⟩ := vK_spec hq25
    refine g_callV (pc' := 46) (mx := mdX0_finds) (as := [.ref a4]) (wX0_finds g _ a0 a4 hq25) oX0_finds ⟨Nat.le_of_ble_eq_true rfl, Nat.le_of_ble_eq_true rfl⟩ dX0_improve_43 rfl (ci := 0) rfl h26 ⟨by decide +kernel, by decide +kernel⟩ oX0_finds.2.2.2 rfl q289 q291 qs1 qs1 q291 (Nat.le_of_ble_eq_true rfl) (Nat.le_of_ble_eq_true rfl) (g_rI ?_) g_nt rfl
    obtain rfl := Option.some.inj hf
    exact g_iret dX0_improve_46 rfl rfl ⟨rfl, rfl⟩
def mdX0_comesTrue : bMD := (yX0_comesTrue, cX0_comesTrue, 3, (some FieldType.int), [(0, 15, 16, 1)], 7, 157)
theorem oX0_comesTrue : bOkc mdX0_comesTrue 1 := ⟨by decide +kernel, ⟨by decide +kernel, by decide +kernel⟩, by decide +kernel, q624⟩
def fX0_comesTrue (w : bWl) (a0 : Nat) (x1 : Int32) : Option (Int32 × bWl) :=
  Option.bind (fX0_isEvent x1) fun q1 =>
  Option.bind (fX0_isTold w q1) fun q2 => sm q2.1 (fun v3 =>
  Option.bind (hR q2.2 (okc 0) a0 0) fun v5 =>
  Option.bind (vK 1 q2.2 v5 (fX1_comesTrue q2.2 v5 x1)) fun q6 =>
  some (q6.1, q6.2)) (fun a4 => vK 4 q2.2 a4 (Option.bind (vK 0 q2.2 a0 (fX0_finds q2.2 a0 a4)) fun q9 =>
  some (q9.1, q9.2)))
set_option maxHeartbeats 4000000 in
theorem wX0_comesTrue (g : bGh) (w : bWl) (a0 : Nat) (x1 : Int32) {r : (Int32 × bWl)} (hf : fX0_comesTrue w a0 x1 = some r) : bM g mdX0_comesTrue w [.ref a0, .int x1] (q_ (eI r.1) r.2) := by
  unfold fX0_comesTrue at hf
  change bG _ _ 0 [some (.ref a0), some (.int x1)] []
  refine g_iload_n (pc' := 1) dX0_comesTrue_0 rfl rfl rfl ?_
  obtain ⟨q1, hq1, hf⟩ := Option.bind_eq_some_iff.mp hf
  refine g_callS (pc' := 4) (as := [.int x1]) (wX0_isEvent g _ x1 hq1) oX0_isEvent ⟨Nat.le_of_ble_eq_true rfl, Nat.le_of_ble_eq_true rfl⟩ dX0_comesTrue_1 rfl q356 q357 q83 (Nat.le_of_ble_eq_true rfl) (Nat.le_of_ble_eq_true rfl) (g_rI ?_) g_nt rfl
  obtain ⟨q2, hq2, hf⟩ := Option.bind_eq_some_iff.mp hf
  obtain ⟨zq2, wq2⟩ := q2
  cases zq2 with
  | inl v3 =>
    replace hf : _ = some _ := hf
    refine g_callS (pc' := 7) (as := [.int q1]) (wX0_isTold g _ q1 hq2) oX0_isTold ⟨Nat.le_of_ble_eq_true rfl, Nat.le_of_ble_eq_true rfl⟩ dX0_comesTrue_4 rfl q216 q217 q83 (Nat.le_of_ble_eq_true rfl) (Nat.le_of_ble_eq_true rfl) (g_rV ?_) g_nt rfl
    refine g_aload_n (pc' := 8) dX0_comesTrue_7 rfl rfl rfl ?_
    obtain ⟨v5, hv5, hf⟩ := Option.bind_eq_some_iff.mp hf
    refine g_get (pc' := 11) (fok_0 0 (by decide)) (Or.inl rfl) dX0_comesTrue_8 rfl q171 (hR_spec hv5) ?_
    refine g_iload_n (pc' := 12) dX0_comesTrue_11 rfl rfl rfl ?_
    obtain ⟨q6, hq6, hf⟩ := Option.bind_eq_some_iff.mp hf
    obtain ⟨h7, hq6⟩ := vK_spec hq6
    refine g_callV (pc' := 15) (mx := mdX1_comesTrue) (as := [.int x1]) (wX1_comesTrue g _ v5 x1 hq6) oX1_comesTrue ⟨Nat.le_of_ble_eq_true rfl, Nat.le_of_ble_eq_true rfl⟩ dX0_comesTrue_12 rfl (ci := 1) rfl h7 ⟨by decide +kernel, by decide +kernel⟩ oX1_comesTrue.2.2.2 rfl q625 q626 q627 q627 q626 (Nat.le_of_ble_eq_true rfl) (Nat.le_of_ble_eq_true rfl) (g_rI ?_) g_nt rfl
    obtain rfl := Option.some.inj hf
    exact g_iret dX0_comesTrue_15 rfl rfl ⟨rfl, rfl⟩
  | inr a4 =>
    replace hf : _ = some _ := hf
    refine g_callS (pc' := 7) (as := [.int q1]) (wX0_isTold g _ q1 hq2) oX0_isTold ⟨Nat.le_of_ble_eq_true rfl, Nat.le_of_ble_eq_true rfl⟩ dX0_comesTrue_4 rfl q216 q217 q83 (Nat.le_of_ble_eq_true rfl) (Nat.le_of_ble_eq_true rfl) g_nr (g_tt ?_) rfl
    obtain ⟨h8, hf⟩ := vK_spec hf
    refine t_catch (ci := 4) rfl (by decide) q204 rfl h8 ?_
    refine g_astore_n (pc' := 17) (L' := [some (.ref a0), some (.int x1), some (.ref a4)]) dX0_comesTrue_16 rfl rfl (Nat.le_of_ble_eq_true rfl) rfl rfl ?_
    refine g_aload_n (pc' := 18) dX0_comesTrue_17 rfl rfl rfl ?_
    refine g_aload_n (pc' := 19) dX0_comesTrue_18 rfl rfl rfl ?_
    obtain ⟨q9, hq9, hf⟩ := Option.bind_eq_some_iff.mp hf
    obtain ⟨h10, hq9⟩ := vK_spec hq9
    refine g_callV (pc' := 22) (mx := mdX0_finds) (as := [.ref a4]) (wX0_finds g _ a0 a4 hq9) oX0_finds ⟨Nat.le_of_ble_eq_true rfl, Nat.le_of_ble_eq_true rfl⟩ dX0_comesTrue_19 rfl (ci := 0) rfl h10 ⟨by decide +kernel, by decide +kernel⟩ oX0_finds.2.2.2 rfl q289 q291 qs1 qs1 q291 (Nat.le_of_ble_eq_true rfl) (Nat.le_of_ble_eq_true rfl) (g_rI ?_) g_nt rfl
    obtain rfl := Option.some.inj hf
    exact g_iret dX0_comesTrue_22 rfl rfl ⟨rfl, rfl⟩
def mdX0_forget : bMD := (yX0_forget, cX0_forget, 3, (some FieldType.int), [(0, 42, 43, 1)], 7, 157)
theorem oX0_forget : bOkc mdX0_forget 1 := ⟨by decide +kernel, ⟨by decide +kernel, by decide +kernel⟩, by decide +kernel, q633⟩
def fX0_forget (w : bWl) (a0 : Nat) (x1 : Int32) : Option (Int32 × bWl) :=
  Option.bind (fX0_isEvent x1) fun q1 =>
  Option.bind (fX0_isTold w q1) fun q2 => sm q2.1 (fun v3 =>
  Option.bind (hR q2.2 (okc 0) a0 0) fun v5 =>
  Option.bind (vK 1 q2.2 v5 (fX1_isTrue q2.2 v5 x1)) fun q6 =>
  Option.bind (α := Int32) ((if q6 = 0 then
  some 0
else
  some 1)) fun q8 =>
  Option.bind (hR q2.2 (okc 0) a0 0) fun v10 =>
  Option.bind (hI q2.2 (okc 1) v10 1) fun v11 =>
  Option.bind (hP q2.2 (okc 1) v10 1 (.int (v11 &&& ((1 <<< (x1 &&& 31)) ^^^ (-1))))) fun w12 =>
  some (q8, w12)) (fun a4 => vK 4 q2.2 a4 (Option.bind (vK 0 q2.2 a0 (fX0_finds q2.2 a0 a4)) fun q14 =>
  some (q14.1, q14.2)))
set_option maxHeartbeats 4000000 in
theorem wX0_forget (g : bGh) (w : bWl) (a0 : Nat) (x1 : Int32) {r : (Int32 × bWl)} (hf : fX0_forget w a0 x1 = some r) : bM g mdX0_forget w [.ref a0, .int x1] (q_ (eI r.1) r.2) := by
  unfold fX0_forget at hf
  change bG _ _ 0 [some (.ref a0), some (.int x1)] []
  refine g_iload_n (pc' := 1) dX0_forget_0 rfl rfl rfl ?_
  obtain ⟨q1, hq1, hf⟩ := Option.bind_eq_some_iff.mp hf
  refine g_callS (pc' := 4) (as := [.int x1]) (wX0_isEvent g _ x1 hq1) oX0_isEvent ⟨Nat.le_of_ble_eq_true rfl, Nat.le_of_ble_eq_true rfl⟩ dX0_forget_1 rfl q356 q357 q83 (Nat.le_of_ble_eq_true rfl) (Nat.le_of_ble_eq_true rfl) (g_rI ?_) g_nt rfl
  obtain ⟨q2, hq2, hf⟩ := Option.bind_eq_some_iff.mp hf
  obtain ⟨zq2, wq2⟩ := q2
  cases zq2 with
  | inl v3 =>
    replace hf : _ = some _ := hf
    refine g_callS (pc' := 7) (as := [.int q1]) (wX0_isTold g _ q1 hq2) oX0_isTold ⟨Nat.le_of_ble_eq_true rfl, Nat.le_of_ble_eq_true rfl⟩ dX0_forget_4 rfl q216 q217 q83 (Nat.le_of_ble_eq_true rfl) (Nat.le_of_ble_eq_true rfl) (g_rV ?_) g_nt rfl
    refine g_aload_n (pc' := 8) dX0_forget_7 rfl rfl rfl ?_
    obtain ⟨v5, hv5, hf⟩ := Option.bind_eq_some_iff.mp hf
    refine g_get (pc' := 11) (fok_0 0 (by decide)) (Or.inl rfl) dX0_forget_8 rfl q171 (hR_spec hv5) ?_
    refine g_iload_n (pc' := 12) dX0_forget_11 rfl rfl rfl ?_
    obtain ⟨q6, hq6, hf⟩ := Option.bind_eq_some_iff.mp hf
    obtain ⟨h7, hq6⟩ := vK_spec hq6
    refine g_callV (pc' := 15) (mx := mdX1_isTrue) (as := [.int x1]) (wX1_isTrue g _ v5 x1 hq6) oX1_isTrue ⟨Nat.le_of_ble_eq_true rfl, Nat.le_of_ble_eq_true rfl⟩ dX0_forget_12 rfl (ci := 1) rfl h7 ⟨by decide +kernel, by decide +kernel⟩ oX1_isTrue.2.2.2 rfl q578 q579 q580 q580 q579 (Nat.le_of_ble_eq_true rfl) (Nat.le_of_ble_eq_true rfl) (g_rI ?_) g_nt rfl
    obtain ⟨q8, hqq8, hf⟩ := Option.bind_eq_some_iff.mp hf
    have hJq8 : bG (g, mdX0_forget, w.2.1, w.2.2.1, (q_ (eI r.1) r.2)) wq2 23 [some (.ref a0), some (.int x1)] [.int q8] := by
      refine g_istore_n (pc' := 24) (L' := [some (.ref a0), some (.int x1), some (.int q8)]) dX0_forget_23 rfl rfl (Nat.le_of_ble_eq_true rfl) rfl rfl ?_
      refine g_aload_n (pc' := 25) dX0_forget_24 rfl rfl rfl ?_
      obtain ⟨v10, hv10, hf⟩ := Option.bind_eq_some_iff.mp hf
      refine g_get (pc' := 28) (fok_0 0 (by decide)) (Or.inl rfl) dX0_forget_25 rfl q171 (hR_spec hv10) ?_
      refine g_dup (pc' := 29) dX0_forget_28 rfl rfl ?_
      obtain ⟨v11, hv11, hf⟩ := Option.bind_eq_some_iff.mp hf
      refine g_get (pc' := 32) (fok_1 1 (by decide)) (Or.inl rfl) dX0_forget_29 rfl q138 (hI_spec hv11) ?_
      refine g_iconst (pc' := 33) (v := 1) dX0_forget_32 rfl (by decide) ?_
      refine g_iload_n (pc' := 34) dX0_forget_33 rfl rfl rfl ?_
      refine g_ishl (pc' := 35) dX0_forget_34 rfl ?_
      refine g_iconst (pc' := 36) (v := (-1)) dX0_forget_35 rfl (by decide) ?_
      refine g_ixor (pc' := 37) dX0_forget_36 rfl ?_
      refine g_iand (pc' := 38) dX0_forget_37 rfl ?_
      obtain ⟨w12, hw12, hf⟩ := Option.bind_eq_some_iff.mp hf
      refine g_put (ty := .int) (pc' := 41) (fok_1 1 (by decide)) (Or.inl rfl) dX0_forget_38 rfl q138 (by decide +kernel) rfl rfl hw12 ?_
      refine g_iload_n (pc' := 42) dX0_forget_41 rfl rfl rfl ?_
      obtain rfl := Option.some.inj hf
      exact g_iret dX0_forget_42 rfl rfl ⟨rfl, rfl⟩
    replace hf := hqq8
    refine g_if_eq (tgt := 22) (pc' := 18) dX0_forget_15 (by decide) rfl (fun h9 => ?_) (fun h9 => ?_)
    · replace hf := (if_pos h9).symm.trans hf
      refine g_iconst (pc' := 23) (v := 0) dX0_forget_22 rfl (by decide) ?_
      obtain rfl := Option.some.inj hf
      exact hJq8
    · replace hf := (if_neg h9).symm.trans hf
      refine g_iconst (pc' := 19) (v := 1) dX0_forget_18 rfl (by decide) ?_
      refine g_goto (tgt := 23) dX0_forget_19 (by decide) ?_
      obtain rfl := Option.some.inj hf
      exact hJq8
  | inr a4 =>
    replace hf : _ = some _ := hf
    refine g_callS (pc' := 7) (as := [.int q1]) (wX0_isTold g _ q1 hq2) oX0_isTold ⟨Nat.le_of_ble_eq_true rfl, Nat.le_of_ble_eq_true rfl⟩ dX0_forget_4 rfl q216 q217 q83 (Nat.le_of_ble_eq_true rfl) (Nat.le_of_ble_eq_true rfl) g_nr (g_tt ?_) rfl
    obtain ⟨h13, hf⟩ := vK_spec hf
    refine t_catch (ci := 4) rfl (by decide) q204 rfl h13 ?_
    refine g_astore_n (pc' := 44) (L' := [some (.ref a0), some (.int x1), some (.ref a4)]) dX0_forget_43 rfl rfl (Nat.le_of_ble_eq_true rfl) rfl rfl ?_
    refine g_aload_n (pc' := 45) dX0_forget_44 rfl rfl rfl ?_
    refine g_aload_n (pc' := 46) dX0_forget_45 rfl rfl rfl ?_
    obtain ⟨q14, hq14, hf⟩ := Option.bind_eq_some_iff.mp hf
    obtain ⟨h15, hq14⟩ := vK_spec hq14
    refine g_callV (pc' := 49) (mx := mdX0_finds) (as := [.ref a4]) (wX0_finds g _ a0 a4 hq14) oX0_finds ⟨Nat.le_of_ble_eq_true rfl, Nat.le_of_ble_eq_true rfl⟩ dX0_forget_46 rfl (ci := 0) rfl h15 ⟨by decide +kernel, by decide +kernel⟩ oX0_finds.2.2.2 rfl q289 q291 qs1 qs1 q291 (Nat.le_of_ble_eq_true rfl) (Nat.le_of_ble_eq_true rfl) (g_rI ?_) g_nt rfl
    obtain rfl := Option.some.inj hf
    exact g_iret dX0_forget_49 rfl rfl ⟨rfl, rfl⟩
def mdX0_days : bMD := (yX0_days, cX0_days, 3, (some FieldType.int), [(0, 51, 52, 1)], 11, 255)
theorem oX0_days : bOkc mdX0_days 1 := ⟨by decide +kernel, ⟨by decide +kernel, by decide +kernel⟩, by decide +kernel, q637⟩
def fX0_days (w : bWl) (a0 : Nat) (x1 : Int32) : Option (Int32 × bWl) :=
  Option.bind (fX0_in ((x1 : Int32).toInt64) 1 60) fun q1 =>
  Option.bind (fX0_isTold w q1) fun q2 => sm q2.1 (fun v3 =>
  Option.bind (hR q2.2 (okc 0) a0 0) fun v5 =>
  Option.bind (hI q2.2 (okc 1) v5 0) fun v6 =>
  Option.bind (α := Int32) ((if 9999 < (v6 + x1) then
  some 0
else
  some 1)) fun q7 =>
  Option.bind (fX0_need q2.2 q7 4) fun q9 => sm q9.1 (fun v10 =>
  Option.bind (hR q9.2 (okc 0) a0 0) fun v12 =>
  Option.bind (vK 1 q9.2 v12 (fX1_days q9.2 v12 x1)) fun q13 =>
  Option.bind (hR q13 (okc 0) a0 0) fun v15 =>
  Option.bind (hI q13 (okc 1) v15 2) fun v16 =>
  some (v16, q13)) (fun a11 => vK 4 q9.2 a11 (Option.bind (vK 0 q9.2 a0 (fX0_finds q9.2 a0 a11)) fun q18 =>
  some (q18.1, q18.2)))) (fun a4 => vK 4 q2.2 a4 (Option.bind (vK 0 q2.2 a0 (fX0_finds q2.2 a0 a4)) fun q21 =>
  some (q21.1, q21.2)))
set_option maxHeartbeats 4000000 in
theorem wX0_days (g : bGh) (w : bWl) (a0 : Nat) (x1 : Int32) {r : (Int32 × bWl)} (hf : fX0_days w a0 x1 = some r) : bM g mdX0_days w [.ref a0, .int x1] (q_ (eI r.1) r.2) := by
  unfold fX0_days at hf
  change bG _ _ 0 [some (.ref a0), some (.int x1)] []
  refine g_iload_n (pc' := 1) dX0_days_0 rfl rfl rfl ?_
  refine g_i2l (pc' := 2) dX0_days_1 rfl ?_
  refine g_lconst (pc' := 3) (v := 1) dX0_days_2 rfl (by decide) ?_
  refine g_ldc2 (pc' := 6) dX0_days_3 rfl q638 ?_
  obtain ⟨q1, hq1, hf⟩ := Option.bind_eq_some_iff.mp hf
  refine g_callS (pc' := 9) (as := [.long ((x1 : Int32).toInt64), .long 1, .long 60]) (wX0_in g _ ((x1 : Int32).toInt64) 1 60 hq1) oX0_in ⟨Nat.le_of_ble_eq_true rfl, Nat.le_of_ble_eq_true rfl⟩ dX0_days_6 rfl q209 q210 q83 (Nat.le_of_ble_eq_true rfl) (Nat.le_of_ble_eq_true rfl) (g_rI ?_) g_nt rfl
  obtain ⟨q2, hq2, hf⟩ := Option.bind_eq_some_iff.mp hf
  obtain ⟨zq2, wq2⟩ := q2
  cases zq2 with
  | inl v3 =>
    replace hf : _ = some _ := hf
    refine g_callS (pc' := 12) (as := [.int q1]) (wX0_isTold g _ q1 hq2) oX0_isTold ⟨Nat.le_of_ble_eq_true rfl, Nat.le_of_ble_eq_true rfl⟩ dX0_days_9 rfl q216 q217 q83 (Nat.le_of_ble_eq_true rfl) (Nat.le_of_ble_eq_true rfl) (g_rV ?_) g_nt rfl
    refine g_aload_n (pc' := 13) dX0_days_12 rfl rfl rfl ?_
    obtain ⟨v5, hv5, hf⟩ := Option.bind_eq_some_iff.mp hf
    refine g_get (pc' := 16) (fok_0 0 (by decide)) (Or.inl rfl) dX0_days_13 rfl q171 (hR_spec hv5) ?_
    obtain ⟨v6, hv6, hf⟩ := Option.bind_eq_some_iff.mp hf
    refine g_get (pc' := 19) (fok_1 0 (by decide)) (Or.inl rfl) dX0_days_16 rfl q136 (hI_spec hv6) ?_
    refine g_iload_n (pc' := 20) dX0_days_19 rfl rfl rfl ?_
    refine g_iadd (pc' := 21) dX0_days_20 rfl ?_
    refine g_sipush (pc' := 24) (v := 9999) dX0_days_21 rfl (by decide) ?_
    obtain ⟨q7, hqq7, hf⟩ := Option.bind_eq_some_iff.mp hf
    have hJq7 : bG (g, mdX0_days, w.2.1, w.2.2.1, (q_ (eI r.1) r.2)) wq2 32 [some (.ref a0), some (.int x1)] [.int q7] := by
      refine g_iconst (pc' := 33) (v := 4) dX0_days_32 rfl (by decide) ?_
      obtain ⟨q9, hq9, hf⟩ := Option.bind_eq_some_iff.mp hf
      obtain ⟨zq9, wq9⟩ := q9
      cases zq9 with
      | inl v10 =>
        replace hf : _ = some _ := hf
        refine g_callS (pc' := 36) (as := [.int q7, .int 4]) (wX0_need g _ q7 4 hq9) oX0_need ⟨Nat.le_of_ble_eq_true rfl, Nat.le_of_ble_eq_true rfl⟩ dX0_days_33 rfl q219 q220 q83 (Nat.le_of_ble_eq_true rfl) (Nat.le_of_ble_eq_true rfl) (g_rV ?_) g_nt rfl
        refine g_aload_n (pc' := 37) dX0_days_36 rfl rfl rfl ?_
        obtain ⟨v12, hv12, hf⟩ := Option.bind_eq_some_iff.mp hf
        refine g_get (pc' := 40) (fok_0 0 (by decide)) (Or.inl rfl) dX0_days_37 rfl q171 (hR_spec hv12) ?_
        refine g_iload_n (pc' := 41) dX0_days_40 rfl rfl rfl ?_
        obtain ⟨q13, hq13, hf⟩ := Option.bind_eq_some_iff.mp hf
        obtain ⟨h14, hq13⟩ := vK_spec hq13
        refine g_callV (pc' := 44) (mx := mdX1_days) (as := [.int x1]) (wX1_days g _ v12 x1 hq13) oX1_days ⟨Nat.le_of_ble_eq_true rfl, Nat.le_of_ble_eq_true rfl⟩ dX0_days_41 rfl (ci := 1) rfl h14 ⟨by decide +kernel, by decide +kernel⟩ oX1_days.2.2.2 rfl q639 q640 q641 q641 q640 (Nat.le_of_ble_eq_true rfl) (Nat.le_of_ble_eq_true rfl) (g_rV ?_) g_nt rfl
        refine g_aload_n (pc' := 45) dX0_days_44 rfl rfl rfl ?_
        obtain ⟨v15, hv15, hf⟩ := Option.bind_eq_some_iff.mp hf
        refine g_get (pc' := 48) (fok_0 0 (by decide)) (Or.inl rfl) dX0_days_45 rfl q171 (hR_spec hv15) ?_
        obtain ⟨v16, hv16, hf⟩ := Option.bind_eq_some_iff.mp hf
        refine g_get (pc' := 51) (fok_1 2 (by decide)) (Or.inl rfl) dX0_days_48 rfl q141 (hI_spec hv16) ?_
        obtain rfl := Option.some.inj hf
        exact g_iret dX0_days_51 rfl rfl ⟨rfl, rfl⟩
      | inr a11 =>
        replace hf : _ = some _ := hf
        refine g_callS (pc' := 36) (as := [.int q7, .int 4]) (wX0_need g _ q7 4 hq9) oX0_need ⟨Nat.le_of_ble_eq_true rfl, Nat.le_of_ble_eq_true rfl⟩ dX0_days_33 rfl q219 q220 q83 (Nat.le_of_ble_eq_true rfl) (Nat.le_of_ble_eq_true rfl) g_nr (g_tt ?_) rfl
        obtain ⟨h17, hf⟩ := vK_spec hf
        refine t_catch (ci := 4) rfl (by decide) q204 rfl h17 ?_
        refine g_astore_n (pc' := 53) (L' := [some (.ref a0), some (.int x1), some (.ref a11)]) dX0_days_52 rfl rfl (Nat.le_of_ble_eq_true rfl) rfl rfl ?_
        refine g_aload_n (pc' := 54) dX0_days_53 rfl rfl rfl ?_
        refine g_aload_n (pc' := 55) dX0_days_54 rfl rfl rfl ?_
        obtain ⟨q18, hq18, hf⟩ := Option.bind_eq_some_iff.mp hf
        obtain ⟨h19, hq18⟩ := vK_spec hq18
        refine g_callV (pc' := 58) (mx := mdX0_finds) (as := [.ref a11]) (wX0_finds g _ a0 a11 hq18) oX0_finds ⟨Nat.le_of_ble_eq_true rfl, Nat.le_of_ble_eq_true rfl⟩ dX0_days_55 rfl (ci := 0) rfl h19 ⟨by decide +kernel, by decide +kernel⟩ oX0_finds.2.2.2 rfl q289 q291 qs1 qs1 q291 (Nat.le_of_ble_eq_true rfl) (Nat.le_of_ble_eq_true rfl) (g_rI ?_) g_nt rfl
        obtain rfl := Option.some.inj hf
        exact g_iret dX0_days_58 rfl rfl ⟨rfl, rfl⟩
    replace hf := hqq7
    refine g_icmp_gt (tgt := 31) (pc' := 27) dX0_days_24 (by decide) rfl (fun h8 => ?_) (fun h8 => ?_)
    · replace hf := (if_pos h8).symm.trans hf
      refine g_iconst (pc' := 32) (v := 0) dX0_days_31 rfl (by decide) ?_
      obtain rfl := Option.some.inj hf
      exact hJq7
    · replace hf := (if_neg h8).symm.trans hf
      refine g_iconst (pc' := 28) (v := 1) dX0_days_27 rfl (by decide) ?_
      refine g_goto (tgt := 32) dX0_days_28 (by decide) ?_
      obtain rfl := Option.some.inj hf
      exact hJq7
  | inr a4 =>
    replace hf : _ = some _ := hf
    refine g_callS (pc' := 12) (as := [.int q1]) (wX0_isTold g _ q1 hq2) oX0_isTold ⟨Nat.le_of_ble_eq_true rfl, Nat.le_of_ble_eq_true rfl⟩ dX0_days_9 rfl q216 q217 q83 (Nat.le_of_ble_eq_true rfl) (Nat.le_of_ble_eq_true rfl) g_nr (g_tt ?_) rfl
    obtain ⟨h20, hf⟩ := vK_spec hf
    refine t_catch (ci := 4) rfl (by decide) q204 rfl h20 ?_
    refine g_astore_n (pc' := 53) (L' := [some (.ref a0), some (.int x1), some (.ref a4)]) dX0_days_52 rfl rfl (Nat.le_of_ble_eq_true rfl) rfl rfl ?_
    refine g_aload_n (pc' := 54) dX0_days_53 rfl rfl rfl ?_
    refine g_aload_n (pc' := 55) dX0_days_54 rfl rfl rfl ?_
    obtain ⟨q21, hq21, hf⟩ := Option.bind_eq_some_iff.mp hf
    obtain ⟨h22, hq21⟩ := vK_spec hq21
    refine g_callV (pc' := 58) (mx := mdX0_finds) (as := [.ref a4]) (wX0_finds g _ a0 a4 hq21) oX0_finds ⟨Nat.le_of_ble_eq_true rfl, Nat.le_of_ble_eq_true rfl⟩ dX0_days_55 rfl (ci := 0) rfl h22 ⟨by decide +kernel, by decide +kernel⟩ oX0_finds.2.2.2 rfl q289 q291 qs1 qs1 q291 (Nat.le_of_ble_eq_true rfl) (Nat.le_of_ble_eq_true rfl) (g_rI ?_) g_nt rfl
    obtain rfl := Option.some.inj hf
    exact g_iret dX0_days_58 rfl rfl ⟨rfl, rfl⟩
def mdX0_bulks : bMD := (yX0_bulks, cX0_bulks, 3, (some FieldType.int), [], 2, 33)
theorem oX0_bulks : bOkc mdX0_bulks 0 := ⟨by decide +kernel, ⟨by decide +kernel, by decide +kernel⟩, by decide +kernel, q680⟩
def fX0_bulks_l4 (w : bWl) (b0 : Nat) (rec : (Int32 × Int32) → Option (Int32 × Int32)) (s : Int32 × Int32) : Option (Int32 × Int32) :=
  Option.bind (hR w (okc 0) b0 0) fun v1 =>
  Option.bind (hI w (okc 1) v1 2) fun v2 =>
  (if v2 ≤ s.2 then
  some (s.1, s.2)
else
  Option.bind (hR w (okc 0) b0 0) fun v4 =>
  Option.bind (vK 1 w v4 (fX1_rumour w v4 s.2)) fun q5 =>
  Option.bind (hR w okRu q5 0) fun v7 =>
  Option.bind (aI w 0 v7 1) fun v8 =>
  rec ((s.1 + v8), (s.2 + 1)))
def fX0_bulks (w : bWl) (a0 : Nat) : Option Int32 :=
  Option.bind (lpF (fX0_bulks_l4 w a0) FU (0, 0)) fun q9 =>
  some q9.1
set_option maxHeartbeats 4000000 in
theorem wX0_bulks_l4 {g : bGh} {w : bWl} {n0 u0 : Nat} {Q : Outcome → bWl → Prop} (b0 : Nat) : ∀ (n : Nat) (s : Int32 × Int32) (r : (Int32 × Int32)), lpF (fX0_bulks_l4 w b0) n s = some r → bG (g, mdX0_bulks, n0, u0, Q) w 37 [some (.ref b0), some (.int r.1), some (.int r.2)] [] → bG (g, mdX0_bulks, n0, u0, Q) w 4 [some (.ref b0), some (.int s.1), some (.int s.2)] [] := by
  intro n
  induction n with
  | zero => intro s r hf; cases hf
  | succ n ih =>
    intro s r hf kx
    rw [lpF_s] at hf
    unfold fX0_bulks_l4 at hf
    refine g_iload_n (pc' := 5) dX0_bulks_4 rfl rfl rfl ?_
    refine g_aload_n (pc' := 6) dX0_bulks_5 rfl rfl rfl ?_
    obtain ⟨v1, hv1, hf⟩ := Option.bind_eq_some_iff.mp hf
    refine g_get (pc' := 9) (fok_0 0 (by decide)) (Or.inl rfl) dX0_bulks_6 rfl q171 (hR_spec hv1) ?_
    obtain ⟨v2, hv2, hf⟩ := Option.bind_eq_some_iff.mp hf
    refine g_get (pc' := 12) (fok_1 2 (by decide)) (Or.inl rfl) dX0_bulks_9 rfl q141 (hI_spec hv2) ?_
    refine g_icmp_ge (tgt := 37) (pc' := 15) dX0_bulks_12 (by decide) rfl (fun h3 => ?_) (fun h3 => ?_)
    · replace hf := (if_pos h3).symm.trans hf
      obtain rfl := Option.some.inj hf
      exact kx
    · replace hf := (if_neg h3).symm.trans hf
      refine g_iload_n (pc' := 16) dX0_bulks_15 rfl rfl rfl ?_
      refine g_aload_n (pc' := 17) dX0_bulks_16 rfl rfl rfl ?_
      obtain ⟨v4, hv4, hf⟩ := Option.bind_eq_some_iff.mp hf
      refine g_get (pc' := 20) (fok_0 0 (by decide)) (Or.inl rfl) dX0_bulks_17 rfl q171 (hR_spec hv4) ?_
      refine g_iload_n (pc' := 21) dX0_bulks_20 rfl rfl rfl ?_
      obtain ⟨q5, hq5, hf⟩ := Option.bind_eq_some_iff.mp hf
      obtain ⟨h6, hq5⟩ := vK_spec hq5
      refine g_callV (pc' := 24) (mx := mdX1_rumour) (as := [.int s.2]) (wX1_rumour g _ v4 s.2 hq5) oX1_rumour ⟨Nat.le_of_ble_eq_true rfl, Nat.le_of_ble_eq_true rfl⟩ dX0_bulks_21 rfl (ci := 1) rfl h6 ⟨by decide +kernel, by decide +kernel⟩ oX1_rumour.2.2.2 rfl q316 q308 q309 q309 q308 (Nat.le_of_ble_eq_true rfl) (Nat.le_of_ble_eq_true rfl) (g_rA ?_) g_nt rfl
      obtain ⟨v7, hv7, hf⟩ := Option.bind_eq_some_iff.mp hf
      refine g_get (pc' := 27) fok_Ru (Or.inl rfl) dX0_bulks_24 rfl q384 (hR_spec hv7) ?_
      refine g_iconst (pc' := 28) (v := 1) dX0_bulks_27 rfl (by decide) ?_
      obtain ⟨v8, hv8, hf⟩ := Option.bind_eq_some_iff.mp hf
      refine g_iald (pc' := 29) dX0_bulks_28 rfl hv8 ?_
      refine g_iadd (pc' := 30) dX0_bulks_29 rfl ?_
      refine g_istore_n (pc' := 31) (L' := [some (.ref b0), some (.int (s.1 + v8)), some (.int s.2)]) dX0_bulks_30 rfl rfl (Nat.le_of_ble_eq_true rfl) rfl rfl ?_
      refine g_iinc (pc' := 34) (v := s.2 + 1) (L' := [some (.ref b0), some (.int (s.1 + v8)), some (.int (s.2 + 1))]) dX0_bulks_31 rfl rfl rfl (Nat.le_of_ble_eq_true rfl) rfl rfl ?_
      refine g_goto (tgt := 4) dX0_bulks_34 (by decide) ?_
      exact ih _ r hf kx
set_option maxHeartbeats 4000000 in
theorem wX0_bulks (g : bGh) (w : bWl) (a0 : Nat) {r : Int32} (hf : fX0_bulks w a0 = some r) : bM g mdX0_bulks w [.ref a0] (q_ (eI r) w) := by
  unfold fX0_bulks at hf
  change bG _ _ 0 [some (.ref a0)] []
  refine g_iconst (pc' := 1) (v := 0) dX0_bulks_0 rfl (by decide) ?_
  refine g_istore_n (pc' := 2) (L' := [some (.ref a0), some (.int 0)]) dX0_bulks_1 rfl rfl (Nat.le_of_ble_eq_true rfl) rfl rfl ?_
  refine g_iconst (pc' := 3) (v := 0) dX0_bulks_2 rfl (by decide) ?_
  refine g_istore_n (pc' := 4) (L' := [some (.ref a0), some (.int 0), some (.int 0)]) dX0_bulks_3 rfl rfl (Nat.le_of_ble_eq_true rfl) rfl rfl ?_
  obtain ⟨q9, hq9, hf⟩ := Option.bind_eq_some_iff.mp hf
  refine wX0_bulks_l4 a0 FU (0, 0) q9 hq9 ?_
  refine g_iload_n (pc' := 38) dX0_bulks_37 rfl rfl rfl ?_
  obtain rfl := Option.some.inj hf
  exact g_iret dX0_bulks_38 rfl rfl ⟨rfl, rfl⟩
def mdX0_freeBeds : bMD := (yX0_freeBeds, cX0_freeBeds, 3, (some FieldType.int), [], 3, 56)
theorem oX0_freeBeds : bOkc mdX0_freeBeds 0 := ⟨by decide +kernel, ⟨by decide +kernel, by decide +kernel⟩, by decide +kernel, q688⟩
def fX0_freeBeds_l4 (w : bWl) (b0 : Nat) (rec : (Int32 × Int32) → Option (Int32 × Int32)) (s : Int32 × Int32) : Option (Int32 × Int32) :=
  (if 8 ≤ s.2 then
  some (s.1, s.2)
else
  Option.bind (hR w (okc 0) b0 0) fun v2 =>
  Option.bind (hR w (okc 1) v2 3) fun v3 =>
  Option.bind (aI w 0 v3 s.2) fun v4 =>
  Option.bind (hR w (okc 0) b0 0) fun v5 =>
  Option.bind (vK 1 w v5 (fX1_inside w v5 s.2)) fun q6 =>
  Option.bind (fJ3_bitCount q6) fun q8 =>
  Option.bind (fJ2_max 0 (v4 - q8)) fun q9 =>
  rec ((s.1 + q9), (s.2 + 1)))
def fX0_freeBeds (w : bWl) (a0 : Nat) : Option Int32 :=
  Option.bind (lpF (fX0_freeBeds_l4 w a0) FU (0, 0)) fun q10 =>
  some q10.1
set_option maxHeartbeats 4000000 in
theorem wX0_freeBeds_l4 {g : bGh} {w : bWl} {n0 u0 : Nat} {Q : Outcome → bWl → Prop} (b0 : Nat) : ∀ (n : Nat) (s : Int32 × Int32) (r : (Int32 × Int32)), lpF (fX0_freeBeds_l4 w b0) n s = some r → bG (g, mdX0_freeBeds, n0, u0, Q) w 44 [some (.ref b0), some (.int r.1), some (.int r.2)] [] → bG (g, mdX0_freeBeds, n0, u0, Q) w 4 [some (.ref b0), some (.int s.1), some (.int s.2)] [] := by
  intro n
  induction n with
  | zero => intro s r hf; cases hf
  | succ n ih =>
    intro s r hf kx
    rw [lpF_s] at hf
    unfold fX0_freeBeds_l4 at hf
    refine g_iload_n (pc' := 5) dX0_freeBeds_4 rfl rfl rfl ?_
    refine g_bipush (pc' := 7) (v := 8) dX0_freeBeds_5 rfl (by decide) ?_
    refine g_icmp_ge (tgt := 44) (pc' := 10) dX0_freeBeds_7 (by decide) rfl (fun h1 => ?_) (fun h1 => ?_)
    · replace hf := (if_pos h1).symm.trans hf
      obtain rfl := Option.some.inj hf
      exact kx
    · replace hf := (if_neg h1).symm.trans hf
      refine g_iload_n (pc' := 11) dX0_freeBeds_10 rfl rfl rfl ?_
      refine g_iconst (pc' := 12) (v := 0) dX0_freeBeds_11 rfl (by decide) ?_
      refine g_aload_n (pc' := 13) dX0_freeBeds_12 rfl rfl rfl ?_
      obtain ⟨v2, hv2, hf⟩ := Option.bind_eq_some_iff.mp hf
      refine g_get (pc' := 16) (fok_0 0 (by decide)) (Or.inl rfl) dX0_freeBeds_13 rfl q171 (hR_spec hv2) ?_
      obtain ⟨v3, hv3, hf⟩ := Option.bind_eq_some_iff.mp hf
      refine g_get (pc' := 19) (fok_1 3 (by decide)) (Or.inl rfl) dX0_freeBeds_16 rfl q144 (hR_spec hv3) ?_
      refine g_iload_n (pc' := 20) dX0_freeBeds_19 rfl rfl rfl ?_
      obtain ⟨v4, hv4, hf⟩ := Option.bind_eq_some_iff.mp hf
      refine g_iald (pc' := 21) dX0_freeBeds_20 rfl hv4 ?_
      refine g_aload_n (pc' := 22) dX0_freeBeds_21 rfl rfl rfl ?_
      obtain ⟨v5, hv5, hf⟩ := Option.bind_eq_some_iff.mp hf
      refine g_get (pc' := 25) (fok_0 0 (by decide)) (Or.inl rfl) dX0_freeBeds_22 rfl q171 (hR_spec hv5) ?_
      refine g_iload_n (pc' := 26) dX0_freeBeds_25 rfl rfl rfl ?_
      obtain ⟨q6, hq6, hf⟩ := Option.bind_eq_some_iff.mp hf
      obtain ⟨h7, hq6⟩ := vK_spec hq6
      refine g_callV (pc' := 29) (mx := mdX1_inside) (as := [.int s.2]) (wX1_inside g _ v5 s.2 hq6) oX1_inside ⟨Nat.le_of_ble_eq_true rfl, Nat.le_of_ble_eq_true rfl⟩ dX0_freeBeds_26 rfl (ci := 1) rfl h7 ⟨by decide +kernel, by decide +kernel⟩ oX1_inside.2.2.2 rfl q303 q304 q305 q305 q304 (Nat.le_of_ble_eq_true rfl) (Nat.le_of_ble_eq_true rfl) (g_rI ?_) g_nt rfl
      obtain ⟨q8, hq8, hf⟩ := Option.bind_eq_some_iff.mp hf
      refine g_callS (pc' := 32) (as := [.int q6]) (wJ3_bitCount g _ q6 hq8) oJ3_bitCount ⟨Nat.le_of_ble_eq_true rfl, Nat.le_of_ble_eq_true rfl⟩ dX0_freeBeds_29 rfl q689 q559 q98 (Nat.le_of_ble_eq_true rfl) (Nat.le_of_ble_eq_true rfl) (g_rI ?_) g_nt rfl
      refine g_isub (pc' := 33) dX0_freeBeds_32 rfl ?_
      obtain ⟨q9, hq9, hf⟩ := Option.bind_eq_some_iff.mp hf
      refine g_callS (pc' := 36) (as := [.int 0, .int (v4 - q8)]) (wJ2_max g _ 0 (v4 - q8) hq9) oJ2_max ⟨Nat.le_of_ble_eq_true rfl, Nat.le_of_ble_eq_true rfl⟩ dX0_freeBeds_33 rfl q690 q344 q90 (Nat.le_of_ble_eq_true rfl) (Nat.le_of_ble_eq_true rfl) (g_rI ?_) g_nt rfl
      refine g_iadd (pc' := 37) dX0_freeBeds_36 rfl ?_
      refine g_istore_n (pc' := 38) (L' := [some (.ref b0), some (.int (s.1 + q9)), some (.int s.2)]) dX0_freeBeds_37 rfl rfl (Nat.le_of_ble_eq_true rfl) rfl rfl ?_
      refine g_iinc (pc' := 41) (v := s.2 + 1) (L' := [some (.ref b0), some (.int (s.1 + q9)), some (.int (s.2 + 1))]) dX0_freeBeds_38 rfl rfl rfl (Nat.le_of_ble_eq_true rfl) rfl rfl ?_
      refine g_goto (tgt := 4) dX0_freeBeds_41 (by decide) ?_
      exact ih _ r hf kx
set_option maxHeartbeats 4000000 in
theorem wX0_freeBeds (g : bGh) (w : bWl) (a0 : Nat) {r : Int32} (hf : fX0_freeBeds w a0 = some r) : bM g mdX0_freeBeds w [.ref a0] (q_ (eI r) w) := by
  unfold fX0_freeBeds at hf
  change bG _ _ 0 [some (.ref a0)] []
  refine g_iconst (pc' := 1) (v := 0) dX0_freeBeds_0 rfl (by decide) ?_
  refine g_istore_n (pc' := 2) (L' := [some (.ref a0), some (.int 0)]) dX0_freeBeds_1 rfl rfl (Nat.le_of_ble_eq_true rfl) rfl rfl ?_
  refine g_iconst (pc' := 3) (v := 0) dX0_freeBeds_2 rfl (by decide) ?_
  refine g_istore_n (pc' := 4) (L' := [some (.ref a0), some (.int 0), some (.int 0)]) dX0_freeBeds_3 rfl rfl (Nat.le_of_ble_eq_true rfl) rfl rfl ?_
  obtain ⟨q10, hq10, hf⟩ := Option.bind_eq_some_iff.mp hf
  refine wX0_freeBeds_l4 a0 FU (0, 0) q10 hq10 ?_
  refine g_iload_n (pc' := 45) dX0_freeBeds_44 rfl rfl rfl ?_
  obtain rfl := Option.some.inj hf
  exact g_iret dX0_freeBeds_45 rfl rfl ⟨rfl, rfl⟩
def mdX0_allEaten : bMD := (yX0_allEaten, cX0_allEaten, 3, (some FieldType.int), [], 5, 95)
theorem oX0_allEaten : bOkc mdX0_allEaten 0 := ⟨by decide +kernel, ⟨by decide +kernel, by decide +kernel⟩, by decide +kernel, q694⟩
def fX0_allEaten_l4 (w : bWl) (b0 : Nat) (rec : (Int32 × Int32) → Option (Int32 × Int32)) (s : Int32 × Int32) : Option (Int32 × Int32) :=
  (if 8 ≤ s.2 then
  some (s.1, s.2)
else
  Option.bind (hR w (okc 0) b0 0) fun v2 =>
  Option.bind (vK 1 w v2 (fX1_eaten w v2 s.2)) fun q3 =>
  rec ((s.1 + q3), (s.2 + 1)))
def fX0_allEaten (w : bWl) (a0 : Nat) : Option Int32 :=
  Option.bind (lpF (fX0_allEaten_l4 w a0) FU (0, 0)) fun q5 =>
  some q5.1
set_option maxHeartbeats 4000000 in
theorem wX0_allEaten_l4 {g : bGh} {w : bWl} {n0 u0 : Nat} {Q : Outcome → bWl → Prop} (b0 : Nat) : ∀ (n : Nat) (s : Int32 × Int32) (r : (Int32 × Int32)), lpF (fX0_allEaten_l4 w b0) n s = some r → bG (g, mdX0_allEaten, n0, u0, Q) w 27 [some (.ref b0), some (.int r.1), some (.int r.2)] [] → bG (g, mdX0_allEaten, n0, u0, Q) w 4 [some (.ref b0), some (.int s.1), some (.int s.2)] [] := by
  intro n
  induction n with
  | zero => intro s r hf; cases hf
  | succ n ih =>
    intro s r hf kx
    rw [lpF_s] at hf
    unfold fX0_allEaten_l4 at hf
    refine g_iload_n (pc' := 5) dX0_allEaten_4 rfl rfl rfl ?_
    refine g_bipush (pc' := 7) (v := 8) dX0_allEaten_5 rfl (by decide) ?_
    refine g_icmp_ge (tgt := 27) (pc' := 10) dX0_allEaten_7 (by decide) rfl (fun h1 => ?_) (fun h1 => ?_)
    · replace hf := (if_pos h1).symm.trans hf
      obtain rfl := Option.some.inj hf
      exact kx
    · replace hf := (if_neg h1).symm.trans hf
      refine g_iload_n (pc' := 11) dX0_allEaten_10 rfl rfl rfl ?_
      refine g_aload_n (pc' := 12) dX0_allEaten_11 rfl rfl rfl ?_
      obtain ⟨v2, hv2, hf⟩ := Option.bind_eq_some_iff.mp hf
      refine g_get (pc' := 15) (fok_0 0 (by decide)) (Or.inl rfl) dX0_allEaten_12 rfl q171 (hR_spec hv2) ?_
      refine g_iload_n (pc' := 16) dX0_allEaten_15 rfl rfl rfl ?_
      obtain ⟨q3, hq3, hf⟩ := Option.bind_eq_some_iff.mp hf
      obtain ⟨h4, hq3⟩ := vK_spec hq3
      refine g_callV (pc' := 19) (mx := mdX1_eaten) (as := [.int s.2]) (wX1_eaten g _ v2 s.2 hq3) oX1_eaten ⟨Nat.le_of_ble_eq_true rfl, Nat.le_of_ble_eq_true rfl⟩ dX0_allEaten_16 rfl (ci := 1) rfl h4 ⟨by decide +kernel, by decide +kernel⟩ oX1_eaten.2.2.2 rfl q317 q318 q319 q319 q318 (Nat.le_of_ble_eq_true rfl) (Nat.le_of_ble_eq_true rfl) (g_rI ?_) g_nt rfl
      refine g_iadd (pc' := 20) dX0_allEaten_19 rfl ?_
      refine g_istore_n (pc' := 21) (L' := [some (.ref b0), some (.int (s.1 + q3)), some (.int s.2)]) dX0_allEaten_20 rfl rfl (Nat.le_of_ble_eq_true rfl) rfl rfl ?_
      refine g_iinc (pc' := 24) (v := s.2 + 1) (L' := [some (.ref b0), some (.int (s.1 + q3)), some (.int (s.2 + 1))]) dX0_allEaten_21 rfl rfl rfl (Nat.le_of_ble_eq_true rfl) rfl rfl ?_
      refine g_goto (tgt := 4) dX0_allEaten_24 (by decide) ?_
      exact ih _ r hf kx
set_option maxHeartbeats 4000000 in
theorem wX0_allEaten (g : bGh) (w : bWl) (a0 : Nat) {r : Int32} (hf : fX0_allEaten w a0 = some r) : bM g mdX0_allEaten w [.ref a0] (q_ (eI r) w) := by
  unfold fX0_allEaten at hf
  change bG _ _ 0 [some (.ref a0)] []
  refine g_iconst (pc' := 1) (v := 0) dX0_allEaten_0 rfl (by decide) ?_
  refine g_istore_n (pc' := 2) (L' := [some (.ref a0), some (.int 0)]) dX0_allEaten_1 rfl rfl (Nat.le_of_ble_eq_true rfl) rfl rfl ?_
  refine g_iconst (pc' := 3) (v := 0) dX0_allEaten_2 rfl (by decide) ?_
  refine g_istore_n (pc' := 4) (L' := [some (.ref a0), some (.int 0), some (.int 0)]) dX0_allEaten_3 rfl rfl (Nat.le_of_ble_eq_true rfl) rfl rfl ?_
  obtain ⟨q5, hq5, hf⟩ := Option.bind_eq_some_iff.mp hf
  refine wX0_allEaten_l4 a0 FU (0, 0) q5 hq5 ?_
  refine g_iload_n (pc' := 28) dX0_allEaten_27 rfl rfl rfl ?_
  obtain rfl := Option.some.inj hf
  exact g_iret dX0_allEaten_28 rfl rfl ⟨rfl, rfl⟩
def mdX0_now : bMD := (yX0_now, cX0_now, 3, (some FieldType.int), [(0, 59, 100, 1), (60, 67, 100, 1), (68, 76, 100, 1), (77, 81, 100, 1), (82, 89, 100, 1), (90, 94, 100, 1), (95, 99, 100, 1)], 7, 157)
theorem oX0_now : bOkc mdX0_now 1 := ⟨by decide +kernel, ⟨by decide +kernel, by decide +kernel⟩, by decide +kernel, q675⟩
def fX0_now (w : bWl) (a0 : Nat) (x1 : Int32) : Option (Int32 × bWl) :=
  Option.bind (fX0_in ((x1 : Int32).toInt64) 0 6) fun q1 =>
  Option.bind (fX0_isTold w q1) fun q2 => sm q2.1 (fun v3 =>
  (if x1 = 0 then
  Option.bind (hR q2.2 (okc 0) a0 0) fun v6 =>
  Option.bind (hI q2.2 (okc 1) v6 0) fun v7 =>
  some (v7, q2.2)
else
  (if x1 = 1 then
  Option.bind (hR q2.2 (okc 0) a0 0) fun v9 =>
  Option.bind (hI q2.2 (okc 1) v9 1) fun v10 =>
  some (v10, q2.2)
else
  (if x1 = 2 then
  Option.bind (hR q2.2 (okc 0) a0 0) fun v12 =>
  Option.bind (vK 1 q2.2 v12 (fX1_inside q2.2 v12 (-1))) fun q13 =>
  some (q13, q2.2)
else
  (if x1 = 3 then
  Option.bind (vK 0 q2.2 a0 (fX0_bulks q2.2 a0)) fun q16 =>
  some (q16, q2.2)
else
  (if x1 = 4 then
  Option.bind (hR q2.2 (okc 0) a0 0) fun v19 =>
  Option.bind (vK 1 q2.2 v19 (fX1_larders q2.2 v19)) fun q20 =>
  some (q20, q2.2)
else
  (if x1 = 5 then
  Option.bind (vK 0 q2.2 a0 (fX0_freeBeds q2.2 a0)) fun q23 =>
  some (q23, q2.2)
else
  Option.bind (vK 0 q2.2 a0 (fX0_allEaten q2.2 a0)) fun q25 =>
  some (q25, q2.2)))))))) (fun a4 => vK 4 q2.2 a4 (Option.bind (vK 0 q2.2 a0 (fX0_finds q2.2 a0 a4)) fun q28 =>
  some (q28.1, q28.2)))
set_option maxHeartbeats 4000000 in
theorem wX0_now (g : bGh) (w : bWl) (a0 : Nat) (x1 : Int32) {r : (Int32 × bWl)} (hf : fX0_now w a0 x1 = some r) : bM g mdX0_now w [.ref a0, .int x1] (q_ (eI r.1) r.2) := by
  unfold fX0_now at hf
  change bG _ _ 0 [some (.ref a0), some (.int x1)] []
  refine g_iload_n (pc' := 1) dX0_now_0 rfl rfl rfl ?_
  refine g_i2l (pc' := 2) dX0_now_1 rfl ?_
  refine g_lconst (pc' := 3) (v := 0) dX0_now_2 rfl (by decide) ?_
  refine g_ldc2 (pc' := 6) dX0_now_3 rfl q676 ?_
  obtain ⟨q1, hq1, hf⟩ := Option.bind_eq_some_iff.mp hf
  refine g_callS (pc' := 9) (as := [.long ((x1 : Int32).toInt64), .long 0, .long 6]) (wX0_in g _ ((x1 : Int32).toInt64) 0 6 hq1) oX0_in ⟨Nat.le_of_ble_eq_true rfl, Nat.le_of_ble_eq_true rfl⟩ dX0_now_6 rfl q209 q210 q83 (Nat.le_of_ble_eq_true rfl) (Nat.le_of_ble_eq_true rfl) (g_rI ?_) g_nt rfl
  obtain ⟨q2, hq2, hf⟩ := Option.bind_eq_some_iff.mp hf
  obtain ⟨zq2, wq2⟩ := q2
  cases zq2 with
  | inl v3 =>
    replace hf : _ = some _ := hf
    refine g_callS (pc' := 12) (as := [.int q1]) (wX0_isTold g _ q1 hq2) oX0_isTold ⟨Nat.le_of_ble_eq_true rfl, Nat.le_of_ble_eq_true rfl⟩ dX0_now_9 rfl q216 q217 q83 (Nat.le_of_ble_eq_true rfl) (Nat.le_of_ble_eq_true rfl) (g_rV ?_) g_nt rfl
    refine g_iload_n (pc' := 13) dX0_now_12 rfl rfl rfl ?_
    by_cases h5 : x1 = 0
    · replace hf := (if_pos h5).symm.trans hf
      refine g_tableIn (tgt := 52) dX0_now_13 (by rw [h5]; decide) (by rw [h5]; decide) (by rw [h5]; rfl) (by decide) ?_
      refine g_aload_n (pc' := 53) dX0_now_52 rfl rfl rfl ?_
      obtain ⟨v6, hv6, hf⟩ := Option.bind_eq_some_iff.mp hf
      refine g_get (pc' := 56) (fok_0 0 (by decide)) (Or.inl rfl) dX0_now_53 rfl q171 (hR_spec hv6) ?_
      obtain ⟨v7, hv7, hf⟩ := Option.bind_eq_some_iff.mp hf
      refine g_get (pc' := 59) (fok_1 0 (by decide)) (Or.inl rfl) dX0_now_56 rfl q136 (hI_spec hv7) ?_
      obtain rfl := Option.some.inj hf
      exact g_iret dX0_now_59 rfl rfl ⟨rfl, rfl⟩
    · replace hf := (if_neg h5).symm.trans hf
      by_cases h8 : x1 = 1
      · replace hf := (if_pos h8).symm.trans hf
        refine g_tableIn (tgt := 60) dX0_now_13 (by rw [h8]; decide) (by rw [h8]; decide) (by rw [h8]; rfl) (by decide) ?_
        refine g_aload_n (pc' := 61) dX0_now_60 rfl rfl rfl ?_
        obtain ⟨v9, hv9, hf⟩ := Option.bind_eq_some_iff.mp hf
        refine g_get (pc' := 64) (fok_0 0 (by decide)) (Or.inl rfl) dX0_now_61 rfl q171 (hR_spec hv9) ?_
        obtain ⟨v10, hv10, hf⟩ := Option.bind_eq_some_iff.mp hf
        refine g_get (pc' := 67) (fok_1 1 (by decide)) (Or.inl rfl) dX0_now_64 rfl q138 (hI_spec hv10) ?_
        obtain rfl := Option.some.inj hf
        exact g_iret dX0_now_67 rfl rfl ⟨rfl, rfl⟩
      · replace hf := (if_neg h8).symm.trans hf
        by_cases h11 : x1 = 2
        · replace hf := (if_pos h11).symm.trans hf
          refine g_tableIn (tgt := 68) dX0_now_13 (by rw [h11]; decide) (by rw [h11]; decide) (by rw [h11]; rfl) (by decide) ?_
          refine g_aload_n (pc' := 69) dX0_now_68 rfl rfl rfl ?_
          obtain ⟨v12, hv12, hf⟩ := Option.bind_eq_some_iff.mp hf
          refine g_get (pc' := 72) (fok_0 0 (by decide)) (Or.inl rfl) dX0_now_69 rfl q171 (hR_spec hv12) ?_
          refine g_iconst (pc' := 73) (v := (-1)) dX0_now_72 rfl (by decide) ?_
          obtain ⟨q13, hq13, hf⟩ := Option.bind_eq_some_iff.mp hf
          obtain ⟨h14, hq13⟩ := vK_spec hq13
          refine g_callV (pc' := 76) (mx := mdX1_inside) (as := [.int (-1)]) (wX1_inside g _ v12 (-1) hq13) oX1_inside ⟨Nat.le_of_ble_eq_true rfl, Nat.le_of_ble_eq_true rfl⟩ dX0_now_73 rfl (ci := 1) rfl h14 ⟨by decide +kernel, by decide +kernel⟩ oX1_inside.2.2.2 rfl q303 q304 q305 q305 q304 (Nat.le_of_ble_eq_true rfl) (Nat.le_of_ble_eq_true rfl) (g_rI ?_) g_nt rfl
          obtain rfl := Option.some.inj hf
          exact g_iret dX0_now_76 rfl rfl ⟨rfl, rfl⟩
        · replace hf := (if_neg h11).symm.trans hf
          by_cases h15 : x1 = 3
          · replace hf := (if_pos h15).symm.trans hf
            refine g_tableIn (tgt := 77) dX0_now_13 (by rw [h15]; decide) (by rw [h15]; decide) (by rw [h15]; rfl) (by decide) ?_
            refine g_aload_n (pc' := 78) dX0_now_77 rfl rfl rfl ?_
            obtain ⟨q16, hq16, hf⟩ := Option.bind_eq_some_iff.mp hf
            obtain ⟨h17, hq16⟩ := vK_spec hq16
            refine g_callV (pc' := 81) (mx := mdX0_bulks) (as := []) (wX0_bulks g _ a0 hq16) oX0_bulks ⟨Nat.le_of_ble_eq_true rfl, Nat.le_of_ble_eq_true rfl⟩ dX0_now_78 rfl (ci := 0) rfl h17 ⟨by decide +kernel, by decide +kernel⟩ oX0_bulks.2.2.2 rfl q677 q679 qs10 qs10 q679 (Nat.le_of_ble_eq_true rfl) (Nat.le_of_ble_eq_true rfl) (g_rI ?_) g_nt rfl
            obtain rfl := Option.some.inj hf
            exact g_iret dX0_now_81 rfl rfl ⟨rfl, rfl⟩
          · replace hf := (if_neg h15).symm.trans hf
            by_cases h18 : x1 = 4
            · replace hf := (if_pos h18).symm.trans hf
              refine g_tableIn (tgt := 82) dX0_now_13 (by rw [h18]; decide) (by rw [h18]; decide) (by rw [h18]; rfl) (by decide) ?_
              refine g_aload_n (pc' := 83) dX0_now_82 rfl rfl rfl ?_
              obtain ⟨v19, hv19, hf⟩ := Option.bind_eq_some_iff.mp hf
              refine g_get (pc' := 86) (fok_0 0 (by decide)) (Or.inl rfl) dX0_now_83 rfl q171 (hR_spec hv19) ?_
              obtain ⟨q20, hq20, hf⟩ := Option.bind_eq_some_iff.mp hf
              obtain ⟨h21, hq20⟩ := vK_spec hq20
              refine g_callV (pc' := 89) (mx := mdX1_larders) (as := []) (wX1_larders g _ v19 hq20) oX1_larders ⟨Nat.le_of_ble_eq_true rfl, Nat.le_of_ble_eq_true rfl⟩ dX0_now_86 rfl (ci := 1) rfl h21 ⟨by decide +kernel, by decide +kernel⟩ oX1_larders.2.2.2 rfl q681 q682 q683 q683 q682 (Nat.le_of_ble_eq_true rfl) (Nat.le_of_ble_eq_true rfl) (g_rI ?_) g_nt rfl
              obtain rfl := Option.some.inj hf
              exact g_iret dX0_now_89 rfl rfl ⟨rfl, rfl⟩
            · replace hf := (if_neg h18).symm.trans hf
              by_cases h22 : x1 = 5
              · replace hf := (if_pos h22).symm.trans hf
                refine g_tableIn (tgt := 90) dX0_now_13 (by rw [h22]; decide) (by rw [h22]; decide) (by rw [h22]; rfl) (by decide) ?_
                refine g_aload_n (pc' := 91) dX0_now_90 rfl rfl rfl ?_
                obtain ⟨q23, hq23, hf⟩ := Option.bind_eq_some_iff.mp hf
                obtain ⟨h24, hq23⟩ := vK_spec hq23
                refine g_callV (pc' := 94) (mx := mdX0_freeBeds) (as := []) (wX0_freeBeds g _ a0 hq23) oX0_freeBeds ⟨Nat.le_of_ble_eq_true rfl, Nat.le_of_ble_eq_true rfl⟩ dX0_now_91 rfl (ci := 0) rfl h24 ⟨by decide +kernel, by decide +kernel⟩ oX0_freeBeds.2.2.2 rfl q685 q687 qs11 qs11 q687 (Nat.le_of_ble_eq_true rfl) (Nat.le_of_ble_eq_true rfl) (g_rI ?_) g_nt rfl
                obtain rfl := Option.some.inj hf
                exact g_iret dX0_now_94 rfl rfl ⟨rfl, rfl⟩
              · replace hf := (if_neg h22).symm.trans hf
                refine g_tableOut (tgt := 95) dX0_now_13 (by have kh5 := lv_neT h5 (a := 0) rfl; have kh8 := lv_neT h8 (a := 1) rfl; have kh11 := lv_neT h11 (a := 2) rfl; have kh15 := lv_neT h15 (a := 3) rfl; have kh18 := lv_neT h18 (a := 4) rfl; have kh22 := lv_neT h22 (a := 5) rfl; omega) (by decide) ?_
                refine g_aload_n (pc' := 96) dX0_now_95 rfl rfl rfl ?_
                obtain ⟨q25, hq25, hf⟩ := Option.bind_eq_some_iff.mp hf
                obtain ⟨h26, hq25⟩ := vK_spec hq25
                refine g_callV (pc' := 99) (mx := mdX0_allEaten) (as := []) (wX0_allEaten g _ a0 hq25) oX0_allEaten ⟨Nat.le_of_ble_eq_true rfl, Nat.le_of_ble_eq_true rfl⟩ dX0_now_96 rfl (ci := 0) rfl h26 ⟨by decide +kernel, by decide +kernel⟩ oX0_allEaten.2.2.2 rfl q691 q693 qs12 qs12 q693 (Nat.le_of_ble_eq_true rfl) (Nat.le_of_ble_eq_true rfl) (g_rI ?_) g_nt rfl
                obtain rfl := Option.some.inj hf
                exact g_iret dX0_now_99 rfl rfl ⟨rfl, rfl⟩
  | inr a4 =>
    replace hf : _ = some _ := hf
    refine g_callS (pc' := 12) (as := [.int q1]) (wX0_isTold g _ q1 hq2) oX0_isTold ⟨Nat.le_of_ble_eq_true rfl, Nat.le_of_ble_eq_true rfl⟩ dX0_now_9 rfl q216 q217 q83 (Nat.le_of_ble_eq_true rfl) (Nat.le_of_ble_eq_true rfl) g_nr (g_tt ?_) rfl
    obtain ⟨h27, hf⟩ := vK_spec hf
    refine t_catch (ci := 4) rfl (by decide) q204 rfl h27 ?_
    refine g_astore_n (pc' := 101) (L' := [some (.ref a0), some (.int x1), some (.ref a4)]) dX0_now_100 rfl rfl (Nat.le_of_ble_eq_true rfl) rfl rfl ?_
    refine g_aload_n (pc' := 102) dX0_now_101 rfl rfl rfl ?_
    refine g_aload_n (pc' := 103) dX0_now_102 rfl rfl rfl ?_
    obtain ⟨q28, hq28, hf⟩ := Option.bind_eq_some_iff.mp hf
    obtain ⟨h29, hq28⟩ := vK_spec hq28
    refine g_callV (pc' := 106) (mx := mdX0_finds) (as := [.ref a4]) (wX0_finds g _ a0 a4 hq28) oX0_finds ⟨Nat.le_of_ble_eq_true rfl, Nat.le_of_ble_eq_true rfl⟩ dX0_now_103 rfl (ci := 0) rfl h29 ⟨by decide +kernel, by decide +kernel⟩ oX0_finds.2.2.2 rfl q289 q291 qs1 qs1 q291 (Nat.le_of_ble_eq_true rfl) (Nat.le_of_ble_eq_true rfl) (g_rI ?_) g_nt rfl
    obtain rfl := Option.some.inj hf
    exact g_iret dX0_now_106 rfl rfl ⟨rfl, rfl⟩
def mdX0_tried : bMD := (yX0_tried, cX0_tried, 1, (some (FieldType.object "RumourBeds$Town")), [], 8, 186)
theorem oX0_tried : bOkc mdX0_tried 0 := ⟨by decide +kernel, ⟨by decide +kernel, by decide +kernel⟩, by decide +kernel, q705⟩
def fX0_tried (w : bWl) (a0 : Nat) : Option (Nat × bWl) :=
  Option.bind (hR w (okc 0) a0 3) fun v1 =>
  Option.bind (hR w (okc 0) a0 0) fun v2 =>
  Option.bind (vK 1 w v1 (fX1_become w v1 v2)) fun q3 =>
  Option.bind (hR q3 (okc 0) a0 3) fun v5 =>
  some (v5, q3)
set_option maxHeartbeats 4000000 in
theorem wX0_tried (g : bGh) (w : bWl) (a0 : Nat) {r : (Nat × bWl)} (hf : fX0_tried w a0 = some r) : bM g mdX0_tried w [.ref a0] (q_ (eA r.1) r.2) := by
  unfold fX0_tried at hf
  change bG _ _ 0 [some (.ref a0)] []
  refine g_aload_n (pc' := 1) dX0_tried_0 rfl rfl rfl ?_
  obtain ⟨v1, hv1, hf⟩ := Option.bind_eq_some_iff.mp hf
  refine g_get (pc' := 4) (fok_0 3 (by decide)) (Or.inl rfl) dX0_tried_1 rfl q174 (hR_spec hv1) ?_
  refine g_aload_n (pc' := 5) dX0_tried_4 rfl rfl rfl ?_
  obtain ⟨v2, hv2, hf⟩ := Option.bind_eq_some_iff.mp hf
  refine g_get (pc' := 8) (fok_0 0 (by decide)) (Or.inl rfl) dX0_tried_5 rfl q171 (hR_spec hv2) ?_
  obtain ⟨q3, hq3, hf⟩ := Option.bind_eq_some_iff.mp hf
  obtain ⟨h4, hq3⟩ := vK_spec hq3
  refine g_callV (pc' := 11) (mx := mdX1_become) (as := [.ref v2]) (wX1_become g _ v1 v2 hq3) oX1_become ⟨Nat.le_of_ble_eq_true rfl, Nat.le_of_ble_eq_true rfl⟩ dX0_tried_8 rfl (ci := 1) rfl h4 ⟨by decide +kernel, by decide +kernel⟩ oX1_become.2.2.2 rfl q706 q707 q708 q708 q707 (Nat.le_of_ble_eq_true rfl) (Nat.le_of_ble_eq_true rfl) (g_rV ?_) g_nt rfl
  refine g_aload_n (pc' := 12) dX0_tried_11 rfl rfl rfl ?_
  obtain ⟨v5, hv5, hf⟩ := Option.bind_eq_some_iff.mp hf
  refine g_get (pc' := 15) (fok_0 3 (by decide)) (Or.inl rfl) dX0_tried_12 rfl q174 (hR_spec hv5) ?_
  obtain rfl := Option.some.inj hf
  exact g_aret dX0_tried_15 rfl (Or.inl ⟨_, rfl⟩) (Or.inr ⟨_, rfl⟩) ⟨rfl, rfl⟩
def mdX0_on : bMD := (yX0_on, cX0_on, 5, (some FieldType.int), [(0, 60, 61, 1)], 11, 255)
theorem oX0_on : bOkc mdX0_on 3 := ⟨by decide +kernel, ⟨by decide +kernel, by decide +kernel⟩, by decide +kernel, q698⟩
def fX0_on (w : bWl) (a0 : Nat) (x1 : Int32) (x2 : Int32) (x3 : Int32) : Option (Int32 × bWl) :=
  Option.bind (vK 0 w a0 (fX0_rumourAt w a0 x1)) fun q1 => sm q1.1 (fun v3 =>
  Option.bind (fX0_isAhead x2) fun q5 =>
  Option.bind (α := Int32) ((if q5 = 0 then
  some 0
else
  Option.bind (fX0_in ((x3 : Int32).toInt64) 0 1) fun q8 =>
  (if q8 = 0 then
  some 0
else
  some 1))) fun q6 =>
  Option.bind (fX0_isTold q1.2 q6) fun q10 => sm q10.1 (fun v11 =>
  Option.bind (vK 0 q10.2 a0 (fX0_tried q10.2 a0)) fun q13 =>
  Option.bind (vK 1 q13.2 q13.1 (fX1_days q13.2 q13.1 x2)) fun q15 =>
  Option.bind (hR q15 (okc 0) a0 3) fun v17 =>
  Option.bind (vK 1 q15 v17 (fX1_rumour q15 v17 x1)) fun q18 =>
  Option.bind (hR q15 okRu q18 0) fun v20 =>
  (if x3 = 0 then
  Option.bind (aI q15 0 v20 3) fun v23 =>
  some (v23, q15)
else
  Option.bind (aI q15 0 v20 1) fun v22 =>
  some (v22, q15))) (fun a12 => vK 4 q10.2 a12 (Option.bind (vK 0 q10.2 a0 (fX0_finds q10.2 a0 a12)) fun q25 =>
  some (q25.1, q25.2)))) (fun a4 => vK 4 q1.2 a4 (Option.bind (vK 0 q1.2 a0 (fX0_finds q1.2 a0 a4)) fun q28 =>
  some (q28.1, q28.2)))
set_option maxHeartbeats 4000000 in
theorem wX0_on (g : bGh) (w : bWl) (a0 : Nat) (x1 : Int32) (x2 : Int32) (x3 : Int32) {r : (Int32 × bWl)} (hf : fX0_on w a0 x1 x2 x3 = some r) : bM g mdX0_on w [.ref a0, .int x1, .int x2, .int x3] (q_ (eI r.1) r.2) := by
  unfold fX0_on at hf
  change bG _ _ 0 [some (.ref a0), some (.int x1), some (.int x2), some (.int x3)] []
  refine g_aload_n (pc' := 1) dX0_on_0 rfl rfl rfl ?_
  refine g_iload_n (pc' := 2) dX0_on_1 rfl rfl rfl ?_
  obtain ⟨q1, hq1, hf⟩ := Option.bind_eq_some_iff.mp hf
  obtain ⟨h2, hq1⟩ := vK_spec hq1
  obtain ⟨zq1, wq1⟩ := q1
  cases zq1 with
  | inl v3 =>
    replace hf : _ = some _ := hf
    refine g_callV (pc' := 5) (mx := mdX0_rumourAt) (as := [.int x1]) (wX0_rumourAt g _ a0 x1 hq1) oX0_rumourAt ⟨Nat.le_of_ble_eq_true rfl, Nat.le_of_ble_eq_true rfl⟩ dX0_on_2 rfl (ci := 0) rfl h2 ⟨by decide +kernel, by decide +kernel⟩ oX0_rumourAt.2.2.2 rfl q428 q430 qs4 qs4 q430 (Nat.le_of_ble_eq_true rfl) (Nat.le_of_ble_eq_true rfl) (g_rA ?_) g_nt rfl
    refine g_pop (pc' := 6) dX0_on_5 rfl rfl ?_
    refine g_iload_n (pc' := 7) dX0_on_6 rfl rfl rfl ?_
    obtain ⟨q5, hq5, hf⟩ := Option.bind_eq_some_iff.mp hf
    refine g_callS (pc' := 10) (as := [.int x2]) (wX0_isAhead g _ x2 hq5) oX0_isAhead ⟨Nat.le_of_ble_eq_true rfl, Nat.le_of_ble_eq_true rfl⟩ dX0_on_7 rfl q699 q700 q83 (Nat.le_of_ble_eq_true rfl) (Nat.le_of_ble_eq_true rfl) (g_rI ?_) g_nt rfl
    obtain ⟨q6, hqq6, hf⟩ := Option.bind_eq_some_iff.mp hf
    have hJq6 : bG (g, mdX0_on, w.2.1, w.2.2.1, (q_ (eI r.1) r.2)) wq1 28 [some (.ref a0), some (.int x1), some (.int x2), some (.int x3)] [.int q6] := by
      obtain ⟨q10, hq10, hf⟩ := Option.bind_eq_some_iff.mp hf
      obtain ⟨zq10, wq10⟩ := q10
      cases zq10 with
      | inl v11 =>
        replace hf : _ = some _ := hf
        refine g_callS (pc' := 31) (as := [.int q6]) (wX0_isTold g _ q6 hq10) oX0_isTold ⟨Nat.le_of_ble_eq_true rfl, Nat.le_of_ble_eq_true rfl⟩ dX0_on_28 rfl q216 q217 q83 (Nat.le_of_ble_eq_true rfl) (Nat.le_of_ble_eq_true rfl) (g_rV ?_) g_nt rfl
        refine g_aload_n (pc' := 32) dX0_on_31 rfl rfl rfl ?_
        obtain ⟨q13, hq13, hf⟩ := Option.bind_eq_some_iff.mp hf
        obtain ⟨h14, hq13⟩ := vK_spec hq13
        refine g_callV (pc' := 35) (mx := mdX0_tried) (as := []) (wX0_tried g _ a0 hq13) oX0_tried ⟨Nat.le_of_ble_eq_true rfl, Nat.le_of_ble_eq_true rfl⟩ dX0_on_32 rfl (ci := 0) rfl h14 ⟨by decide +kernel, by decide +kernel⟩ oX0_tried.2.2.2 rfl q702 q704 qs13 qs13 q704 (Nat.le_of_ble_eq_true rfl) (Nat.le_of_ble_eq_true rfl) (g_rA ?_) g_nt rfl
        refine g_iload_n (pc' := 36) dX0_on_35 rfl rfl rfl ?_
        obtain ⟨q15, hq15, hf⟩ := Option.bind_eq_some_iff.mp hf
        obtain ⟨h16, hq15⟩ := vK_spec hq15
        refine g_callV (pc' := 39) (mx := mdX1_days) (as := [.int x2]) (wX1_days g _ q13.1 x2 hq15) oX1_days ⟨Nat.le_of_ble_eq_true rfl, Nat.le_of_ble_eq_true rfl⟩ dX0_on_36 rfl (ci := 1) rfl h16 ⟨by decide +kernel, by decide +kernel⟩ oX1_days.2.2.2 rfl q639 q640 q641 q641 q640 (Nat.le_of_ble_eq_true rfl) (Nat.le_of_ble_eq_true rfl) (g_rV ?_) g_nt rfl
        refine g_aload_n (pc' := 40) dX0_on_39 rfl rfl rfl ?_
        obtain ⟨v17, hv17, hf⟩ := Option.bind_eq_some_iff.mp hf
        refine g_get (pc' := 43) (fok_0 3 (by decide)) (Or.inl rfl) dX0_on_40 rfl q174 (hR_spec hv17) ?_
        refine g_iload_n (pc' := 44) dX0_on_43 rfl rfl rfl ?_
        obtain ⟨q18, hq18, hf⟩ := Option.bind_eq_some_iff.mp hf
        obtain ⟨h19, hq18⟩ := vK_spec hq18
        refine g_callV (pc' := 47) (mx := mdX1_rumour) (as := [.int x1]) (wX1_rumour g _ v17 x1 hq18) oX1_rumour ⟨Nat.le_of_ble_eq_true rfl, Nat.le_of_ble_eq_true rfl⟩ dX0_on_44 rfl (ci := 1) rfl h19 ⟨by decide +kernel, by decide +kernel⟩ oX1_rumour.2.2.2 rfl q316 q308 q309 q309 q308 (Nat.le_of_ble_eq_true rfl) (Nat.le_of_ble_eq_true rfl) (g_rA ?_) g_nt rfl
        obtain ⟨v20, hv20, hf⟩ := Option.bind_eq_some_iff.mp hf
        refine g_get (pc' := 50) fok_Ru (Or.inl rfl) dX0_on_47 rfl q384 (hR_spec hv20) ?_
        refine g_iload_n (pc' := 51) dX0_on_50 rfl rfl rfl ?_
        refine g_if_ne (tgt := 58) (pc' := 54) dX0_on_51 (by decide) rfl (fun h21 => ?_) (fun h21 => ?_)
        · replace hf := (if_neg h21).symm.trans hf
          refine g_iconst (pc' := 59) (v := 1) dX0_on_58 rfl (by decide) ?_
          obtain ⟨v22, hv22, hf⟩ := Option.bind_eq_some_iff.mp hf
          refine g_iald (pc' := 60) dX0_on_59 rfl hv22 ?_
          obtain rfl := Option.some.inj hf
          exact g_iret dX0_on_60 rfl rfl ⟨rfl, rfl⟩
        · replace hf := (if_pos h21).symm.trans hf
          refine g_iconst (pc' := 55) (v := 3) dX0_on_54 rfl (by decide) ?_
          refine g_goto (tgt := 59) dX0_on_55 (by decide) ?_
          obtain ⟨v23, hv23, hf⟩ := Option.bind_eq_some_iff.mp hf
          refine g_iald (pc' := 60) dX0_on_59 rfl hv23 ?_
          obtain rfl := Option.some.inj hf
          exact g_iret dX0_on_60 rfl rfl ⟨rfl, rfl⟩
      | inr a12 =>
        replace hf : _ = some _ := hf
        refine g_callS (pc' := 31) (as := [.int q6]) (wX0_isTold g _ q6 hq10) oX0_isTold ⟨Nat.le_of_ble_eq_true rfl, Nat.le_of_ble_eq_true rfl⟩ dX0_on_28 rfl q216 q217 q83 (Nat.le_of_ble_eq_true rfl) (Nat.le_of_ble_eq_true rfl) g_nr (g_tt ?_) rfl
        obtain ⟨h24, hf⟩ := vK_spec hf
        refine t_catch (ci := 4) rfl (by decide) q204 rfl h24 ?_
        refine g_astore (pc' := 63) (L' := [some (.ref a0), some (.int x1), some (.int x2), some (.int x3), some (.ref a12)]) dX0_on_61 rfl (Nat.le_of_ble_eq_true rfl) rfl rfl ?_
        refine g_aload_n (pc' := 64) dX0_on_63 rfl rfl rfl ?_
        refine g_aload (pc' := 66) dX0_on_64 rfl rfl ?_
        obtain ⟨q25, hq25, hf⟩ := Option.bind_eq_some_iff.mp hf
        obtain ⟨h26, hq25⟩ := vK_spec hq25
        refine g_callV (pc' := 69) (mx := mdX0_finds) (as := [.ref a12]) (wX0_finds g _ a0 a12 hq25) oX0_finds ⟨Nat.le_of_ble_eq_true rfl, Nat.le_of_ble_eq_true rfl⟩ dX0_on_66 rfl (ci := 0) rfl h26 ⟨by decide +kernel, by decide +kernel⟩ oX0_finds.2.2.2 rfl q289 q291 qs1 qs1 q291 (Nat.le_of_ble_eq_true rfl) (Nat.le_of_ble_eq_true rfl) (g_rI ?_) g_nt rfl
        obtain rfl := Option.some.inj hf
        exact g_iret dX0_on_69 rfl rfl ⟨rfl, rfl⟩
    replace hf := hqq6
    refine g_if_eq (tgt := 27) (pc' := 13) dX0_on_10 (by decide) rfl (fun h7 => ?_) (fun h7 => ?_)
    · replace hf := (if_pos h7).symm.trans hf
      refine g_iconst (pc' := 28) (v := 0) dX0_on_27 rfl (by decide) ?_
      obtain rfl := Option.some.inj hf
      exact hJq6
    · replace hf := (if_neg h7).symm.trans hf
      refine g_iload_n (pc' := 14) dX0_on_13 rfl rfl rfl ?_
      refine g_i2l (pc' := 15) dX0_on_14 rfl ?_
      refine g_lconst (pc' := 16) (v := 0) dX0_on_15 rfl (by decide) ?_
      refine g_lconst (pc' := 17) (v := 1) dX0_on_16 rfl (by decide) ?_
      obtain ⟨q8, hq8, hf⟩ := Option.bind_eq_some_iff.mp hf
      refine g_callS (pc' := 20) (as := [.long ((x3 : Int32).toInt64), .long 0, .long 1]) (wX0_in g _ ((x3 : Int32).toInt64) 0 1 hq8) oX0_in ⟨Nat.le_of_ble_eq_true rfl, Nat.le_of_ble_eq_true rfl⟩ dX0_on_17 rfl q209 q210 q83 (Nat.le_of_ble_eq_true rfl) (Nat.le_of_ble_eq_true rfl) (g_rI ?_) g_nt rfl
      refine g_if_eq (tgt := 27) (pc' := 23) dX0_on_20 (by decide) rfl (fun h9 => ?_) (fun h9 => ?_)
      · replace hf := (if_pos h9).symm.trans hf
        refine g_iconst (pc' := 28) (v := 0) dX0_on_27 rfl (by decide) ?_
        obtain rfl := Option.some.inj hf
        exact hJq6
      · replace hf := (if_neg h9).symm.trans hf
        refine g_iconst (pc' := 24) (v := 1) dX0_on_23 rfl (by decide) ?_
        refine g_goto (tgt := 28) dX0_on_24 (by decide) ?_
        obtain rfl := Option.some.inj hf
        exact hJq6
  | inr a4 =>
    replace hf : _ = some _ := hf
    refine g_callV (pc' := 5) (mx := mdX0_rumourAt) (as := [.int x1]) (wX0_rumourAt g _ a0 x1 hq1) oX0_rumourAt ⟨Nat.le_of_ble_eq_true rfl, Nat.le_of_ble_eq_true rfl⟩ dX0_on_2 rfl (ci := 0) rfl h2 ⟨by decide +kernel, by decide +kernel⟩ oX0_rumourAt.2.2.2 rfl q428 q430 qs4 qs4 q430 (Nat.le_of_ble_eq_true rfl) (Nat.le_of_ble_eq_true rfl) g_nr (g_tt ?_) rfl
    obtain ⟨h27, hf⟩ := vK_spec hf
    refine t_catch (ci := 4) rfl (by decide) q204 rfl h27 ?_
    refine g_astore (pc' := 63) (L' := [some (.ref a0), some (.int x1), some (.int x2), some (.int x3), some (.ref a4)]) dX0_on_61 rfl (Nat.le_of_ble_eq_true rfl) rfl rfl ?_
    refine g_aload_n (pc' := 64) dX0_on_63 rfl rfl rfl ?_
    refine g_aload (pc' := 66) dX0_on_64 rfl rfl ?_
    obtain ⟨q28, hq28, hf⟩ := Option.bind_eq_some_iff.mp hf
    obtain ⟨h29, hq28⟩ := vK_spec hq28
    refine g_callV (pc' := 69) (mx := mdX0_finds) (as := [.ref a4]) (wX0_finds g _ a0 a4 hq28) oX0_finds ⟨Nat.le_of_ble_eq_true rfl, Nat.le_of_ble_eq_true rfl⟩ dX0_on_66 rfl (ci := 0) rfl h29 ⟨by decide +kernel, by decide +kernel⟩ oX0_finds.2.2.2 rfl q289 q291 qs1 qs1 q291 (Nat.le_of_ble_eq_true rfl) (Nat.le_of_ble_eq_true rfl) (g_rI ?_) g_nt rfl
    obtain rfl := Option.some.inj hf
    exact g_iret dX0_on_69 rfl rfl ⟨rfl, rfl⟩
def mdX0_larder : bMD := (yX0_larder, cX0_larder, 4, (some FieldType.int), [(0, 39, 40, 1)], 11, 255)
theorem oX0_larder : bOkc mdX0_larder 2 := ⟨by decide +kernel, ⟨by decide +kernel, by decide +kernel⟩, by decide +kernel, q715⟩
def fX0_larder (w : bWl) (a0 : Nat) (x1 : Int32) (x2 : Int32) : Option (Int32 × bWl) :=
  Option.bind (fX0_isHouse x1) fun q1 =>
  Option.bind (α := Int32) ((if q1 = 0 then
  some 0
else
  Option.bind (fX0_isAhead x2) fun q4 =>
  (if q4 = 0 then
  some 0
else
  some 1))) fun q2 =>
  Option.bind (fX0_isTold w q2) fun q6 => sm q6.1 (fun v7 =>
  Option.bind (vK 0 q6.2 a0 (fX0_tried q6.2 a0)) fun q9 =>
  Option.bind (vK 1 q9.2 q9.1 (fX1_days q9.2 q9.1 x2)) fun q11 =>
  Option.bind (hR q11 (okc 0) a0 3) fun v13 =>
  Option.bind (hR q11 (okc 1) v13 4) fun v14 =>
  Option.bind (aI q11 0 v14 x1) fun v15 =>
  some (v15, q11)) (fun a8 => vK 4 q6.2 a8 (Option.bind (vK 0 q6.2 a0 (fX0_finds q6.2 a0 a8)) fun q17 =>
  some (q17.1, q17.2)))
set_option maxHeartbeats 4000000 in
theorem wX0_larder (g : bGh) (w : bWl) (a0 : Nat) (x1 : Int32) (x2 : Int32) {r : (Int32 × bWl)} (hf : fX0_larder w a0 x1 x2 = some r) : bM g mdX0_larder w [.ref a0, .int x1, .int x2] (q_ (eI r.1) r.2) := by
  unfold fX0_larder at hf
  change bG _ _ 0 [some (.ref a0), some (.int x1), some (.int x2)] []
  refine g_iload_n (pc' := 1) dX0_larder_0 rfl rfl rfl ?_
  obtain ⟨q1, hq1, hf⟩ := Option.bind_eq_some_iff.mp hf
  refine g_callS (pc' := 4) (as := [.int x1]) (wX0_isHouse g _ x1 hq1) oX0_isHouse ⟨Nat.le_of_ble_eq_true rfl, Nat.le_of_ble_eq_true rfl⟩ dX0_larder_1 rfl q205 q206 q83 (Nat.le_of_ble_eq_true rfl) (Nat.le_of_ble_eq_true rfl) (g_rI ?_) g_nt rfl
  obtain ⟨q2, hqq2, hf⟩ := Option.bind_eq_some_iff.mp hf
  have hJq2 : bG (g, mdX0_larder, w.2.1, w.2.2.1, (q_ (eI r.1) r.2)) w 19 [some (.ref a0), some (.int x1), some (.int x2)] [.int q2] := by
    obtain ⟨q6, hq6, hf⟩ := Option.bind_eq_some_iff.mp hf
    obtain ⟨zq6, wq6⟩ := q6
    cases zq6 with
    | inl v7 =>
      replace hf : _ = some _ := hf
      refine g_callS (pc' := 22) (as := [.int q2]) (wX0_isTold g _ q2 hq6) oX0_isTold ⟨Nat.le_of_ble_eq_true rfl, Nat.le_of_ble_eq_true rfl⟩ dX0_larder_19 rfl q216 q217 q83 (Nat.le_of_ble_eq_true rfl) (Nat.le_of_ble_eq_true rfl) (g_rV ?_) g_nt rfl
      refine g_aload_n (pc' := 23) dX0_larder_22 rfl rfl rfl ?_
      obtain ⟨q9, hq9, hf⟩ := Option.bind_eq_some_iff.mp hf
      obtain ⟨h10, hq9⟩ := vK_spec hq9
      refine g_callV (pc' := 26) (mx := mdX0_tried) (as := []) (wX0_tried g _ a0 hq9) oX0_tried ⟨Nat.le_of_ble_eq_true rfl, Nat.le_of_ble_eq_true rfl⟩ dX0_larder_23 rfl (ci := 0) rfl h10 ⟨by decide +kernel, by decide +kernel⟩ oX0_tried.2.2.2 rfl q702 q704 qs13 qs13 q704 (Nat.le_of_ble_eq_true rfl) (Nat.le_of_ble_eq_true rfl) (g_rA ?_) g_nt rfl
      refine g_iload_n (pc' := 27) dX0_larder_26 rfl rfl rfl ?_
      obtain ⟨q11, hq11, hf⟩ := Option.bind_eq_some_iff.mp hf
      obtain ⟨h12, hq11⟩ := vK_spec hq11
      refine g_callV (pc' := 30) (mx := mdX1_days) (as := [.int x2]) (wX1_days g _ q9.1 x2 hq11) oX1_days ⟨Nat.le_of_ble_eq_true rfl, Nat.le_of_ble_eq_true rfl⟩ dX0_larder_27 rfl (ci := 1) rfl h12 ⟨by decide +kernel, by decide +kernel⟩ oX1_days.2.2.2 rfl q639 q640 q641 q641 q640 (Nat.le_of_ble_eq_true rfl) (Nat.le_of_ble_eq_true rfl) (g_rV ?_) g_nt rfl
      refine g_aload_n (pc' := 31) dX0_larder_30 rfl rfl rfl ?_
      obtain ⟨v13, hv13, hf⟩ := Option.bind_eq_some_iff.mp hf
      refine g_get (pc' := 34) (fok_0 3 (by decide)) (Or.inl rfl) dX0_larder_31 rfl q174 (hR_spec hv13) ?_
      obtain ⟨v14, hv14, hf⟩ := Option.bind_eq_some_iff.mp hf
      refine g_get (pc' := 37) (fok_1 4 (by decide)) (Or.inl rfl) dX0_larder_34 rfl q147 (hR_spec hv14) ?_
      refine g_iload_n (pc' := 38) dX0_larder_37 rfl rfl rfl ?_
      obtain ⟨v15, hv15, hf⟩ := Option.bind_eq_some_iff.mp hf
      refine g_iald (pc' := 39) dX0_larder_38 rfl hv15 ?_
      obtain rfl := Option.some.inj hf
      exact g_iret dX0_larder_39 rfl rfl ⟨rfl, rfl⟩
    | inr a8 =>
      replace hf : _ = some _ := hf
      refine g_callS (pc' := 22) (as := [.int q2]) (wX0_isTold g _ q2 hq6) oX0_isTold ⟨Nat.le_of_ble_eq_true rfl, Nat.le_of_ble_eq_true rfl⟩ dX0_larder_19 rfl q216 q217 q83 (Nat.le_of_ble_eq_true rfl) (Nat.le_of_ble_eq_true rfl) g_nr (g_tt ?_) rfl
      obtain ⟨h16, hf⟩ := vK_spec hf
      refine t_catch (ci := 4) rfl (by decide) q204 rfl h16 ?_
      refine g_astore_n (pc' := 41) (L' := [some (.ref a0), some (.int x1), some (.int x2), some (.ref a8)]) dX0_larder_40 rfl rfl (Nat.le_of_ble_eq_true rfl) rfl rfl ?_
      refine g_aload_n (pc' := 42) dX0_larder_41 rfl rfl rfl ?_
      refine g_aload_n (pc' := 43) dX0_larder_42 rfl rfl rfl ?_
      obtain ⟨q17, hq17, hf⟩ := Option.bind_eq_some_iff.mp hf
      obtain ⟨h18, hq17⟩ := vK_spec hq17
      refine g_callV (pc' := 46) (mx := mdX0_finds) (as := [.ref a8]) (wX0_finds g _ a0 a8 hq17) oX0_finds ⟨Nat.le_of_ble_eq_true rfl, Nat.le_of_ble_eq_true rfl⟩ dX0_larder_43 rfl (ci := 0) rfl h18 ⟨by decide +kernel, by decide +kernel⟩ oX0_finds.2.2.2 rfl q289 q291 qs1 qs1 q291 (Nat.le_of_ble_eq_true rfl) (Nat.le_of_ble_eq_true rfl) (g_rI ?_) g_nt rfl
      obtain rfl := Option.some.inj hf
      exact g_iret dX0_larder_46 rfl rfl ⟨rfl, rfl⟩
  replace hf := hqq2
  refine g_if_eq (tgt := 18) (pc' := 7) dX0_larder_4 (by decide) rfl (fun h3 => ?_) (fun h3 => ?_)
  · replace hf := (if_pos h3).symm.trans hf
    refine g_iconst (pc' := 19) (v := 0) dX0_larder_18 rfl (by decide) ?_
    obtain rfl := Option.some.inj hf
    exact hJq2
  · replace hf := (if_neg h3).symm.trans hf
    refine g_iload_n (pc' := 8) dX0_larder_7 rfl rfl rfl ?_
    obtain ⟨q4, hq4, hf⟩ := Option.bind_eq_some_iff.mp hf
    refine g_callS (pc' := 11) (as := [.int x2]) (wX0_isAhead g _ x2 hq4) oX0_isAhead ⟨Nat.le_of_ble_eq_true rfl, Nat.le_of_ble_eq_true rfl⟩ dX0_larder_8 rfl q699 q700 q83 (Nat.le_of_ble_eq_true rfl) (Nat.le_of_ble_eq_true rfl) (g_rI ?_) g_nt rfl
    refine g_if_eq (tgt := 18) (pc' := 14) dX0_larder_11 (by decide) rfl (fun h5 => ?_) (fun h5 => ?_)
    · replace hf := (if_pos h5).symm.trans hf
      refine g_iconst (pc' := 19) (v := 0) dX0_larder_18 rfl (by decide) ?_
      obtain rfl := Option.some.inj hf
      exact hJq2
    · replace hf := (if_neg h5).symm.trans hf
      refine g_iconst (pc' := 15) (v := 1) dX0_larder_14 rfl (by decide) ?_
      refine g_goto (tgt := 19) dX0_larder_15 (by decide) ?_
      obtain rfl := Option.some.inj hf
      exact hJq2
def mdX0_empty : bMD := (yX0_empty, cX0_empty, 3, (some FieldType.int), [(0, 33, 56, 1), (34, 56, 56, 1)], 10, 233)
theorem oX0_empty : bOkc mdX0_empty 1 := ⟨by decide +kernel, ⟨by decide +kernel, by decide +kernel⟩, by decide +kernel, q719⟩
def fX0_empty_l14 (b0 : Nat) (y1 : Int32) (rec : (Int32 × bWl) → Option ((Int32 × bWl) ⊕ (Int32 × bWl))) (s : Int32 × bWl) : Option ((Int32 × bWl) ⊕ (Int32 × bWl)) :=
  (if 60 < s.1 then
  some (Sum.inl (s.1, s.2))
else
  Option.bind (hR s.2 (okc 0) b0 3) fun v8 =>
  Option.bind (hR s.2 (okc 1) v8 4) fun v9 =>
  Option.bind (aI s.2 0 v9 y1) fun v10 =>
  (if v10 = 0 then
  some (Sum.inr (s.1, s.2))
else
  Option.bind (hR s.2 (okc 0) b0 3) fun v12 =>
  Option.bind (vK 1 s.2 v12 (fX1_aDay s.2 v12)) fun q13 =>
  rec ((s.1 + 1), q13)))
def fX0_empty (w : bWl) (a0 : Nat) (x1 : Int32) : Option (Int32 × bWl) :=
  Option.bind (fX0_isHouse x1) fun q1 =>
  Option.bind (fX0_isTold w q1) fun q2 => sm q2.1 (fun v3 =>
  Option.bind (vK 0 q2.2 a0 (fX0_tried q2.2 a0)) fun q5 =>
  Option.bind (lpF (fX0_empty_l14 a0 x1) FU (0, q5.2)) fun q15 => sx q15 (fun e16 =>
  Option.bind (nC e16.2 (.inr (4, dX4)) 7) fun v17 =>
  Option.bind (fX4_init v17.2 v17.1 3) fun q18 =>
  vK 4 q18 v17.1 (Option.bind (vK 0 q18 a0 (fX0_finds q18 a0 v17.1)) fun q20 =>
  some (q20.1, q20.2))) (fun e16 => some e16)) (fun a4 => vK 4 q2.2 a4 (Option.bind (vK 0 q2.2 a0 (fX0_finds q2.2 a0 a4)) fun q23 =>
  some (q23.1, q23.2)))
set_option maxHeartbeats 4000000 in
theorem wX0_empty_l14 {g : bGh} {n0 u0 : Nat} {Q : Outcome → bWl → Prop} (b0 : Nat) (y1 : Int32) : ∀ (n : Nat) (s : Int32 × bWl) (r : ((Int32 × bWl) ⊕ (Int32 × bWl))), lpF (fX0_empty_l14 b0 y1) n s = some r → (∀ e, r = Sum.inl e → bG (g, mdX0_empty, n0, u0, Q) e.2 47 [some (.ref b0), some (.int y1), some (.int e.1)] []) → (∀ e, r = Sum.inr e → Q (.returned (eI e.1)) e.2) → bG (g, mdX0_empty, n0, u0, Q) s.2 14 [some (.ref b0), some (.int y1), some (.int s.1)] [] := by
  intro n
  induction n with
  | zero => intro s r hf; cases hf
  | succ n ih =>
    intro s r hf kx kr
    rw [lpF_s] at hf
    unfold fX0_empty_l14 at hf
    refine g_iload_n (pc' := 15) dX0_empty_14 rfl rfl rfl ?_
    refine g_bipush (pc' := 17) (v := 60) dX0_empty_15 rfl (by decide) ?_
    refine g_icmp_gt (tgt := 47) (pc' := 20) dX0_empty_17 (by decide) rfl (fun h7 => ?_) (fun h7 => ?_)
    · replace hf := (if_pos h7).symm.trans hf
      obtain rfl := Option.some.inj hf
      exact (kx _ rfl)
    · replace hf := (if_neg h7).symm.trans hf
      refine g_aload_n (pc' := 21) dX0_empty_20 rfl rfl rfl ?_
      obtain ⟨v8, hv8, hf⟩ := Option.bind_eq_some_iff.mp hf
      refine g_get (pc' := 24) (fok_0 3 (by decide)) (Or.inl rfl) dX0_empty_21 rfl q174 (hR_spec hv8) ?_
      obtain ⟨v9, hv9, hf⟩ := Option.bind_eq_some_iff.mp hf
      refine g_get (pc' := 27) (fok_1 4 (by decide)) (Or.inl rfl) dX0_empty_24 rfl q147 (hR_spec hv9) ?_
      refine g_iload_n (pc' := 28) dX0_empty_27 rfl rfl rfl ?_
      obtain ⟨v10, hv10, hf⟩ := Option.bind_eq_some_iff.mp hf
      refine g_iald (pc' := 29) dX0_empty_28 rfl hv10 ?_
      refine g_if_ne (tgt := 34) (pc' := 32) dX0_empty_29 (by decide) rfl (fun h11 => ?_) (fun h11 => ?_)
      · replace hf := (if_neg h11).symm.trans hf
        refine g_aload_n (pc' := 35) dX0_empty_34 rfl rfl rfl ?_
        obtain ⟨v12, hv12, hf⟩ := Option.bind_eq_some_iff.mp hf
        refine g_get (pc' := 38) (fok_0 3 (by decide)) (Or.inl rfl) dX0_empty_35 rfl q174 (hR_spec hv12) ?_
        obtain ⟨q13, hq13, hf⟩ := Option.bind_eq_some_iff.mp hf
        obtain ⟨h14, hq13⟩ := vK_spec hq13
        refine g_callV (pc' := 41) (mx := mdX1_aDay) (as := []) (wX1_aDay g _ v12 hq13) oX1_aDay ⟨Nat.le_of_ble_eq_true rfl, Nat.le_of_ble_eq_true rfl⟩ dX0_empty_38 rfl (ci := 1) rfl h14 ⟨by decide +kernel, by decide +kernel⟩ oX1_aDay.2.2.2 rfl q720 q644 q645 q645 q644 (Nat.le_of_ble_eq_true rfl) (Nat.le_of_ble_eq_true rfl) (g_rV ?_) g_nt rfl
        refine g_iinc (pc' := 44) (v := s.1 + 1) (L' := [some (.ref b0), some (.int y1), some (.int (s.1 + 1))]) dX0_empty_41 rfl rfl rfl (Nat.le_of_ble_eq_true rfl) rfl rfl ?_
        refine g_goto (tgt := 14) dX0_empty_44 (by decide) ?_
        exact ih _ r hf kx kr
      · replace hf := (if_pos h11).symm.trans hf
        refine g_iload_n (pc' := 33) dX0_empty_32 rfl rfl rfl ?_
        obtain rfl := Option.some.inj hf
        exact g_iret dX0_empty_33 rfl rfl (kr _ rfl)
set_option maxHeartbeats 4000000 in
theorem wX0_empty (g : bGh) (w : bWl) (a0 : Nat) (x1 : Int32) {r : (Int32 × bWl)} (hf : fX0_empty w a0 x1 = some r) : bM g mdX0_empty w [.ref a0, .int x1] (q_ (eI r.1) r.2) := by
  unfold fX0_empty at hf
  change bG _ _ 0 [some (.ref a0), some (.int x1)] []
  refine g_iload_n (pc' := 1) dX0_empty_0 rfl rfl rfl ?_
  obtain ⟨q1, hq1, hf⟩ := Option.bind_eq_some_iff.mp hf
  refine g_callS (pc' := 4) (as := [.int x1]) (wX0_isHouse g _ x1 hq1) oX0_isHouse ⟨Nat.le_of_ble_eq_true rfl, Nat.le_of_ble_eq_true rfl⟩ dX0_empty_1 rfl q205 q206 q83 (Nat.le_of_ble_eq_true rfl) (Nat.le_of_ble_eq_true rfl) (g_rI ?_) g_nt rfl
  obtain ⟨q2, hq2, hf⟩ := Option.bind_eq_some_iff.mp hf
  obtain ⟨zq2, wq2⟩ := q2
  cases zq2 with
  | inl v3 =>
    replace hf : _ = some _ := hf
    refine g_callS (pc' := 7) (as := [.int q1]) (wX0_isTold g _ q1 hq2) oX0_isTold ⟨Nat.le_of_ble_eq_true rfl, Nat.le_of_ble_eq_true rfl⟩ dX0_empty_4 rfl q216 q217 q83 (Nat.le_of_ble_eq_true rfl) (Nat.le_of_ble_eq_true rfl) (g_rV ?_) g_nt rfl
    refine g_aload_n (pc' := 8) dX0_empty_7 rfl rfl rfl ?_
    obtain ⟨q5, hq5, hf⟩ := Option.bind_eq_some_iff.mp hf
    obtain ⟨h6, hq5⟩ := vK_spec hq5
    refine g_callV (pc' := 11) (mx := mdX0_tried) (as := []) (wX0_tried g _ a0 hq5) oX0_tried ⟨Nat.le_of_ble_eq_true rfl, Nat.le_of_ble_eq_true rfl⟩ dX0_empty_8 rfl (ci := 0) rfl h6 ⟨by decide +kernel, by decide +kernel⟩ oX0_tried.2.2.2 rfl q702 q704 qs13 qs13 q704 (Nat.le_of_ble_eq_true rfl) (Nat.le_of_ble_eq_true rfl) (g_rA ?_) g_nt rfl
    refine g_pop (pc' := 12) dX0_empty_11 rfl rfl ?_
    refine g_iconst (pc' := 13) (v := 0) dX0_empty_12 rfl (by decide) ?_
    refine g_istore_n (pc' := 14) (L' := [some (.ref a0), some (.int x1), some (.int 0)]) dX0_empty_13 rfl rfl (Nat.le_of_ble_eq_true rfl) rfl rfl ?_
    obtain ⟨q15, hq15, hf⟩ := Option.bind_eq_some_iff.mp hf
    cases q15 with
    | inl e16 =>
      replace hf : _ = some _ := hf
      refine wX0_empty_l14 a0 x1 FU _ (Sum.inl e16) hq15 (fun e' he => ?_) (fun e' he => by cases he)
      cases he
      obtain ⟨v17, hv17, hf⟩ := Option.bind_eq_some_iff.mp hf
      refine g_new (ci := 4) (pc' := 50) rfl in_X4 tyX4_ok dX4_ok dX0_empty_47 rfl q204 q222 q89 hv17 ?_
      refine g_dup (pc' := 51) dX0_empty_50 rfl rfl ?_
      refine g_iconst (pc' := 52) (v := 3) dX0_empty_51 rfl (by decide) ?_
      obtain ⟨q18, hq18, hf⟩ := Option.bind_eq_some_iff.mp hf
      refine g_callI (pc' := 55) (as := [.int 3]) (wX4_init g _ v17.1 3 hq18) oX4_init ⟨Nat.le_of_ble_eq_true rfl, Nat.le_of_ble_eq_true rfl⟩ dX0_empty_52 rfl rfl q259 q260 (Nat.le_of_ble_eq_true rfl) (Nat.le_of_ble_eq_true rfl) (g_rV ?_) g_nt rfl
      refine g_athrow dX0_empty_55 ?_
      obtain ⟨h19, hf⟩ := vK_spec hf
      refine t_catch (ci := 4) rfl (by decide) q204 rfl h19 ?_
      refine g_astore_n (pc' := 57) (L' := [some (.ref a0), some (.int x1), some (.ref v17.1)]) dX0_empty_56 rfl rfl (Nat.le_of_ble_eq_true rfl) rfl rfl ?_
      refine g_aload_n (pc' := 58) dX0_empty_57 rfl rfl rfl ?_
      refine g_aload_n (pc' := 59) dX0_empty_58 rfl rfl rfl ?_
      obtain ⟨q20, hq20, hf⟩ := Option.bind_eq_some_iff.mp hf
      obtain ⟨h21, hq20⟩ := vK_spec hq20
      refine g_callV (pc' := 62) (mx := mdX0_finds) (as := [.ref v17.1]) (wX0_finds g _ a0 v17.1 hq20) oX0_finds ⟨Nat.le_of_ble_eq_true rfl, Nat.le_of_ble_eq_true rfl⟩ dX0_empty_59 rfl (ci := 0) rfl h21 ⟨by decide +kernel, by decide +kernel⟩ oX0_finds.2.2.2 rfl q289 q291 qs1 qs1 q291 (Nat.le_of_ble_eq_true rfl) (Nat.le_of_ble_eq_true rfl) (g_rI ?_) g_nt rfl
      obtain rfl := Option.some.inj hf
      exact g_iret dX0_empty_62 rfl rfl ⟨rfl, rfl⟩
    | inr e16 =>
      refine wX0_empty_l14 a0 x1 FU _ (Sum.inr e16) hq15 (fun e' he => by cases he) (fun e' he => ?_)
      cases he
      obtain rfl := Option.some.inj hf
      exact ⟨rfl, rfl⟩
  | inr a4 =>
    replace hf : _ = some _ := hf
    refine g_callS (pc' := 7) (as := [.int q1]) (wX0_isTold g _ q1 hq2) oX0_isTold ⟨Nat.le_of_ble_eq_true rfl, Nat.le_of_ble_eq_true rfl⟩ dX0_empty_4 rfl q216 q217 q83 (Nat.le_of_ble_eq_true rfl) (Nat.le_of_ble_eq_true rfl) g_nr (g_tt ?_) rfl
    obtain ⟨h22, hf⟩ := vK_spec hf
    refine t_catch (ci := 4) rfl (by decide) q204 rfl h22 ?_
    refine g_astore_n (pc' := 57) (L' := [some (.ref a0), some (.int x1), some (.ref a4)]) dX0_empty_56 rfl rfl (Nat.le_of_ble_eq_true rfl) rfl rfl ?_
    refine g_aload_n (pc' := 58) dX0_empty_57 rfl rfl rfl ?_
    refine g_aload_n (pc' := 59) dX0_empty_58 rfl rfl rfl ?_
    obtain ⟨q23, hq23, hf⟩ := Option.bind_eq_some_iff.mp hf
    obtain ⟨h24, hq23⟩ := vK_spec hq23
    refine g_callV (pc' := 62) (mx := mdX0_finds) (as := [.ref a4]) (wX0_finds g _ a0 a4 hq23) oX0_finds ⟨Nat.le_of_ble_eq_true rfl, Nat.le_of_ble_eq_true rfl⟩ dX0_empty_59 rfl (ci := 0) rfl h24 ⟨by decide +kernel, by decide +kernel⟩ oX0_finds.2.2.2 rfl q289 q291 qs1 qs1 q291 (Nat.le_of_ble_eq_true rfl) (Nat.le_of_ble_eq_true rfl) (g_rI ?_) g_nt rfl
    obtain rfl := Option.some.inj hf
    exact g_iret dX0_empty_62 rfl rfl ⟨rfl, rfl⟩
def mdX0_many : bMD := (yX0_many, cX0_many, 3, (some FieldType.int), [(0, 22, 23, 1)], 11, 255)
theorem oX0_many : bOkc mdX0_many 1 := ⟨by decide +kernel, ⟨by decide +kernel, by decide +kernel⟩, by decide +kernel, q724⟩
def fX0_many (w : bWl) (a0 : Nat) (x1 : Int32) : Option (Int32 × bWl) :=
  Option.bind (fX0_isAhead x1) fun q1 =>
  Option.bind (fX0_isTold w q1) fun q2 => sm q2.1 (fun v3 =>
  Option.bind (vK 0 q2.2 a0 (fX0_tried q2.2 a0)) fun q5 =>
  Option.bind (vK 1 q5.2 q5.1 (fX1_days q5.2 q5.1 x1)) fun q7 =>
  Option.bind (hR q7 (okc 0) a0 3) fun v9 =>
  Option.bind (hI q7 (okc 1) v9 2) fun v10 =>
  some (v10, q7)) (fun a4 => vK 4 q2.2 a4 (Option.bind (vK 0 q2.2 a0 (fX0_finds q2.2 a0 a4)) fun q12 =>
  some (q12.1, q12.2)))
set_option maxHeartbeats 4000000 in
theorem wX0_many (g : bGh) (w : bWl) (a0 : Nat) (x1 : Int32) {r : (Int32 × bWl)} (hf : fX0_many w a0 x1 = some r) : bM g mdX0_many w [.ref a0, .int x1] (q_ (eI r.1) r.2) := by
  unfold fX0_many at hf
  change bG _ _ 0 [some (.ref a0), some (.int x1)] []
  refine g_iload_n (pc' := 1) dX0_many_0 rfl rfl rfl ?_
  obtain ⟨q1, hq1, hf⟩ := Option.bind_eq_some_iff.mp hf
  refine g_callS (pc' := 4) (as := [.int x1]) (wX0_isAhead g _ x1 hq1) oX0_isAhead ⟨Nat.le_of_ble_eq_true rfl, Nat.le_of_ble_eq_true rfl⟩ dX0_many_1 rfl q699 q700 q83 (Nat.le_of_ble_eq_true rfl) (Nat.le_of_ble_eq_true rfl) (g_rI ?_) g_nt rfl
  obtain ⟨q2, hq2, hf⟩ := Option.bind_eq_some_iff.mp hf
  obtain ⟨zq2, wq2⟩ := q2
  cases zq2 with
  | inl v3 =>
    replace hf : _ = some _ := hf
    refine g_callS (pc' := 7) (as := [.int q1]) (wX0_isTold g _ q1 hq2) oX0_isTold ⟨Nat.le_of_ble_eq_true rfl, Nat.le_of_ble_eq_true rfl⟩ dX0_many_4 rfl q216 q217 q83 (Nat.le_of_ble_eq_true rfl) (Nat.le_of_ble_eq_true rfl) (g_rV ?_) g_nt rfl
    refine g_aload_n (pc' := 8) dX0_many_7 rfl rfl rfl ?_
    obtain ⟨q5, hq5, hf⟩ := Option.bind_eq_some_iff.mp hf
    obtain ⟨h6, hq5⟩ := vK_spec hq5
    refine g_callV (pc' := 11) (mx := mdX0_tried) (as := []) (wX0_tried g _ a0 hq5) oX0_tried ⟨Nat.le_of_ble_eq_true rfl, Nat.le_of_ble_eq_true rfl⟩ dX0_many_8 rfl (ci := 0) rfl h6 ⟨by decide +kernel, by decide +kernel⟩ oX0_tried.2.2.2 rfl q702 q704 qs13 qs13 q704 (Nat.le_of_ble_eq_true rfl) (Nat.le_of_ble_eq_true rfl) (g_rA ?_) g_nt rfl
    refine g_iload_n (pc' := 12) dX0_many_11 rfl rfl rfl ?_
    obtain ⟨q7, hq7, hf⟩ := Option.bind_eq_some_iff.mp hf
    obtain ⟨h8, hq7⟩ := vK_spec hq7
    refine g_callV (pc' := 15) (mx := mdX1_days) (as := [.int x1]) (wX1_days g _ q5.1 x1 hq7) oX1_days ⟨Nat.le_of_ble_eq_true rfl, Nat.le_of_ble_eq_true rfl⟩ dX0_many_12 rfl (ci := 1) rfl h8 ⟨by decide +kernel, by decide +kernel⟩ oX1_days.2.2.2 rfl q639 q640 q641 q641 q640 (Nat.le_of_ble_eq_true rfl) (Nat.le_of_ble_eq_true rfl) (g_rV ?_) g_nt rfl
    refine g_aload_n (pc' := 16) dX0_many_15 rfl rfl rfl ?_
    obtain ⟨v9, hv9, hf⟩ := Option.bind_eq_some_iff.mp hf
    refine g_get (pc' := 19) (fok_0 3 (by decide)) (Or.inl rfl) dX0_many_16 rfl q174 (hR_spec hv9) ?_
    obtain ⟨v10, hv10, hf⟩ := Option.bind_eq_some_iff.mp hf
    refine g_get (pc' := 22) (fok_1 2 (by decide)) (Or.inl rfl) dX0_many_19 rfl q141 (hI_spec hv10) ?_
    obtain rfl := Option.some.inj hf
    exact g_iret dX0_many_22 rfl rfl ⟨rfl, rfl⟩
  | inr a4 =>
    replace hf : _ = some _ := hf
    refine g_callS (pc' := 7) (as := [.int q1]) (wX0_isTold g _ q1 hq2) oX0_isTold ⟨Nat.le_of_ble_eq_true rfl, Nat.le_of_ble_eq_true rfl⟩ dX0_many_4 rfl q216 q217 q83 (Nat.le_of_ble_eq_true rfl) (Nat.le_of_ble_eq_true rfl) g_nr (g_tt ?_) rfl
    obtain ⟨h11, hf⟩ := vK_spec hf
    refine t_catch (ci := 4) rfl (by decide) q204 rfl h11 ?_
    refine g_astore_n (pc' := 24) (L' := [some (.ref a0), some (.int x1), some (.ref a4)]) dX0_many_23 rfl rfl (Nat.le_of_ble_eq_true rfl) rfl rfl ?_
    refine g_aload_n (pc' := 25) dX0_many_24 rfl rfl rfl ?_
    refine g_aload_n (pc' := 26) dX0_many_25 rfl rfl rfl ?_
    obtain ⟨q12, hq12, hf⟩ := Option.bind_eq_some_iff.mp hf
    obtain ⟨h13, hq12⟩ := vK_spec hq12
    refine g_callV (pc' := 29) (mx := mdX0_finds) (as := [.ref a4]) (wX0_finds g _ a0 a4 hq12) oX0_finds ⟨Nat.le_of_ble_eq_true rfl, Nat.le_of_ble_eq_true rfl⟩ dX0_many_26 rfl (ci := 0) rfl h13 ⟨by decide +kernel, by decide +kernel⟩ oX0_finds.2.2.2 rfl q289 q291 qs1 qs1 q291 (Nat.le_of_ble_eq_true rfl) (Nat.le_of_ble_eq_true rfl) (g_rI ?_) g_nt rfl
    obtain rfl := Option.some.inj hf
    exact g_iret dX0_many_29 rfl rfl ⟨rfl, rfl⟩
def mdX0_out : bMD := (yX0_out, cX0_out, 3, (some FieldType.int), [(0, 34, 57, 1), (35, 57, 57, 1)], 10, 233)
theorem oX0_out : bOkc mdX0_out 1 := ⟨by decide +kernel, ⟨by decide +kernel, by decide +kernel⟩, by decide +kernel, q728⟩
def fX0_out_l13 (b0 : Nat) (y1 : Int32) (rec : (Int32 × bWl) → Option ((Int32 × bWl) ⊕ (Int32 × bWl))) (s : Int32 × bWl) : Option ((Int32 × bWl) ⊕ (Int32 × bWl)) :=
  (if 60 < s.1 then
  some (Sum.inl (s.1, s.2))
else
  Option.bind (hR s.2 (okc 0) b0 3) fun v8 =>
  Option.bind (vK 1 s.2 v8 (fX1_rumour s.2 v8 y1)) fun q9 =>
  Option.bind (vR s.2 q9 (fX5_isIn s.2 q9)) fun q11 =>
  (if q11 = 0 then
  some (Sum.inr (s.1, s.2))
else
  Option.bind (hR s.2 (okc 0) b0 3) fun v14 =>
  Option.bind (vK 1 s.2 v14 (fX1_aDay s.2 v14)) fun q15 =>
  rec ((s.1 + 1), q15)))
def fX0_out (w : bWl) (a0 : Nat) (x1 : Int32) : Option (Int32 × bWl) :=
  Option.bind (vK 0 w a0 (fX0_rumourAt w a0 x1)) fun q1 => sm q1.1 (fun v3 =>
  Option.bind (vK 0 q1.2 a0 (fX0_tried q1.2 a0)) fun q5 =>
  Option.bind (lpF (fX0_out_l13 a0 x1) FU (0, q5.2)) fun q17 => sx q17 (fun e18 =>
  Option.bind (nC e18.2 (.inr (4, dX4)) 7) fun v19 =>
  Option.bind (fX4_init v19.2 v19.1 3) fun q20 =>
  vK 4 q20 v19.1 (Option.bind (vK 0 q20 a0 (fX0_finds q20 a0 v19.1)) fun q22 =>
  some (q22.1, q22.2))) (fun e18 => some e18)) (fun a4 => vK 4 q1.2 a4 (Option.bind (vK 0 q1.2 a0 (fX0_finds q1.2 a0 a4)) fun q25 =>
  some (q25.1, q25.2)))
set_option maxHeartbeats 4000000 in
theorem wX0_out_l13 {g : bGh} {n0 u0 : Nat} {Q : Outcome → bWl → Prop} (b0 : Nat) (y1 : Int32) : ∀ (n : Nat) (s : Int32 × bWl) (r : ((Int32 × bWl) ⊕ (Int32 × bWl))), lpF (fX0_out_l13 b0 y1) n s = some r → (∀ e, r = Sum.inl e → bG (g, mdX0_out, n0, u0, Q) e.2 48 [some (.ref b0), some (.int y1), some (.int e.1)] []) → (∀ e, r = Sum.inr e → Q (.returned (eI e.1)) e.2) → bG (g, mdX0_out, n0, u0, Q) s.2 13 [some (.ref b0), some (.int y1), some (.int s.1)] [] := by
  intro n
  induction n with
  | zero => intro s r hf; cases hf
  | succ n ih =>
    intro s r hf kx kr
    rw [lpF_s] at hf
    unfold fX0_out_l13 at hf
    refine g_iload_n (pc' := 14) dX0_out_13 rfl rfl rfl ?_
    refine g_bipush (pc' := 16) (v := 60) dX0_out_14 rfl (by decide) ?_
    refine g_icmp_gt (tgt := 48) (pc' := 19) dX0_out_16 (by decide) rfl (fun h7 => ?_) (fun h7 => ?_)
    · replace hf := (if_pos h7).symm.trans hf
      obtain rfl := Option.some.inj hf
      exact (kx _ rfl)
    · replace hf := (if_neg h7).symm.trans hf
      refine g_aload_n (pc' := 20) dX0_out_19 rfl rfl rfl ?_
      obtain ⟨v8, hv8, hf⟩ := Option.bind_eq_some_iff.mp hf
      refine g_get (pc' := 23) (fok_0 3 (by decide)) (Or.inl rfl) dX0_out_20 rfl q174 (hR_spec hv8) ?_
      refine g_iload_n (pc' := 24) dX0_out_23 rfl rfl rfl ?_
      obtain ⟨q9, hq9, hf⟩ := Option.bind_eq_some_iff.mp hf
      obtain ⟨h10, hq9⟩ := vK_spec hq9
      refine g_callV (pc' := 27) (mx := mdX1_rumour) (as := [.int y1]) (wX1_rumour g _ v8 y1 hq9) oX1_rumour ⟨Nat.le_of_ble_eq_true rfl, Nat.le_of_ble_eq_true rfl⟩ dX0_out_24 rfl (ci := 1) rfl h10 ⟨by decide +kernel, by decide +kernel⟩ oX1_rumour.2.2.2 rfl q316 q308 q309 q309 q308 (Nat.le_of_ble_eq_true rfl) (Nat.le_of_ble_eq_true rfl) (g_rA ?_) g_nt rfl
      obtain ⟨q11, hq11, hf⟩ := Option.bind_eq_some_iff.mp hf
      obtain ⟨h12, hq11⟩ := vR_spec hq11
      refine g_callVR (pc' := 30) (as := []) (wX5_isIn g _ q9 hq11) oX5_isIn ⟨Nat.le_of_ble_eq_true rfl, Nat.le_of_ble_eq_true rfl⟩ dX0_out_27 rfl h12 ⟨by decide +kernel, by decide +kernel⟩ q568 q569 q570 q572 q573 q575 q574 q576 (Nat.le_of_ble_eq_true rfl) (Nat.le_of_ble_eq_true rfl) (g_rI ?_) g_nt rfl
      refine g_if_ne (tgt := 35) (pc' := 33) dX0_out_30 (by decide) rfl (fun h13 => ?_) (fun h13 => ?_)
      · replace hf := (if_neg h13).symm.trans hf
        refine g_aload_n (pc' := 36) dX0_out_35 rfl rfl rfl ?_
        obtain ⟨v14, hv14, hf⟩ := Option.bind_eq_some_iff.mp hf
        refine g_get (pc' := 39) (fok_0 3 (by decide)) (Or.inl rfl) dX0_out_36 rfl q174 (hR_spec hv14) ?_
        obtain ⟨q15, hq15, hf⟩ := Option.bind_eq_some_iff.mp hf
        obtain ⟨h16, hq15⟩ := vK_spec hq15
        refine g_callV (pc' := 42) (mx := mdX1_aDay) (as := []) (wX1_aDay g _ v14 hq15) oX1_aDay ⟨Nat.le_of_ble_eq_true rfl, Nat.le_of_ble_eq_true rfl⟩ dX0_out_39 rfl (ci := 1) rfl h16 ⟨by decide +kernel, by decide +kernel⟩ oX1_aDay.2.2.2 rfl q720 q644 q645 q645 q644 (Nat.le_of_ble_eq_true rfl) (Nat.le_of_ble_eq_true rfl) (g_rV ?_) g_nt rfl
        refine g_iinc (pc' := 45) (v := s.1 + 1) (L' := [some (.ref b0), some (.int y1), some (.int (s.1 + 1))]) dX0_out_42 rfl rfl rfl (Nat.le_of_ble_eq_true rfl) rfl rfl ?_
        refine g_goto (tgt := 13) dX0_out_45 (by decide) ?_
        exact ih _ r hf kx kr
      · replace hf := (if_pos h13).symm.trans hf
        refine g_iload_n (pc' := 34) dX0_out_33 rfl rfl rfl ?_
        obtain rfl := Option.some.inj hf
        exact g_iret dX0_out_34 rfl rfl (kr _ rfl)
set_option maxHeartbeats 4000000 in
theorem wX0_out (g : bGh) (w : bWl) (a0 : Nat) (x1 : Int32) {r : (Int32 × bWl)} (hf : fX0_out w a0 x1 = some r) : bM g mdX0_out w [.ref a0, .int x1] (q_ (eI r.1) r.2) := by
  unfold fX0_out at hf
  change bG _ _ 0 [some (.ref a0), some (.int x1)] []
  refine g_aload_n (pc' := 1) dX0_out_0 rfl rfl rfl ?_
  refine g_iload_n (pc' := 2) dX0_out_1 rfl rfl rfl ?_
  obtain ⟨q1, hq1, hf⟩ := Option.bind_eq_some_iff.mp hf
  obtain ⟨h2, hq1⟩ := vK_spec hq1
  obtain ⟨zq1, wq1⟩ := q1
  cases zq1 with
  | inl v3 =>
    replace hf : _ = some _ := hf
    refine g_callV (pc' := 5) (mx := mdX0_rumourAt) (as := [.int x1]) (wX0_rumourAt g _ a0 x1 hq1) oX0_rumourAt ⟨Nat.le_of_ble_eq_true rfl, Nat.le_of_ble_eq_true rfl⟩ dX0_out_2 rfl (ci := 0) rfl h2 ⟨by decide +kernel, by decide +kernel⟩ oX0_rumourAt.2.2.2 rfl q428 q430 qs4 qs4 q430 (Nat.le_of_ble_eq_true rfl) (Nat.le_of_ble_eq_true rfl) (g_rA ?_) g_nt rfl
    refine g_pop (pc' := 6) dX0_out_5 rfl rfl ?_
    refine g_aload_n (pc' := 7) dX0_out_6 rfl rfl rfl ?_
    obtain ⟨q5, hq5, hf⟩ := Option.bind_eq_some_iff.mp hf
    obtain ⟨h6, hq5⟩ := vK_spec hq5
    refine g_callV (pc' := 10) (mx := mdX0_tried) (as := []) (wX0_tried g _ a0 hq5) oX0_tried ⟨Nat.le_of_ble_eq_true rfl, Nat.le_of_ble_eq_true rfl⟩ dX0_out_7 rfl (ci := 0) rfl h6 ⟨by decide +kernel, by decide +kernel⟩ oX0_tried.2.2.2 rfl q702 q704 qs13 qs13 q704 (Nat.le_of_ble_eq_true rfl) (Nat.le_of_ble_eq_true rfl) (g_rA ?_) g_nt rfl
    refine g_pop (pc' := 11) dX0_out_10 rfl rfl ?_
    refine g_iconst (pc' := 12) (v := 0) dX0_out_11 rfl (by decide) ?_
    refine g_istore_n (pc' := 13) (L' := [some (.ref a0), some (.int x1), some (.int 0)]) dX0_out_12 rfl rfl (Nat.le_of_ble_eq_true rfl) rfl rfl ?_
    obtain ⟨q17, hq17, hf⟩ := Option.bind_eq_some_iff.mp hf
    cases q17 with
    | inl e18 =>
      replace hf : _ = some _ := hf
      refine wX0_out_l13 a0 x1 FU _ (Sum.inl e18) hq17 (fun e' he => ?_) (fun e' he => by cases he)
      cases he
      obtain ⟨v19, hv19, hf⟩ := Option.bind_eq_some_iff.mp hf
      refine g_new (ci := 4) (pc' := 51) rfl in_X4 tyX4_ok dX4_ok dX0_out_48 rfl q204 q222 q89 hv19 ?_
      refine g_dup (pc' := 52) dX0_out_51 rfl rfl ?_
      refine g_iconst (pc' := 53) (v := 3) dX0_out_52 rfl (by decide) ?_
      obtain ⟨q20, hq20, hf⟩ := Option.bind_eq_some_iff.mp hf
      refine g_callI (pc' := 56) (as := [.int 3]) (wX4_init g _ v19.1 3 hq20) oX4_init ⟨Nat.le_of_ble_eq_true rfl, Nat.le_of_ble_eq_true rfl⟩ dX0_out_53 rfl rfl q259 q260 (Nat.le_of_ble_eq_true rfl) (Nat.le_of_ble_eq_true rfl) (g_rV ?_) g_nt rfl
      refine g_athrow dX0_out_56 ?_
      obtain ⟨h21, hf⟩ := vK_spec hf
      refine t_catch (ci := 4) rfl (by decide) q204 rfl h21 ?_
      refine g_astore_n (pc' := 58) (L' := [some (.ref a0), some (.int x1), some (.ref v19.1)]) dX0_out_57 rfl rfl (Nat.le_of_ble_eq_true rfl) rfl rfl ?_
      refine g_aload_n (pc' := 59) dX0_out_58 rfl rfl rfl ?_
      refine g_aload_n (pc' := 60) dX0_out_59 rfl rfl rfl ?_
      obtain ⟨q22, hq22, hf⟩ := Option.bind_eq_some_iff.mp hf
      obtain ⟨h23, hq22⟩ := vK_spec hq22
      refine g_callV (pc' := 63) (mx := mdX0_finds) (as := [.ref v19.1]) (wX0_finds g _ a0 v19.1 hq22) oX0_finds ⟨Nat.le_of_ble_eq_true rfl, Nat.le_of_ble_eq_true rfl⟩ dX0_out_60 rfl (ci := 0) rfl h23 ⟨by decide +kernel, by decide +kernel⟩ oX0_finds.2.2.2 rfl q289 q291 qs1 qs1 q291 (Nat.le_of_ble_eq_true rfl) (Nat.le_of_ble_eq_true rfl) (g_rI ?_) g_nt rfl
      obtain rfl := Option.some.inj hf
      exact g_iret dX0_out_63 rfl rfl ⟨rfl, rfl⟩
    | inr e18 =>
      refine wX0_out_l13 a0 x1 FU _ (Sum.inr e18) hq17 (fun e' he => by cases he) (fun e' he => ?_)
      cases he
      obtain rfl := Option.some.inj hf
      exact ⟨rfl, rfl⟩
  | inr a4 =>
    replace hf : _ = some _ := hf
    refine g_callV (pc' := 5) (mx := mdX0_rumourAt) (as := [.int x1]) (wX0_rumourAt g _ a0 x1 hq1) oX0_rumourAt ⟨Nat.le_of_ble_eq_true rfl, Nat.le_of_ble_eq_true rfl⟩ dX0_out_2 rfl (ci := 0) rfl h2 ⟨by decide +kernel, by decide +kernel⟩ oX0_rumourAt.2.2.2 rfl q428 q430 qs4 qs4 q430 (Nat.le_of_ble_eq_true rfl) (Nat.le_of_ble_eq_true rfl) g_nr (g_tt ?_) rfl
    obtain ⟨h24, hf⟩ := vK_spec hf
    refine t_catch (ci := 4) rfl (by decide) q204 rfl h24 ?_
    refine g_astore_n (pc' := 58) (L' := [some (.ref a0), some (.int x1), some (.ref a4)]) dX0_out_57 rfl rfl (Nat.le_of_ble_eq_true rfl) rfl rfl ?_
    refine g_aload_n (pc' := 59) dX0_out_58 rfl rfl rfl ?_
    refine g_aload_n (pc' := 60) dX0_out_59 rfl rfl rfl ?_
    obtain ⟨q25, hq25, hf⟩ := Option.bind_eq_some_iff.mp hf
    obtain ⟨h26, hq25⟩ := vK_spec hq25
    refine g_callV (pc' := 63) (mx := mdX0_finds) (as := [.ref a4]) (wX0_finds g _ a0 a4 hq25) oX0_finds ⟨Nat.le_of_ble_eq_true rfl, Nat.le_of_ble_eq_true rfl⟩ dX0_out_60 rfl (ci := 0) rfl h26 ⟨by decide +kernel, by decide +kernel⟩ oX0_finds.2.2.2 rfl q289 q291 qs1 qs1 q291 (Nat.le_of_ble_eq_true rfl) (Nat.le_of_ble_eq_true rfl) (g_rI ?_) g_nt rfl
    obtain rfl := Option.some.inj hf
    exact g_iret dX0_out_63 rfl rfl ⟨rfl, rfl⟩
def mdX0_fewest : bMD := (yX0_fewest, cX0_fewest, 5, (some FieldType.int), [(0, 50, 75, 1), (51, 75, 75, 1)], 9, 206)
theorem oX0_fewest : bOkc mdX0_fewest 2 := ⟨by decide +kernel, ⟨by decide +kernel, by decide +kernel⟩, by decide +kernel, q732⟩
def fX0_fewest_l31 (b0 : Nat) (y2 : Int32) (b3 : Nat) (rec : (Int32 × bWl) → Option ((Int32 × bWl) ⊕ (Int32 × bWl))) (s : Int32 × bWl) : Option ((Int32 × bWl) ⊕ (Int32 × bWl)) :=
  (if 40 < s.1 then
  some (Sum.inl (s.1, s.2))
else
  Option.bind (hR s.2 okRu b3 0) fun v18 =>
  Option.bind (aI s.2 0 v18 3) fun v19 =>
  (if v19 = y2 then
  some (Sum.inr (s.1, s.2))
else
  Option.bind (hR s.2 (okc 0) b0 3) fun v21 =>
  Option.bind (vK 1 s.2 v21 (fX1_improves s.2 v21 b3 1)) fun q22 =>
  rec ((s.1 + 1), q22)))
def fX0_fewest (w : bWl) (a0 : Nat) (x1 : Int32) (x2 : Int32) : Option (Int32 × bWl) :=
  Option.bind (vK 0 w a0 (fX0_rumourAt w a0 x1)) fun q1 => sm q1.1 (fun v3 =>
  Option.bind (fX0_isHouse x2) fun q5 =>
  Option.bind (fX0_isTold q1.2 q5) fun q6 => sm q6.1 (fun v7 =>
  Option.bind (vK 0 q6.2 a0 (fX0_lodger q6.2 a0 x1)) fun q9 => sm q9.1 (fun v11 =>
  Option.bind (vK 0 q9.2 a0 (fX0_tried q9.2 a0)) fun q13 =>
  Option.bind (vK 1 q13.2 q13.1 (fX1_rumour q13.2 q13.1 x1)) fun q15 =>
  Option.bind (lpF (fX0_fewest_l31 a0 x2 q15) FU (0, q13.2)) fun q24 => sx q24 (fun e25 =>
  Option.bind (nC e25.2 (.inr (4, dX4)) 7) fun v26 =>
  Option.bind (fX4_init v26.2 v26.1 3) fun q27 =>
  vK 4 q27 v26.1 (Option.bind (vK 0 q27 a0 (fX0_finds q27 a0 v26.1)) fun q29 =>
  some (q29.1, q29.2))) (fun e25 => some e25)) (fun a12 => vK 4 q9.2 a12 (Option.bind (vK 0 q9.2 a0 (fX0_finds q9.2 a0 a12)) fun q32 =>
  some (q32.1, q32.2)))) (fun a8 => vK 4 q6.2 a8 (Option.bind (vK 0 q6.2 a0 (fX0_finds q6.2 a0 a8)) fun q35 =>
  some (q35.1, q35.2)))) (fun a4 => vK 4 q1.2 a4 (Option.bind (vK 0 q1.2 a0 (fX0_finds q1.2 a0 a4)) fun q38 =>
  some (q38.1, q38.2)))
set_option maxHeartbeats 4000000 in
theorem wX0_fewest_l31 {g : bGh} {n0 u0 : Nat} {Q : Outcome → bWl → Prop} (b0 : Nat) (y2 : Int32) (b3 : Nat) : ∀ (n : Nat) (s : Int32 × bWl) (r : ((Int32 × bWl) ⊕ (Int32 × bWl))), lpF (fX0_fewest_l31 b0 y2 b3) n s = some r → (∀ e, r = Sum.inl e → bG (g, mdX0_fewest, n0, u0, Q) e.2 66 [some (.ref b0), none, some (.int y2), some (.ref b3), some (.int e.1)] []) → (∀ e, r = Sum.inr e → Q (.returned (eI e.1)) e.2) → bG (g, mdX0_fewest, n0, u0, Q) s.2 31 [some (.ref b0), none, some (.int y2), some (.ref b3), some (.int s.1)] [] := by
  intro n
  induction n with
  | zero => intro s r hf; cases hf
  | succ n ih =>
    intro s r hf kx kr
    rw [lpF_s] at hf
    unfold fX0_fewest_l31 at hf
    refine g_iload (pc' := 33) dX0_fewest_31 rfl rfl ?_
    refine g_bipush (pc' := 35) (v := 40) dX0_fewest_33 rfl (by decide) ?_
    refine g_icmp_gt (tgt := 66) (pc' := 38) dX0_fewest_35 (by decide) rfl (fun h17 => ?_) (fun h17 => ?_)
    · replace hf := (if_pos h17).symm.trans hf
      obtain rfl := Option.some.inj hf
      exact (kx _ rfl)
    · replace hf := (if_neg h17).symm.trans hf
      refine g_aload_n (pc' := 39) dX0_fewest_38 rfl rfl rfl ?_
      obtain ⟨v18, hv18, hf⟩ := Option.bind_eq_some_iff.mp hf
      refine g_get (pc' := 42) fok_Ru (Or.inl rfl) dX0_fewest_39 rfl q384 (hR_spec hv18) ?_
      refine g_iconst (pc' := 43) (v := 3) dX0_fewest_42 rfl (by decide) ?_
      obtain ⟨v19, hv19, hf⟩ := Option.bind_eq_some_iff.mp hf
      refine g_iald (pc' := 44) dX0_fewest_43 rfl hv19 ?_
      refine g_iload_n (pc' := 45) dX0_fewest_44 rfl rfl rfl ?_
      refine g_icmp_ne (tgt := 51) (pc' := 48) dX0_fewest_45 (by decide) rfl (fun h20 => ?_) (fun h20 => ?_)
      · replace hf := (if_neg h20).symm.trans hf
        refine g_aload_n (pc' := 52) dX0_fewest_51 rfl rfl rfl ?_
        obtain ⟨v21, hv21, hf⟩ := Option.bind_eq_some_iff.mp hf
        refine g_get (pc' := 55) (fok_0 3 (by decide)) (Or.inl rfl) dX0_fewest_52 rfl q174 (hR_spec hv21) ?_
        refine g_aload_n (pc' := 56) dX0_fewest_55 rfl rfl rfl ?_
        refine g_iconst (pc' := 57) (v := 1) dX0_fewest_56 rfl (by decide) ?_
        obtain ⟨q22, hq22, hf⟩ := Option.bind_eq_some_iff.mp hf
        obtain ⟨h23, hq22⟩ := vK_spec hq22
        refine g_callV (pc' := 60) (mx := mdX1_improves) (as := [.ref b3, .int 1]) (wX1_improves g _ v21 b3 1 hq22) oX1_improves ⟨Nat.le_of_ble_eq_true rfl, Nat.le_of_ble_eq_true rfl⟩ dX0_fewest_57 rfl (ci := 1) rfl h23 ⟨by decide +kernel, by decide +kernel⟩ oX1_improves.2.2.2 rfl q604 q605 q606 q606 q605 (Nat.le_of_ble_eq_true rfl) (Nat.le_of_ble_eq_true rfl) (g_rV ?_) g_nt rfl
        refine g_iinc (pc' := 63) (v := s.1 + 1) (L' := [some (.ref b0), none, some (.int y2), some (.ref b3), some (.int (s.1 + 1))]) dX0_fewest_60 rfl rfl rfl (Nat.le_of_ble_eq_true rfl) rfl rfl ?_
        refine g_goto (tgt := 31) dX0_fewest_63 (by decide) ?_
        exact ih _ r hf kx kr
      · replace hf := (if_pos h20).symm.trans hf
        refine g_iload (pc' := 50) dX0_fewest_48 rfl rfl ?_
        obtain rfl := Option.some.inj hf
        exact g_iret dX0_fewest_50 rfl rfl (kr _ rfl)
set_option maxHeartbeats 4000000 in
theorem wX0_fewest (g : bGh) (w : bWl) (a0 : Nat) (x1 : Int32) (x2 : Int32) {r : (Int32 × bWl)} (hf : fX0_fewest w a0 x1 x2 = some r) : bM g mdX0_fewest w [.ref a0, .int x1, .int x2] (q_ (eI r.1) r.2) := by
  unfold fX0_fewest at hf
  change bG _ _ 0 [some (.ref a0), some (.int x1), some (.int x2)] []
  refine g_aload_n (pc' := 1) dX0_fewest_0 rfl rfl rfl ?_
  refine g_iload_n (pc' := 2) dX0_fewest_1 rfl rfl rfl ?_
  obtain ⟨q1, hq1, hf⟩ := Option.bind_eq_some_iff.mp hf
  obtain ⟨h2, hq1⟩ := vK_spec hq1
  obtain ⟨zq1, wq1⟩ := q1
  cases zq1 with
  | inl v3 =>
    replace hf : _ = some _ := hf
    refine g_callV (pc' := 5) (mx := mdX0_rumourAt) (as := [.int x1]) (wX0_rumourAt g _ a0 x1 hq1) oX0_rumourAt ⟨Nat.le_of_ble_eq_true rfl, Nat.le_of_ble_eq_true rfl⟩ dX0_fewest_2 rfl (ci := 0) rfl h2 ⟨by decide +kernel, by decide +kernel⟩ oX0_rumourAt.2.2.2 rfl q428 q430 qs4 qs4 q430 (Nat.le_of_ble_eq_true rfl) (Nat.le_of_ble_eq_true rfl) (g_rA ?_) g_nt rfl
    refine g_pop (pc' := 6) dX0_fewest_5 rfl rfl ?_
    refine g_iload_n (pc' := 7) dX0_fewest_6 rfl rfl rfl ?_
    obtain ⟨q5, hq5, hf⟩ := Option.bind_eq_some_iff.mp hf
    refine g_callS (pc' := 10) (as := [.int x2]) (wX0_isHouse g _ x2 hq5) oX0_isHouse ⟨Nat.le_of_ble_eq_true rfl, Nat.le_of_ble_eq_true rfl⟩ dX0_fewest_7 rfl q205 q206 q83 (Nat.le_of_ble_eq_true rfl) (Nat.le_of_ble_eq_true rfl) (g_rI ?_) g_nt rfl
    obtain ⟨q6, hq6, hf⟩ := Option.bind_eq_some_iff.mp hf
    obtain ⟨zq6, wq6⟩ := q6
    cases zq6 with
    | inl v7 =>
      replace hf : _ = some _ := hf
      refine g_callS (pc' := 13) (as := [.int q5]) (wX0_isTold g _ q5 hq6) oX0_isTold ⟨Nat.le_of_ble_eq_true rfl, Nat.le_of_ble_eq_true rfl⟩ dX0_fewest_10 rfl q216 q217 q83 (Nat.le_of_ble_eq_true rfl) (Nat.le_of_ble_eq_true rfl) (g_rV ?_) g_nt rfl
      refine g_aload_n (pc' := 14) dX0_fewest_13 rfl rfl rfl ?_
      refine g_iload_n (pc' := 15) dX0_fewest_14 rfl rfl rfl ?_
      obtain ⟨q9, hq9, hf⟩ := Option.bind_eq_some_iff.mp hf
      obtain ⟨h10, hq9⟩ := vK_spec hq9
      obtain ⟨zq9, wq9⟩ := q9
      cases zq9 with
      | inl v11 =>
        replace hf : _ = some _ := hf
        refine g_callV (pc' := 18) (mx := mdX0_lodger) (as := [.int x1]) (wX0_lodger g _ a0 x1 hq9) oX0_lodger ⟨Nat.le_of_ble_eq_true rfl, Nat.le_of_ble_eq_true rfl⟩ dX0_fewest_15 rfl (ci := 0) rfl h10 ⟨by decide +kernel, by decide +kernel⟩ oX0_lodger.2.2.2 rfl q600 q602 qs5 qs5 q602 (Nat.le_of_ble_eq_true rfl) (Nat.le_of_ble_eq_true rfl) (g_rA ?_) g_nt rfl
        refine g_pop (pc' := 19) dX0_fewest_18 rfl rfl ?_
        refine g_aload_n (pc' := 20) dX0_fewest_19 rfl rfl rfl ?_
        obtain ⟨q13, hq13, hf⟩ := Option.bind_eq_some_iff.mp hf
        obtain ⟨h14, hq13⟩ := vK_spec hq13
        refine g_callV (pc' := 23) (mx := mdX0_tried) (as := []) (wX0_tried g _ a0 hq13) oX0_tried ⟨Nat.le_of_ble_eq_true rfl, Nat.le_of_ble_eq_true rfl⟩ dX0_fewest_20 rfl (ci := 0) rfl h14 ⟨by decide +kernel, by decide +kernel⟩ oX0_tried.2.2.2 rfl q702 q704 qs13 qs13 q704 (Nat.le_of_ble_eq_true rfl) (Nat.le_of_ble_eq_true rfl) (g_rA ?_) g_nt rfl
        refine g_iload_n (pc' := 24) dX0_fewest_23 rfl rfl rfl ?_
        obtain ⟨q15, hq15, hf⟩ := Option.bind_eq_some_iff.mp hf
        obtain ⟨h16, hq15⟩ := vK_spec hq15
        refine g_callV (pc' := 27) (mx := mdX1_rumour) (as := [.int x1]) (wX1_rumour g _ q13.1 x1 hq15) oX1_rumour ⟨Nat.le_of_ble_eq_true rfl, Nat.le_of_ble_eq_true rfl⟩ dX0_fewest_24 rfl (ci := 1) rfl h16 ⟨by decide +kernel, by decide +kernel⟩ oX1_rumour.2.2.2 rfl q316 q308 q309 q309 q308 (Nat.le_of_ble_eq_true rfl) (Nat.le_of_ble_eq_true rfl) (g_rA ?_) g_nt rfl
        refine g_astore_n (pc' := 28) (L' := [some (.ref a0), some (.int x1), some (.int x2), some (.ref q15)]) dX0_fewest_27 rfl rfl (Nat.le_of_ble_eq_true rfl) rfl rfl ?_
        refine g_iconst (pc' := 29) (v := 0) dX0_fewest_28 rfl (by decide) ?_
        refine g_istore (pc' := 31) (L' := [some (.ref a0), some (.int x1), some (.int x2), some (.ref q15), some (.int 0)]) dX0_fewest_29 rfl (Nat.le_of_ble_eq_true rfl) rfl rfl ?_
        refine g_drop [1] (L' := [some (.ref a0), none, some (.int x2), some (.ref q15), some (.int 0)]) rfl ?_
        obtain ⟨q24, hq24, hf⟩ := Option.bind_eq_some_iff.mp hf
        cases q24 with
        | inl e25 =>
          replace hf : _ = some _ := hf
          refine wX0_fewest_l31 a0 x2 q15 FU _ (Sum.inl e25) hq24 (fun e' he => ?_) (fun e' he => by cases he)
          cases he
          obtain ⟨v26, hv26, hf⟩ := Option.bind_eq_some_iff.mp hf
          refine g_new (ci := 4) (pc' := 69) rfl in_X4 tyX4_ok dX4_ok dX0_fewest_66 rfl q204 q222 q89 hv26 ?_
          refine g_dup (pc' := 70) dX0_fewest_69 rfl rfl ?_
          refine g_iconst (pc' := 71) (v := 3) dX0_fewest_70 rfl (by decide) ?_
          obtain ⟨q27, hq27, hf⟩ := Option.bind_eq_some_iff.mp hf
          refine g_callI (pc' := 74) (as := [.int 3]) (wX4_init g _ v26.1 3 hq27) oX4_init ⟨Nat.le_of_ble_eq_true rfl, Nat.le_of_ble_eq_true rfl⟩ dX0_fewest_71 rfl rfl q259 q260 (Nat.le_of_ble_eq_true rfl) (Nat.le_of_ble_eq_true rfl) (g_rV ?_) g_nt rfl
          refine g_athrow dX0_fewest_74 ?_
          obtain ⟨h28, hf⟩ := vK_spec hf
          refine t_catch (ci := 4) rfl (by decide) q204 rfl h28 ?_
          refine g_astore_n (pc' := 76) (L' := [some (.ref a0), none, some (.int x2), some (.ref v26.1), some (.int e25.1)]) dX0_fewest_75 rfl rfl (Nat.le_of_ble_eq_true rfl) rfl rfl ?_
          refine g_aload_n (pc' := 77) dX0_fewest_76 rfl rfl rfl ?_
          refine g_aload_n (pc' := 78) dX0_fewest_77 rfl rfl rfl ?_
          obtain ⟨q29, hq29, hf⟩ := Option.bind_eq_some_iff.mp hf
          obtain ⟨h30, hq29⟩ := vK_spec hq29
          refine g_callV (pc' := 81) (mx := mdX0_finds) (as := [.ref v26.1]) (wX0_finds g _ a0 v26.1 hq29) oX0_finds ⟨Nat.le_of_ble_eq_true rfl, Nat.le_of_ble_eq_true rfl⟩ dX0_fewest_78 rfl (ci := 0) rfl h30 ⟨by decide +kernel, by decide +kernel⟩ oX0_finds.2.2.2 rfl q289 q291 qs1 qs1 q291 (Nat.le_of_ble_eq_true rfl) (Nat.le_of_ble_eq_true rfl) (g_rI ?_) g_nt rfl
          obtain rfl := Option.some.inj hf
          exact g_iret dX0_fewest_81 rfl rfl ⟨rfl, rfl⟩
        | inr e25 =>
          refine wX0_fewest_l31 a0 x2 q15 FU _ (Sum.inr e25) hq24 (fun e' he => by cases he) (fun e' he => ?_)
          cases he
          obtain rfl := Option.some.inj hf
          exact ⟨rfl, rfl⟩
      | inr a12 =>
        replace hf : _ = some _ := hf
        refine g_callV (pc' := 18) (mx := mdX0_lodger) (as := [.int x1]) (wX0_lodger g _ a0 x1 hq9) oX0_lodger ⟨Nat.le_of_ble_eq_true rfl, Nat.le_of_ble_eq_true rfl⟩ dX0_fewest_15 rfl (ci := 0) rfl h10 ⟨by decide +kernel, by decide +kernel⟩ oX0_lodger.2.2.2 rfl q600 q602 qs5 qs5 q602 (Nat.le_of_ble_eq_true rfl) (Nat.le_of_ble_eq_true rfl) g_nr (g_tt ?_) rfl
        obtain ⟨h31, hf⟩ := vK_spec hf
        refine t_catch (ci := 4) rfl (by decide) q204 rfl h31 ?_
        refine g_astore_n (pc' := 76) (L' := [some (.ref a0), some (.int x1), some (.int x2), some (.ref a12)]) dX0_fewest_75 rfl rfl (Nat.le_of_ble_eq_true rfl) rfl rfl ?_
        refine g_aload_n (pc' := 77) dX0_fewest_76 rfl rfl rfl ?_
        refine g_aload_n (pc' := 78) dX0_fewest_77 rfl rfl rfl ?_
        obtain ⟨q32, hq32, hf⟩ := Option.bind_eq_some_iff.mp hf
        obtain ⟨h33, hq32⟩ := vK_spec hq32
        refine g_callV (pc' := 81) (mx := mdX0_finds) (as := [.ref a12]) (wX0_finds g _ a0 a12 hq32) oX0_finds ⟨Nat.le_of_ble_eq_true rfl, Nat.le_of_ble_eq_true rfl⟩ dX0_fewest_78 rfl (ci := 0) rfl h33 ⟨by decide +kernel, by decide +kernel⟩ oX0_finds.2.2.2 rfl q289 q291 qs1 qs1 q291 (Nat.le_of_ble_eq_true rfl) (Nat.le_of_ble_eq_true rfl) (g_rI ?_) g_nt rfl
        obtain rfl := Option.some.inj hf
        exact g_iret dX0_fewest_81 rfl rfl ⟨rfl, rfl⟩
    | inr a8 =>
      replace hf : _ = some _ := hf
      refine g_callS (pc' := 13) (as := [.int q5]) (wX0_isTold g _ q5 hq6) oX0_isTold ⟨Nat.le_of_ble_eq_true rfl, Nat.le_of_ble_eq_true rfl⟩ dX0_fewest_10 rfl q216 q217 q83 (Nat.le_of_ble_eq_true rfl) (Nat.le_of_ble_eq_true rfl) g_nr (g_tt ?_) rfl
      obtain ⟨h34, hf⟩ := vK_spec hf
      refine t_catch (ci := 4) rfl (by decide) q204 rfl h34 ?_
      refine g_astore_n (pc' := 76) (L' := [some (.ref a0), some (.int x1), some (.int x2), some (.ref a8)]) dX0_fewest_75 rfl rfl (Nat.le_of_ble_eq_true rfl) rfl rfl ?_
      refine g_aload_n (pc' := 77) dX0_fewest_76 rfl rfl rfl ?_
      refine g_aload_n (pc' := 78) dX0_fewest_77 rfl rfl rfl ?_
      obtain ⟨q35, hq35, hf⟩ := Option.bind_eq_some_iff.mp hf
      obtain ⟨h36, hq35⟩ := vK_spec hq35
      refine g_callV (pc' := 81) (mx := mdX0_finds) (as := [.ref a8]) (wX0_finds g _ a0 a8 hq35) oX0_finds ⟨Nat.le_of_ble_eq_true rfl, Nat.le_of_ble_eq_true rfl⟩ dX0_fewest_78 rfl (ci := 0) rfl h36 ⟨by decide +kernel, by decide +kernel⟩ oX0_finds.2.2.2 rfl q289 q291 qs1 qs1 q291 (Nat.le_of_ble_eq_true rfl) (Nat.le_of_ble_eq_true rfl) (g_rI ?_) g_nt rfl
      obtain rfl := Option.some.inj hf
      exact g_iret dX0_fewest_81 rfl rfl ⟨rfl, rfl⟩
  | inr a4 =>
    replace hf : _ = some _ := hf
    refine g_callV (pc' := 5) (mx := mdX0_rumourAt) (as := [.int x1]) (wX0_rumourAt g _ a0 x1 hq1) oX0_rumourAt ⟨Nat.le_of_ble_eq_true rfl, Nat.le_of_ble_eq_true rfl⟩ dX0_fewest_2 rfl (ci := 0) rfl h2 ⟨by decide +kernel, by decide +kernel⟩ oX0_rumourAt.2.2.2 rfl q428 q430 qs4 qs4 q430 (Nat.le_of_ble_eq_true rfl) (Nat.le_of_ble_eq_true rfl) g_nr (g_tt ?_) rfl
    obtain ⟨h37, hf⟩ := vK_spec hf
    refine t_catch (ci := 4) rfl (by decide) q204 rfl h37 ?_
    refine g_astore_n (pc' := 76) (L' := [some (.ref a0), some (.int x1), some (.int x2), some (.ref a4)]) dX0_fewest_75 rfl rfl (Nat.le_of_ble_eq_true rfl) rfl rfl ?_
    refine g_aload_n (pc' := 77) dX0_fewest_76 rfl rfl rfl ?_
    refine g_aload_n (pc' := 78) dX0_fewest_77 rfl rfl rfl ?_
    obtain ⟨q38, hq38, hf⟩ := Option.bind_eq_some_iff.mp hf
    obtain ⟨h39, hq38⟩ := vK_spec hq38
    refine g_callV (pc' := 81) (mx := mdX0_finds) (as := [.ref a4]) (wX0_finds g _ a0 a4 hq38) oX0_finds ⟨Nat.le_of_ble_eq_true rfl, Nat.le_of_ble_eq_true rfl⟩ dX0_fewest_78 rfl (ci := 0) rfl h39 ⟨by decide +kernel, by decide +kernel⟩ oX0_finds.2.2.2 rfl q289 q291 qs1 qs1 q291 (Nat.le_of_ble_eq_true rfl) (Nat.le_of_ble_eq_true rfl) (g_rI ?_) g_nt rfl
    obtain rfl := Option.some.inj hf
    exact g_iret dX0_fewest_81 rfl rfl ⟨rfl, rfl⟩
def mdX0_least : bMD := (yX0_least, cX0_least, 5, (some FieldType.int), [(0, 51, 67, 1), (52, 67, 67, 1)], 9, 206)
theorem oX0_least : bOkc mdX0_least 1 := ⟨by decide +kernel, ⟨by decide +kernel, by decide +kernel⟩, by decide +kernel, q736⟩
def fX0_least_l13 (b0 : Nat) (y1 : Int32) (y2 : Int32) (rec : (Int32 × bWl) → Option ((Int32 × bWl) ⊕ (Int32 × bWl))) (s : Int32 × bWl) : Option ((Int32 × bWl) ⊕ (Int32 × bWl)) :=
  (if 20 < s.1 then
  some (Sum.inl (s.1, s.2))
else
  Option.bind (vK 0 s.2 b0 (fX0_tried s.2 b0)) fun q8 =>
  Option.bind (vK 1 q8.2 q8.1 (fX1_rumour q8.2 q8.1 y1)) fun q10 =>
  Option.bind (hR q8.2 (okc 0) b0 3) fun v12 =>
  Option.bind (vK 1 q8.2 v12 (fX1_improves q8.2 v12 q10 s.1)) fun q13 =>
  Option.bind (hR q13 okRu q10 0) fun v15 =>
  Option.bind (aI q13 0 v15 3) fun v16 =>
  (if v16 = y2 then
  rec ((s.1 + 1), q13)
else
  some (Sum.inr (s.1, q13))))
def fX0_least (w : bWl) (a0 : Nat) (x1 : Int32) : Option (Int32 × bWl) :=
  Option.bind (vK 0 w a0 (fX0_lodger w a0 x1)) fun q1 => sm q1.1 (fun v3 =>
  Option.bind (hR q1.2 okRu v3 0) fun v5 =>
  Option.bind (aI q1.2 0 v5 3) fun v6 =>
  Option.bind (lpF (fX0_least_l13 a0 x1 v6) FU (1, q1.2)) fun q18 => sx q18 (fun e19 =>
  Option.bind (nC e19.2 (.inr (4, dX4)) 7) fun v20 =>
  Option.bind (fX4_init v20.2 v20.1 3) fun q21 =>
  vK 4 q21 v20.1 (Option.bind (vK 0 q21 a0 (fX0_finds q21 a0 v20.1)) fun q23 =>
  some (q23.1, q23.2))) (fun e19 => some e19)) (fun a4 => vK 4 q1.2 a4 (Option.bind (vK 0 q1.2 a0 (fX0_finds q1.2 a0 a4)) fun q26 =>
  some (q26.1, q26.2)))
set_option maxHeartbeats 4000000 in
theorem wX0_least_l13 {g : bGh} {n0 u0 : Nat} {Q : Outcome → bWl → Prop} (b0 : Nat) (y1 : Int32) (y2 : Int32) : ∀ (n : Nat) (s : Int32 × bWl) (r : ((Int32 × bWl) ⊕ (Int32 × bWl))), lpF (fX0_least_l13 b0 y1 y2) n s = some r → (∀ e, r = Sum.inl e → bG (g, mdX0_least, n0, u0, Q) e.2 58 [some (.ref b0), some (.int y1), some (.int y2), some (.int e.1)] []) → (∀ e, r = Sum.inr e → Q (.returned (eI e.1)) e.2) → bG (g, mdX0_least, n0, u0, Q) s.2 13 [some (.ref b0), some (.int y1), some (.int y2), some (.int s.1)] [] := by
  intro n
  induction n with
  | zero => intro s r hf; cases hf
  | succ n ih =>
    intro s r hf kx kr
    rw [lpF_s] at hf
    unfold fX0_least_l13 at hf
    refine g_iload_n (pc' := 14) dX0_least_13 rfl rfl rfl ?_
    refine g_bipush (pc' := 16) (v := 20) dX0_least_14 rfl (by decide) ?_
    refine g_icmp_gt (tgt := 58) (pc' := 19) dX0_least_16 (by decide) rfl (fun h7 => ?_) (fun h7 => ?_)
    · replace hf := (if_pos h7).symm.trans hf
      obtain rfl := Option.some.inj hf
      exact (kx _ rfl)
    · replace hf := (if_neg h7).symm.trans hf
      refine g_aload_n (pc' := 20) dX0_least_19 rfl rfl rfl ?_
      obtain ⟨q8, hq8, hf⟩ := Option.bind_eq_some_iff.mp hf
      obtain ⟨h9, hq8⟩ := vK_spec hq8
      refine g_callV (pc' := 23) (mx := mdX0_tried) (as := []) (wX0_tried g _ b0 hq8) oX0_tried ⟨Nat.le_of_ble_eq_true rfl, Nat.le_of_ble_eq_true rfl⟩ dX0_least_20 rfl (ci := 0) rfl h9 ⟨by decide +kernel, by decide +kernel⟩ oX0_tried.2.2.2 rfl q702 q704 qs13 qs13 q704 (Nat.le_of_ble_eq_true rfl) (Nat.le_of_ble_eq_true rfl) (g_rA ?_) g_nt rfl
      refine g_iload_n (pc' := 24) dX0_least_23 rfl rfl rfl ?_
      obtain ⟨q10, hq10, hf⟩ := Option.bind_eq_some_iff.mp hf
      obtain ⟨h11, hq10⟩ := vK_spec hq10
      refine g_callV (pc' := 27) (mx := mdX1_rumour) (as := [.int y1]) (wX1_rumour g _ q8.1 y1 hq10) oX1_rumour ⟨Nat.le_of_ble_eq_true rfl, Nat.le_of_ble_eq_true rfl⟩ dX0_least_24 rfl (ci := 1) rfl h11 ⟨by decide +kernel, by decide +kernel⟩ oX1_rumour.2.2.2 rfl q316 q308 q309 q309 q308 (Nat.le_of_ble_eq_true rfl) (Nat.le_of_ble_eq_true rfl) (g_rA ?_) g_nt rfl
      refine g_astore (pc' := 29) (L' := [some (.ref b0), some (.int y1), some (.int y2), some (.int s.1), some (.ref q10)]) dX0_least_27 rfl (Nat.le_of_ble_eq_true rfl) rfl rfl ?_
      refine g_aload_n (pc' := 30) dX0_least_29 rfl rfl rfl ?_
      obtain ⟨v12, hv12, hf⟩ := Option.bind_eq_some_iff.mp hf
      refine g_get (pc' := 33) (fok_0 3 (by decide)) (Or.inl rfl) dX0_least_30 rfl q174 (hR_spec hv12) ?_
      refine g_aload (pc' := 35) dX0_least_33 rfl rfl ?_
      refine g_iload_n (pc' := 36) dX0_least_35 rfl rfl rfl ?_
      obtain ⟨q13, hq13, hf⟩ := Option.bind_eq_some_iff.mp hf
      obtain ⟨h14, hq13⟩ := vK_spec hq13
      refine g_callV (pc' := 39) (mx := mdX1_improves) (as := [.ref q10, .int s.1]) (wX1_improves g _ v12 q10 s.1 hq13) oX1_improves ⟨Nat.le_of_ble_eq_true rfl, Nat.le_of_ble_eq_true rfl⟩ dX0_least_36 rfl (ci := 1) rfl h14 ⟨by decide +kernel, by decide +kernel⟩ oX1_improves.2.2.2 rfl q604 q605 q606 q606 q605 (Nat.le_of_ble_eq_true rfl) (Nat.le_of_ble_eq_true rfl) (g_rV ?_) g_nt rfl
      refine g_aload (pc' := 41) dX0_least_39 rfl rfl ?_
      obtain ⟨v15, hv15, hf⟩ := Option.bind_eq_some_iff.mp hf
      refine g_get (pc' := 44) fok_Ru (Or.inl rfl) dX0_least_41 rfl q384 (hR_spec hv15) ?_
      refine g_iconst (pc' := 45) (v := 3) dX0_least_44 rfl (by decide) ?_
      obtain ⟨v16, hv16, hf⟩ := Option.bind_eq_some_iff.mp hf
      refine g_iald (pc' := 46) dX0_least_45 rfl hv16 ?_
      refine g_iload_n (pc' := 47) dX0_least_46 rfl rfl rfl ?_
      refine g_icmp_eq (tgt := 52) (pc' := 50) dX0_least_47 (by decide) rfl (fun h17 => ?_) (fun h17 => ?_)
      · replace hf := (if_pos h17).symm.trans hf
        refine g_iinc (pc' := 55) (v := s.1 + 1) (L' := [some (.ref b0), some (.int y1), some (.int y2), some (.int (s.1 + 1)), some (.ref q10)]) dX0_least_52 rfl rfl rfl (Nat.le_of_ble_eq_true rfl) rfl rfl ?_
        refine g_goto (tgt := 13) dX0_least_55 (by decide) ?_
        refine g_drop [4] (L' := [some (.ref b0), some (.int y1), some (.int y2), some (.int (s.1 + 1)), none]) rfl ?_
        refine g_cut (L := [some (.ref b0), some (.int y1), some (.int y2), some (.int (s.1 + 1))]) 1 rfl ?_
        exact ih _ r hf kx kr
      · replace hf := (if_neg h17).symm.trans hf
        refine g_iload_n (pc' := 51) dX0_least_50 rfl rfl rfl ?_
        obtain rfl := Option.some.inj hf
        exact g_iret dX0_least_51 rfl rfl (kr _ rfl)
set_option maxHeartbeats 4000000 in
theorem wX0_least (g : bGh) (w : bWl) (a0 : Nat) (x1 : Int32) {r : (Int32 × bWl)} (hf : fX0_least w a0 x1 = some r) : bM g mdX0_least w [.ref a0, .int x1] (q_ (eI r.1) r.2) := by
  unfold fX0_least at hf
  change bG _ _ 0 [some (.ref a0), some (.int x1)] []
  refine g_aload_n (pc' := 1) dX0_least_0 rfl rfl rfl ?_
  refine g_iload_n (pc' := 2) dX0_least_1 rfl rfl rfl ?_
  obtain ⟨q1, hq1, hf⟩ := Option.bind_eq_some_iff.mp hf
  obtain ⟨h2, hq1⟩ := vK_spec hq1
  obtain ⟨zq1, wq1⟩ := q1
  cases zq1 with
  | inl v3 =>
    replace hf : _ = some _ := hf
    refine g_callV (pc' := 5) (mx := mdX0_lodger) (as := [.int x1]) (wX0_lodger g _ a0 x1 hq1) oX0_lodger ⟨Nat.le_of_ble_eq_true rfl, Nat.le_of_ble_eq_true rfl⟩ dX0_least_2 rfl (ci := 0) rfl h2 ⟨by decide +kernel, by decide +kernel⟩ oX0_lodger.2.2.2 rfl q600 q602 qs5 qs5 q602 (Nat.le_of_ble_eq_true rfl) (Nat.le_of_ble_eq_true rfl) (g_rA ?_) g_nt rfl
    obtain ⟨v5, hv5, hf⟩ := Option.bind_eq_some_iff.mp hf
    refine g_get (pc' := 8) fok_Ru (Or.inl rfl) dX0_least_5 rfl q384 (hR_spec hv5) ?_
    refine g_iconst (pc' := 9) (v := 3) dX0_least_8 rfl (by decide) ?_
    obtain ⟨v6, hv6, hf⟩ := Option.bind_eq_some_iff.mp hf
    refine g_iald (pc' := 10) dX0_least_9 rfl hv6 ?_
    refine g_istore_n (pc' := 11) (L' := [some (.ref a0), some (.int x1), some (.int v6)]) dX0_least_10 rfl rfl (Nat.le_of_ble_eq_true rfl) rfl rfl ?_
    refine g_iconst (pc' := 12) (v := 1) dX0_least_11 rfl (by decide) ?_
    refine g_istore_n (pc' := 13) (L' := [some (.ref a0), some (.int x1), some (.int v6), some (.int 1)]) dX0_least_12 rfl rfl (Nat.le_of_ble_eq_true rfl) rfl rfl ?_
    obtain ⟨q18, hq18, hf⟩ := Option.bind_eq_some_iff.mp hf
    cases q18 with
    | inl e19 =>
      replace hf : _ = some _ := hf
      refine wX0_least_l13 a0 x1 v6 FU _ (Sum.inl e19) hq18 (fun e' he => ?_) (fun e' he => by cases he)
      cases he
      obtain ⟨v20, hv20, hf⟩ := Option.bind_eq_some_iff.mp hf
      refine g_new (ci := 4) (pc' := 61) rfl in_X4 tyX4_ok dX4_ok dX0_least_58 rfl q204 q222 q89 hv20 ?_
      refine g_dup (pc' := 62) dX0_least_61 rfl rfl ?_
      refine g_iconst (pc' := 63) (v := 3) dX0_least_62 rfl (by decide) ?_
      obtain ⟨q21, hq21, hf⟩ := Option.bind_eq_some_iff.mp hf
      refine g_callI (pc' := 66) (as := [.int 3]) (wX4_init g _ v20.1 3 hq21) oX4_init ⟨Nat.le_of_ble_eq_true rfl, Nat.le_of_ble_eq_true rfl⟩ dX0_least_63 rfl rfl q259 q260 (Nat.le_of_ble_eq_true rfl) (Nat.le_of_ble_eq_true rfl) (g_rV ?_) g_nt rfl
      refine g_athrow dX0_least_66 ?_
      obtain ⟨h22, hf⟩ := vK_spec hf
      refine t_catch (ci := 4) rfl (by decide) q204 rfl h22 ?_
      refine g_astore_n (pc' := 68) (L' := [some (.ref a0), some (.int x1), some (.ref v20.1), some (.int e19.1)]) dX0_least_67 rfl rfl (Nat.le_of_ble_eq_true rfl) rfl rfl ?_
      refine g_aload_n (pc' := 69) dX0_least_68 rfl rfl rfl ?_
      refine g_aload_n (pc' := 70) dX0_least_69 rfl rfl rfl ?_
      obtain ⟨q23, hq23, hf⟩ := Option.bind_eq_some_iff.mp hf
      obtain ⟨h24, hq23⟩ := vK_spec hq23
      refine g_callV (pc' := 73) (mx := mdX0_finds) (as := [.ref v20.1]) (wX0_finds g _ a0 v20.1 hq23) oX0_finds ⟨Nat.le_of_ble_eq_true rfl, Nat.le_of_ble_eq_true rfl⟩ dX0_least_70 rfl (ci := 0) rfl h24 ⟨by decide +kernel, by decide +kernel⟩ oX0_finds.2.2.2 rfl q289 q291 qs1 qs1 q291 (Nat.le_of_ble_eq_true rfl) (Nat.le_of_ble_eq_true rfl) (g_rI ?_) g_nt rfl
      obtain rfl := Option.some.inj hf
      exact g_iret dX0_least_73 rfl rfl ⟨rfl, rfl⟩
    | inr e19 =>
      refine wX0_least_l13 a0 x1 v6 FU _ (Sum.inr e19) hq18 (fun e' he => by cases he) (fun e' he => ?_)
      cases he
      obtain rfl := Option.some.inj hf
      exact ⟨rfl, rfl⟩
  | inr a4 =>
    replace hf : _ = some _ := hf
    refine g_callV (pc' := 5) (mx := mdX0_lodger) (as := [.int x1]) (wX0_lodger g _ a0 x1 hq1) oX0_lodger ⟨Nat.le_of_ble_eq_true rfl, Nat.le_of_ble_eq_true rfl⟩ dX0_least_2 rfl (ci := 0) rfl h2 ⟨by decide +kernel, by decide +kernel⟩ oX0_lodger.2.2.2 rfl q600 q602 qs5 qs5 q602 (Nat.le_of_ble_eq_true rfl) (Nat.le_of_ble_eq_true rfl) g_nr (g_tt ?_) rfl
    obtain ⟨h25, hf⟩ := vK_spec hf
    refine t_catch (ci := 4) rfl (by decide) q204 rfl h25 ?_
    refine g_astore_n (pc' := 68) (L' := [some (.ref a0), some (.int x1), some (.ref a4)]) dX0_least_67 rfl rfl (Nat.le_of_ble_eq_true rfl) rfl rfl ?_
    refine g_aload_n (pc' := 69) dX0_least_68 rfl rfl rfl ?_
    refine g_aload_n (pc' := 70) dX0_least_69 rfl rfl rfl ?_
    obtain ⟨q26, hq26, hf⟩ := Option.bind_eq_some_iff.mp hf
    obtain ⟨h27, hq26⟩ := vK_spec hq26
    refine g_callV (pc' := 73) (mx := mdX0_finds) (as := [.ref a4]) (wX0_finds g _ a0 a4 hq26) oX0_finds ⟨Nat.le_of_ble_eq_true rfl, Nat.le_of_ble_eq_true rfl⟩ dX0_least_70 rfl (ci := 0) rfl h27 ⟨by decide +kernel, by decide +kernel⟩ oX0_finds.2.2.2 rfl q289 q291 qs1 qs1 q291 (Nat.le_of_ble_eq_true rfl) (Nat.le_of_ble_eq_true rfl) (g_rI ?_) g_nt rfl
    obtain rfl := Option.some.inj hf
    exact g_iret dX0_least_73 rfl rfl ⟨rfl, rfl⟩
