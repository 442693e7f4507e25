/-! printed by tools/gen.py: 40.rum -/
set_option maxRecDepth 100000
def mdX5_init : bMD := (yX5_init, cX5_init, 1, none, [], 2, 60)
theorem oX5_init : bOkc mdX5_init 0 := ⟨by decide +kernel, ⟨by decide +kernel, by decide +kernel⟩, by decide +kernel, q375⟩
def fX5_init (w : bWl) (a0 : Nat) : Option bWl :=
  Option.bind (nI0 w 0 4) fun v1 =>
  Option.bind (sI v1.2 0 v1.1 0 0) fun w2 =>
  Option.bind (sI w2 0 v1.1 1 10) fun w3 =>
  Option.bind (sI w3 0 v1.1 2 0) fun w4 =>
  Option.bind (sI w4 0 v1.1 3 (-1)) fun w5 =>
  Option.bind (hP w5 okRu a0 0 (.ref v1.1)) fun w6 =>
  some w6
set_option maxHeartbeats 4000000 in
theorem wX5_init (g : bGh) (w : bWl) (a0 : Nat) {r : bWl} (hf : fX5_init w a0 = some r) : bM g mdX5_init w [.ref a0] (q_ none r) := by
  unfold fX5_init at hf
  change bG _ _ 0 [some (.ref a0)] []
  refine g_aload_n (pc' := 1) dX5_init_0 rfl rfl rfl ?_
  refine g_obj (pc' := 4) dX5_init_1 rfl q376 ⟨Nat.le_of_ble_eq_true rfl, Nat.le_of_ble_eq_true rfl⟩ (Nat.le_of_ble_eq_true rfl) ?_
  refine g_aload_n (pc' := 5) dX5_init_4 rfl rfl rfl ?_
  refine g_iconst (pc' := 6) (v := 4) dX5_init_5 rfl (by decide) ?_
  obtain ⟨v1, hv1, hf⟩ := Option.bind_eq_some_iff.mp hf
  refine g_newI (pc' := 8) dX5_init_6 rfl hv1 q134 ?_
  refine g_dup (pc' := 9) dX5_init_8 rfl rfl ?_
  refine g_iconst (pc' := 10) (v := 0) dX5_init_9 rfl (by decide) ?_
  refine g_iconst (pc' := 11) (v := 0) dX5_init_10 rfl (by decide) ?_
  obtain ⟨w2, hw2, hf⟩ := Option.bind_eq_some_iff.mp hf
  refine g_iast (pc' := 12) dX5_init_11 rfl hw2 ?_
  refine g_dup (pc' := 13) dX5_init_12 rfl rfl ?_
  refine g_iconst (pc' := 14) (v := 1) dX5_init_13 rfl (by decide) ?_
  refine g_bipush (pc' := 16) (v := 10) dX5_init_14 rfl (by decide) ?_
  obtain ⟨w3, hw3, hf⟩ := Option.bind_eq_some_iff.mp hf
  refine g_iast (pc' := 17) dX5_init_16 rfl hw3 ?_
  refine g_dup (pc' := 18) dX5_init_17 rfl rfl ?_
  refine g_iconst (pc' := 19) (v := 2) dX5_init_18 rfl (by decide) ?_
  refine g_iconst (pc' := 20) (v := 0) dX5_init_19 rfl (by decide) ?_
  obtain ⟨w4, hw4, hf⟩ := Option.bind_eq_some_iff.mp hf
  refine g_iast (pc' := 21) dX5_init_20 rfl hw4 ?_
  refine g_dup (pc' := 22) dX5_init_21 rfl rfl ?_
  refine g_iconst (pc' := 23) (v := 3) dX5_init_22 rfl (by decide) ?_
  refine g_iconst (pc' := 24) (v := (-1)) dX5_init_23 rfl (by decide) ?_
  obtain ⟨w5, hw5, hf⟩ := Option.bind_eq_some_iff.mp hf
  refine g_iast (pc' := 25) dX5_init_24 rfl hw5 ?_
  obtain ⟨w6, hw6, hf⟩ := Option.bind_eq_some_iff.mp hf
  refine g_putF (ty := (.array .int)) (pc' := 28) fok_Ru (Or.inl rfl) dX5_init_25 rfl q377 rfl rfl (by decide +kernel) rfl rfl hw6 ?_
  obtain rfl := Option.some.inj hf
  exact g_vret dX5_init_28 rfl ⟨rfl, rfl⟩
def mdX6_init : bMD := (yX6_init, cX6_init, 1, none, [], 3, 80)
theorem oX6_init : bOkc mdX6_init 0 := ⟨by decide +kernel, ⟨by decide +kernel, by decide +kernel⟩, by decide +kernel, q392⟩
def fX6_init (w : bWl) (a0 : Nat) : Option bWl :=
  Option.bind (fX5_init w a0) fun q1 =>
  some q1
set_option maxHeartbeats 4000000 in
theorem wX6_init (g : bGh) (w : bWl) (a0 : Nat) {r : bWl} (hf : fX6_init w a0 = some r) : bM g mdX6_init w [.ref a0] (q_ none r) := by
  unfold fX6_init at hf
  change bG _ _ 0 [some (.ref a0)] []
  refine g_aload_n (pc' := 1) dX6_init_0 rfl rfl rfl ?_
  obtain ⟨q1, hq1, hf⟩ := Option.bind_eq_some_iff.mp hf
  refine g_callIN (pc' := 4) (host := "RumourBeds") (as := []) (wX5_init g _ a0 hq1) oX5_init ⟨Nat.le_of_ble_eq_true rfl, Nat.le_of_ble_eq_true rfl⟩ dX6_init_1 rfl rfl (List.mem_of_getElem? (i := 5) rfl) q374 (Nat.le_of_ble_eq_true rfl) (Nat.le_of_ble_eq_true rfl) (g_rV ?_) g_nt rfl
  obtain rfl := Option.some.inj hf
  exact g_vret dX6_init_4 rfl ⟨rfl, rfl⟩
def mdX7_init : bMD := (yX7_init, cX7_init, 1, none, [], 3, 80)
theorem oX7_init : bOkc mdX7_init 0 := ⟨by decide +kernel, ⟨by decide +kernel, by decide +kernel⟩, by decide +kernel, q399⟩
def fX7_init (w : bWl) (a0 : Nat) : Option bWl :=
  Option.bind (fX5_init w a0) fun q1 =>
  some q1
set_option maxHeartbeats 4000000 in
theorem wX7_init (g : bGh) (w : bWl) (a0 : Nat) {r : bWl} (hf : fX7_init w a0 = some r) : bM g mdX7_init w [.ref a0] (q_ none r) := by
  unfold fX7_init at hf
  change bG _ _ 0 [some (.ref a0)] []
  refine g_aload_n (pc' := 1) dX7_init_0 rfl rfl rfl ?_
  obtain ⟨q1, hq1, hf⟩ := Option.bind_eq_some_iff.mp hf
  refine g_callIN (pc' := 4) (host := "RumourBeds") (as := []) (wX5_init g _ a0 hq1) oX5_init ⟨Nat.le_of_ble_eq_true rfl, Nat.le_of_ble_eq_true rfl⟩ dX7_init_1 rfl rfl (List.mem_of_getElem? (i := 7) rfl) q374 (Nat.le_of_ble_eq_true rfl) (Nat.le_of_ble_eq_true rfl) (g_rV ?_) g_nt rfl
  obtain rfl := Option.some.inj hf
  exact g_vret dX7_init_4 rfl ⟨rfl, rfl⟩
def mdX8_init : bMD := (yX8_init, cX8_init, 1, none, [], 3, 80)
theorem oX8_init : bOkc mdX8_init 0 := ⟨by decide +kernel, ⟨by decide +kernel, by decide +kernel⟩, by decide +kernel, q407⟩
def fX8_init (w : bWl) (a0 : Nat) : Option bWl :=
  Option.bind (fX5_init w a0) fun q1 =>
  some q1
set_option maxHeartbeats 4000000 in
theorem wX8_init (g : bGh) (w : bWl) (a0 : Nat) {r : bWl} (hf : fX8_init w a0 = some r) : bM g mdX8_init w [.ref a0] (q_ none r) := by
  unfold fX8_init at hf
  change bG _ _ 0 [some (.ref a0)] []
  refine g_aload_n (pc' := 1) dX8_init_0 rfl rfl rfl ?_
  obtain ⟨q1, hq1, hf⟩ := Option.bind_eq_some_iff.mp hf
  refine g_callIN (pc' := 4) (host := "RumourBeds") (as := []) (wX5_init g _ a0 hq1) oX5_init ⟨Nat.le_of_ble_eq_true rfl, Nat.le_of_ble_eq_true rfl⟩ dX8_init_1 rfl rfl (List.mem_of_getElem? (i := 9) rfl) q374 (Nat.le_of_ble_eq_true rfl) (Nat.le_of_ble_eq_true rfl) (g_rV ?_) g_nt rfl
  obtain rfl := Option.some.inj hf
  exact g_vret dX8_init_4 rfl ⟨rfl, rfl⟩
def mdX9_init : bMD := (yX9_init, cX9_init, 1, none, [], 4, 100)
theorem oX9_init : bOkc mdX9_init 0 := ⟨by decide +kernel, ⟨by decide +kernel, by decide +kernel⟩, by decide +kernel, q414⟩
def fX9_init (w : bWl) (a0 : Nat) : Option bWl :=
  Option.bind (fX6_init w a0) fun q1 =>
  some q1
set_option maxHeartbeats 4000000 in
theorem wX9_init (g : bGh) (w : bWl) (a0 : Nat) {r : bWl} (hf : fX9_init w a0 = some r) : bM g mdX9_init w [.ref a0] (q_ none r) := by
  unfold fX9_init at hf
  change bG _ _ 0 [some (.ref a0)] []
  refine g_aload_n (pc' := 1) dX9_init_0 rfl rfl rfl ?_
  obtain ⟨q1, hq1, hf⟩ := Option.bind_eq_some_iff.mp hf
  refine g_callIN (pc' := 4) (host := "RumourBeds") (as := []) (wX6_init g _ a0 hq1) oX6_init ⟨Nat.le_of_ble_eq_true rfl, Nat.le_of_ble_eq_true rfl⟩ dX9_init_1 rfl rfl (List.mem_of_getElem? (i := 11) rfl) q391 (Nat.le_of_ble_eq_true rfl) (Nat.le_of_ble_eq_true rfl) (g_rV ?_) g_nt rfl
  obtain rfl := Option.some.inj hf
  exact g_vret dX9_init_4 rfl ⟨rfl, rfl⟩
def mdX10_init : bMD := (yX10_init, cX10_init, 1, none, [], 4, 100)
theorem oX10_init : bOkc mdX10_init 0 := ⟨by decide +kernel, ⟨by decide +kernel, by decide +kernel⟩, by decide +kernel, q421⟩
def fX10_init (w : bWl) (a0 : Nat) : Option bWl :=
  Option.bind (fX7_init w a0) fun q1 =>
  some q1
set_option maxHeartbeats 4000000 in
theorem wX10_init (g : bGh) (w : bWl) (a0 : Nat) {r : bWl} (hf : fX10_init w a0 = some r) : bM g mdX10_init w [.ref a0] (q_ none r) := by
  unfold fX10_init at hf
  change bG _ _ 0 [some (.ref a0)] []
  refine g_aload_n (pc' := 1) dX10_init_0 rfl rfl rfl ?_
  obtain ⟨q1, hq1, hf⟩ := Option.bind_eq_some_iff.mp hf
  refine g_callIN (pc' := 4) (host := "RumourBeds") (as := []) (wX7_init g _ a0 hq1) oX7_init ⟨Nat.le_of_ble_eq_true rfl, Nat.le_of_ble_eq_true rfl⟩ dX10_init_1 rfl rfl (List.mem_of_getElem? (i := 13) rfl) q398 (Nat.le_of_ble_eq_true rfl) (Nat.le_of_ble_eq_true rfl) (g_rV ?_) g_nt rfl
  obtain rfl := Option.some.inj hf
  exact g_vret dX10_init_4 rfl ⟨rfl, rfl⟩
def mdX5_kind : bMD := (yX5_kind, cX5_kind, 1, (some FieldType.int), [], 1, 12)
theorem oX5_kind : bOkc mdX5_kind 0 := ⟨by decide +kernel, ⟨by decide +kernel, by decide +kernel⟩, by decide +kernel, q456⟩
def fX5_kind (w : bWl) (a0 : Nat) : Option Int32 :=
  some 0
set_option maxHeartbeats 4000000 in
theorem wX5_kind (g : bGh) (w : bWl) (a0 : Nat) {r : Int32} (hf : fX5_kind w a0 = some r) : bM g mdX5_kind w [.ref a0] (q_ (eI r) w) := by
  unfold fX5_kind at hf
  change bG _ _ 0 [some (.ref a0)] []
  refine g_iconst (pc' := 1) (v := 0) dX5_kind_0 rfl (by decide) ?_
  obtain rfl := Option.some.inj hf
  exact g_iret dX5_kind_1 rfl rfl ⟨rfl, rfl⟩
def mdX6_kind : bMD := (yX6_kind, cX6_kind, 1, (some FieldType.int), [], 2, 32)
theorem oX6_kind : bOkc mdX6_kind 0 := ⟨by decide +kernel, ⟨by decide +kernel, by decide +kernel⟩, by decide +kernel, q438⟩
def fX6_kind (w : bWl) (a0 : Nat) : Option Int32 :=
  Option.bind (vR w a0 (fX5_kind w a0)) fun q2 =>
  some (q2 + 1)
set_option maxHeartbeats 4000000 in
theorem wX6_kind (g : bGh) (w : bWl) (a0 : Nat) {r : Int32} (hf : fX6_kind w a0 = some r) : bM g mdX6_kind w [.ref a0] (q_ (eI r) w) := by
  unfold fX6_kind at hf
  change bG _ _ 0 [some (.ref a0)] []
  refine g_aload_n (pc' := 1) dX6_kind_0 rfl rfl rfl ?_
  obtain ⟨q2, hq2, hf⟩ := Option.bind_eq_some_iff.mp hf
  obtain ⟨h3, hq2⟩ := vR_spec hq2
  refine g_callUR (pc' := 4) (as := []) (wX5_kind g _ a0 hq2) oX5_kind ⟨Nat.le_of_ble_eq_true rfl, Nat.le_of_ble_eq_true rfl⟩ dX6_kind_1 rfl h3 (by decide +kernel) q439 q435 q329 q433 (Nat.le_of_ble_eq_true rfl) (Nat.le_of_ble_eq_true rfl) (g_rI ?_) g_nt rfl
  refine g_iconst (pc' := 5) (v := 1) dX6_kind_4 rfl (by decide) ?_
  refine g_iadd (pc' := 6) dX6_kind_5 rfl ?_
  obtain rfl := Option.some.inj hf
  exact g_iret dX6_kind_6 rfl rfl ⟨rfl, rfl⟩
def mdX7_kind : bMD := (yX7_kind, cX7_kind, 1, (some FieldType.int), [], 2, 32)
theorem oX7_kind : bOkc mdX7_kind 0 := ⟨by decide +kernel, ⟨by decide +kernel, by decide +kernel⟩, by decide +kernel, q442⟩
def fX7_kind (w : bWl) (a0 : Nat) : Option Int32 :=
  Option.bind (vR w a0 (fX5_kind w a0)) fun q2 =>
  some (q2 + 2)
set_option maxHeartbeats 4000000 in
theorem wX7_kind (g : bGh) (w : bWl) (a0 : Nat) {r : Int32} (hf : fX7_kind w a0 = some r) : bM g mdX7_kind w [.ref a0] (q_ (eI r) w) := by
  unfold fX7_kind at hf
  change bG _ _ 0 [some (.ref a0)] []
  refine g_aload_n (pc' := 1) dX7_kind_0 rfl rfl rfl ?_
  obtain ⟨q2, hq2, hf⟩ := Option.bind_eq_some_iff.mp hf
  obtain ⟨h3, hq2⟩ := vR_spec hq2
  refine g_callUR (pc' := 4) (as := []) (wX5_kind g _ a0 hq2) oX5_kind ⟨Nat.le_of_ble_eq_true rfl, Nat.le_of_ble_eq_true rfl⟩ dX7_kind_1 rfl h3 (by decide +kernel) q443 q435 q402 q433 (Nat.le_of_ble_eq_true rfl) (Nat.le_of_ble_eq_true rfl) (g_rI ?_) g_nt rfl
  refine g_iconst (pc' := 5) (v := 2) dX7_kind_4 rfl (by decide) ?_
  refine g_iadd (pc' := 6) dX7_kind_5 rfl ?_
  obtain rfl := Option.some.inj hf
  exact g_iret dX7_kind_6 rfl rfl ⟨rfl, rfl⟩
def mdX8_kind : bMD := (yX8_kind, cX8_kind, 1, (some FieldType.int), [], 2, 32)
theorem oX8_kind : bOkc mdX8_kind 0 := ⟨by decide +kernel, ⟨by decide +kernel, by decide +kernel⟩, by decide +kernel, q450⟩
def fX8_kind (w : bWl) (a0 : Nat) : Option Int32 :=
  Option.bind (vR w a0 (fX5_kind w a0)) fun q2 =>
  some (q2 + 3)
set_option maxHeartbeats 4000000 in
theorem wX8_kind (g : bGh) (w : bWl) (a0 : Nat) {r : Int32} (hf : fX8_kind w a0 = some r) : bM g mdX8_kind w [.ref a0] (q_ (eI r) w) := by
  unfold fX8_kind at hf
  change bG _ _ 0 [some (.ref a0)] []
  refine g_aload_n (pc' := 1) dX8_kind_0 rfl rfl rfl ?_
  obtain ⟨q2, hq2, hf⟩ := Option.bind_eq_some_iff.mp hf
  obtain ⟨h3, hq2⟩ := vR_spec hq2
  refine g_callUR (pc' := 4) (as := []) (wX5_kind g _ a0 hq2) oX5_kind ⟨Nat.le_of_ble_eq_true rfl, Nat.le_of_ble_eq_true rfl⟩ dX8_kind_1 rfl h3 (by decide +kernel) q451 q435 q342 q433 (Nat.le_of_ble_eq_true rfl) (Nat.le_of_ble_eq_true rfl) (g_rI ?_) g_nt rfl
  refine g_iconst (pc' := 5) (v := 3) dX8_kind_4 rfl (by decide) ?_
  refine g_iadd (pc' := 6) dX8_kind_5 rfl ?_
  obtain rfl := Option.some.inj hf
  exact g_iret dX8_kind_6 rfl rfl ⟨rfl, rfl⟩
def mdX9_kind : bMD := (yX9_kind, cX9_kind, 1, (some FieldType.int), [], 3, 52)
theorem oX9_kind : bOkc mdX9_kind 0 := ⟨by decide +kernel, ⟨by decide +kernel, by decide +kernel⟩, by decide +kernel, q446⟩
def fX9_kind (w : bWl) (a0 : Nat) : Option Int32 :=
  Option.bind (vR w a0 (fX6_kind w a0)) fun q2 =>
  some (q2 + 3)
set_option maxHeartbeats 4000000 in
theorem wX9_kind (g : bGh) (w : bWl) (a0 : Nat) {r : Int32} (hf : fX9_kind w a0 = some r) : bM g mdX9_kind w [.ref a0] (q_ (eI r) w) := by
  unfold fX9_kind at hf
  change bG _ _ 0 [some (.ref a0)] []
  refine g_aload_n (pc' := 1) dX9_kind_0 rfl rfl rfl ?_
  obtain ⟨q2, hq2, hf⟩ := Option.bind_eq_some_iff.mp hf
  obtain ⟨h3, hq2⟩ := vR_spec hq2
  refine g_callUR (pc' := 4) (as := []) (wX6_kind g _ a0 hq2) oX6_kind ⟨Nat.le_of_ble_eq_true rfl, Nat.le_of_ble_eq_true rfl⟩ dX9_kind_1 rfl h3 (by decide +kernel) q447 q1547 q337 q437 (Nat.le_of_ble_eq_true rfl) (Nat.le_of_ble_eq_true rfl) (g_rI ?_) g_nt rfl
  refine g_iconst (pc' := 5) (v := 3) dX9_kind_4 rfl (by decide) ?_
  refine g_iadd (pc' := 6) dX9_kind_5 rfl ?_
  obtain rfl := Option.some.inj hf
  exact g_iret dX9_kind_6 rfl rfl ⟨rfl, rfl⟩
def mdX10_kind : bMD := (yX10_kind, cX10_kind, 1, (some FieldType.int), [], 3, 52)
theorem oX10_kind : bOkc mdX10_kind 0 := ⟨by decide +kernel, ⟨by decide +kernel, by decide +kernel⟩, by decide +kernel, q454⟩
def fX10_kind (w : bWl) (a0 : Nat) : Option Int32 :=
  Option.bind (vR w a0 (fX7_kind w a0)) fun q2 =>
  some (q2 + 3)
set_option maxHeartbeats 4000000 in
theorem wX10_kind (g : bGh) (w : bWl) (a0 : Nat) {r : Int32} (hf : fX10_kind w a0 = some r) : bM g mdX10_kind w [.ref a0] (q_ (eI r) w) := by
  unfold fX10_kind at hf
  change bG _ _ 0 [some (.ref a0)] []
  refine g_aload_n (pc' := 1) dX10_kind_0 rfl rfl rfl ?_
  obtain ⟨q2, hq2, hf⟩ := Option.bind_eq_some_iff.mp hf
  obtain ⟨h3, hq2⟩ := vR_spec hq2
  refine g_callUR (pc' := 4) (as := []) (wX7_kind g _ a0 hq2) oX7_kind ⟨Nat.le_of_ble_eq_true rfl, Nat.le_of_ble_eq_true rfl⟩ dX10_kind_1 rfl h3 (by decide +kernel) q455 q1548 q350 q441 (Nat.le_of_ble_eq_true rfl) (Nat.le_of_ble_eq_true rfl) (g_rI ?_) g_nt rfl
  refine g_iconst (pc' := 5) (v := 3) dX10_kind_4 rfl (by decide) ?_
  refine g_iadd (pc' := 6) dX10_kind_5 rfl ?_
  obtain rfl := Option.some.inj hf
  exact g_iret dX10_kind_6 rfl rfl ⟨rfl, rfl⟩
def fv_kind (w : bWl) (a : Nat) : Option Int32 := vD w a (fX5_kind w a) (fX6_kind w a) (fX7_kind w a) (fX8_kind w a) (fX9_kind w a) (fX10_kind w a)
theorem gv_kind {X : bCX} {w : bWl} {pc pc' : Nat} {L : List (Option Value)} {rest : List Value} {a idx : Nat} {r : Int32} (hd : decode (bcd X) pc = .ok (.invokevirtual idx, 3)) (hp : pc + 3 = pc') (hq : Cond.methodLink (bown X) idx mdX5_kind.1 ∈ lw_all) (hr : 4 ≤ X.2.1.2.2.2.2.2.1 ∧ 72 ≤ X.2.1.2.2.2.2.2.2) (hv : fv_kind w a = some r) (hrs : (rest.map fun v => v.category).sum ≤ 8) (k : bG X w pc' L (.int r :: rest)) : bG X w pc L (.ref a :: rest) := by
  rcases vD_spec hv with ⟨hc, h⟩ | ⟨hc, h⟩ | ⟨hc, h⟩ | ⟨hc, h⟩ | ⟨hc, h⟩ | ⟨hc, h⟩
  · exact g_callV (mx := mdX5_kind) (as := []) (wX5_kind X.1 w a h) oX5_kind ⟨Nat.le_trans (Nat.le_of_ble_eq_true rfl) hr.1, Nat.le_trans (Nat.le_of_ble_eq_true rfl) hr.2⟩ hd hp (ci := 5) rfl hc ⟨by decide +kernel, by decide +kernel⟩ oX5_kind.2.2.2 rfl hq q433 q434 q434 q433 (Nat.le_of_ble_eq_true rfl) hrs (g_rI k) g_nt rfl
  · exact g_callV (mx := mdX5_kind) (as := []) (wX6_kind X.1 w a h) oX6_kind ⟨Nat.le_trans (Nat.le_of_ble_eq_true rfl) hr.1, Nat.le_trans (Nat.le_of_ble_eq_true rfl) hr.2⟩ hd hp (ci := 6) rfl hc ⟨by decide +kernel, by decide +kernel⟩ oX5_kind.2.2.2 rfl hq q433 q434 q436 q437 (Nat.le_of_ble_eq_true rfl) hrs (g_rI k) g_nt rfl
  · exact g_callV (mx := mdX5_kind) (as := []) (wX7_kind X.1 w a h) oX7_kind ⟨Nat.le_trans (Nat.le_of_ble_eq_true rfl) hr.1, Nat.le_trans (Nat.le_of_ble_eq_true rfl) hr.2⟩ hd hp (ci := 7) rfl hc ⟨by decide +kernel, by decide +kernel⟩ oX5_kind.2.2.2 rfl hq q433 q434 q440 q441 (Nat.le_of_ble_eq_true rfl) hrs (g_rI k) g_nt rfl
  · exact g_callV (mx := mdX5_kind) (as := []) (wX8_kind X.1 w a h) oX8_kind ⟨Nat.le_trans (Nat.le_of_ble_eq_true rfl) hr.1, Nat.le_trans (Nat.le_of_ble_eq_true rfl) hr.2⟩ hd hp (ci := 8) rfl hc ⟨by decide +kernel, by decide +kernel⟩ oX5_kind.2.2.2 rfl hq q433 q434 q448 q449 (Nat.le_of_ble_eq_true rfl) hrs (g_rI k) g_nt rfl
  · exact g_callV (mx := mdX5_kind) (as := []) (wX9_kind X.1 w a h) oX9_kind ⟨Nat.le_trans (Nat.le_of_ble_eq_true rfl) hr.1, Nat.le_trans (Nat.le_of_ble_eq_true rfl) hr.2⟩ hd hp (ci := 9) rfl hc ⟨by decide +kernel, by decide +kernel⟩ oX5_kind.2.2.2 rfl hq q433 q434 q444 q445 (Nat.le_of_ble_eq_true rfl) hrs (g_rI k) g_nt rfl
  · exact g_callV (mx := mdX5_kind) (as := []) (wX10_kind X.1 w a h) oX10_kind ⟨Nat.le_trans (Nat.le_of_ble_eq_true rfl) hr.1, Nat.le_trans (Nat.le_of_ble_eq_true rfl) hr.2⟩ hd hp (ci := 10) rfl hc ⟨by decide +kernel, by decide +kernel⟩ oX5_kind.2.2.2 rfl hq q433 q434 q452 q453 (Nat.le_of_ble_eq_true rfl) hrs (g_rI k) g_nt rfl
def mdX5_is : bMD := (yX5_is, cX5_is, 2, (some FieldType.boolean), [], 4, 72)
theorem oX5_is : bOkc mdX5_is 1 := ⟨by decide +kernel, ⟨by decide +kernel, by decide +kernel⟩, by decide +kernel, q543⟩
def fX5_is (w : bWl) (a0 : Nat) (x1 : Int32) : Option Int32 :=
  (if x1 = 0 then
  some 1
else
  Option.bind (fv_kind w a0) fun v2 =>
  (if x1 = v2 then
  some 1
else
  some 0))
set_option maxHeartbeats 4000000 in
theorem wX5_is (g : bGh) (w : bWl) (a0 : Nat) (x1 : Int32) {r : Int32} (hf : fX5_is w a0 x1 = some r) : bM g mdX5_is w [.ref a0, .int x1] (q_ (eI r) w) := by
  unfold fX5_is at hf
  change bG _ _ 0 [some (.ref a0), some (.int x1)] []
  refine g_iload_n (pc' := 1) dX5_is_0 rfl rfl rfl ?_
  refine g_if_eq (tgt := 12) (pc' := 4) dX5_is_1 (by decide) rfl (fun h1 => ?_) (fun h1 => ?_)
  · replace hf := (if_pos h1).symm.trans hf
    refine g_iconst (pc' := 13) (v := 1) dX5_is_12 rfl (by decide) ?_
    refine g_goto (tgt := 17) dX5_is_13 (by decide) ?_
    obtain rfl := Option.some.inj hf
    exact g_iret dX5_is_17 rfl (by decide +kernel) ⟨rfl, rfl⟩
  · replace hf := (if_neg h1).symm.trans hf
    refine g_iload_n (pc' := 5) dX5_is_4 rfl rfl rfl ?_
    refine g_aload_n (pc' := 6) dX5_is_5 rfl rfl rfl ?_
    obtain ⟨v2, hv2, hf⟩ := Option.bind_eq_some_iff.mp hf
    refine gv_kind (pc' := 9) dX5_is_6 rfl q544 ⟨Nat.le_of_ble_eq_true rfl, Nat.le_of_ble_eq_true rfl⟩ hv2 (Nat.le_of_ble_eq_true rfl) ?_
    refine g_icmp_ne (tgt := 16) (pc' := 12) dX5_is_9 (by decide) rfl (fun h4 => ?_) (fun h4 => ?_)
    · replace hf := (if_neg h4).symm.trans hf
      refine g_iconst (pc' := 17) (v := 0) dX5_is_16 rfl (by decide) ?_
      obtain rfl := Option.some.inj hf
      exact g_iret dX5_is_17 rfl (by decide +kernel) ⟨rfl, rfl⟩
    · replace hf := (if_pos h4).symm.trans hf
      refine g_iconst (pc' := 13) (v := 1) dX5_is_12 rfl (by decide) ?_
      refine g_goto (tgt := 17) dX5_is_13 (by decide) ?_
      obtain rfl := Option.some.inj hf
      exact g_iret dX5_is_17 rfl (by decide +kernel) ⟨rfl, rfl⟩
def mdX6_is : bMD := (yX6_is, cX6_is, 2, (some FieldType.boolean), [], 5, 93)
theorem oX6_is : bOkc mdX6_is 1 := ⟨by decide +kernel, ⟨by decide +kernel, by decide +kernel⟩, by decide +kernel, q534⟩
def fX6_is (w : bWl) (a0 : Nat) (x1 : Int32) : Option Int32 :=
  (if x1 = 1 then
  some 1
else
  Option.bind (vR w a0 (fX5_is w a0 x1)) fun q3 =>
  (if q3 = 0 then
  some 0
else
  some 1))
set_option maxHeartbeats 4000000 in
theorem wX6_is (g : bGh) (w : bWl) (a0 : Nat) (x1 : Int32) {r : Int32} (hf : fX6_is w a0 x1 = some r) : bM g mdX6_is w [.ref a0, .int x1] (q_ (eI r) w) := by
  unfold fX6_is at hf
  change bG _ _ 0 [some (.ref a0), some (.int x1)] []
  refine g_iload_n (pc' := 1) dX6_is_0 rfl rfl rfl ?_
  refine g_iconst (pc' := 2) (v := 1) dX6_is_1 rfl (by decide) ?_
  refine g_icmp_eq (tgt := 13) (pc' := 5) dX6_is_2 (by decide) rfl (fun h1 => ?_) (fun h1 => ?_)
  · replace hf := (if_pos h1).symm.trans hf
    refine g_iconst (pc' := 14) (v := 1) dX6_is_13 rfl (by decide) ?_
    refine g_goto (tgt := 18) dX6_is_14 (by decide) ?_
    obtain rfl := Option.some.inj hf
    exact g_iret dX6_is_18 rfl (by decide +kernel) ⟨rfl, rfl⟩
  · replace hf := (if_neg h1).symm.trans hf
    refine g_aload_n (pc' := 6) dX6_is_5 rfl rfl rfl ?_
    refine g_iload_n (pc' := 7) dX6_is_6 rfl rfl rfl ?_
    obtain ⟨q3, hq3, hf⟩ := Option.bind_eq_some_iff.mp hf
    obtain ⟨h4, hq3⟩ := vR_spec hq3
    refine g_callUR (pc' := 10) (as := [.int x1]) (wX5_is g _ a0 x1 hq3) oX5_is ⟨Nat.le_of_ble_eq_true rfl, Nat.le_of_ble_eq_true rfl⟩ dX6_is_7 rfl h4 (by decide +kernel) q535 q531 q329 q529 (Nat.le_of_ble_eq_true rfl) (Nat.le_of_ble_eq_true rfl) (g_rI ?_) g_nt rfl
    refine g_if_eq (tgt := 17) (pc' := 13) dX6_is_10 (by decide) rfl (fun h5 => ?_) (fun h5 => ?_)
    · replace hf := (if_pos h5).symm.trans hf
      refine g_iconst (pc' := 18) (v := 0) dX6_is_17 rfl (by decide) ?_
      obtain rfl := Option.some.inj hf
      exact g_iret dX6_is_18 rfl (by decide +kernel) ⟨rfl, rfl⟩
    · replace hf := (if_neg h5).symm.trans hf
      refine g_iconst (pc' := 14) (v := 1) dX6_is_13 rfl (by decide) ?_
      refine g_goto (tgt := 18) dX6_is_14 (by decide) ?_
      obtain rfl := Option.some.inj hf
      exact g_iret dX6_is_18 rfl (by decide +kernel) ⟨rfl, rfl⟩
def mdX7_is : bMD := (yX7_is, cX7_is, 2, (some FieldType.boolean), [], 5, 93)
theorem oX7_is : bOkc mdX7_is 1 := ⟨by decide +kernel, ⟨by decide +kernel, by decide +kernel⟩, by decide +kernel, q538⟩
def fX7_is (w : bWl) (a0 : Nat) (x1 : Int32) : Option Int32 :=
  (if x1 = 2 then
  some 1
else
  Option.bind (vR w a0 (fX5_is w a0 x1)) fun q3 =>
  (if q3 = 0 then
  some 0
else
  some 1))
set_option maxHeartbeats 4000000 in
theorem wX7_is (g : bGh) (w : bWl) (a0 : Nat) (x1 : Int32) {r : Int32} (hf : fX7_is w a0 x1 = some r) : bM g mdX7_is w [.ref a0, .int x1] (q_ (eI r) w) := by
  unfold fX7_is at hf
  change bG _ _ 0 [some (.ref a0), some (.int x1)] []
  refine g_iload_n (pc' := 1) dX7_is_0 rfl rfl rfl ?_
  refine g_iconst (pc' := 2) (v := 2) dX7_is_1 rfl (by decide) ?_
  refine g_icmp_eq (tgt := 13) (pc' := 5) dX7_is_2 (by decide) rfl (fun h1 => ?_) (fun h1 => ?_)
  · replace hf := (if_pos h1).symm.trans hf
    refine g_iconst (pc' := 14) (v := 1) dX7_is_13 rfl (by decide) ?_
    refine g_goto (tgt := 18) dX7_is_14 (by decide) ?_
    obtain rfl := Option.some.inj hf
    exact g_iret dX7_is_18 rfl (by decide +kernel) ⟨rfl, rfl⟩
  · replace hf := (if_neg h1).symm.trans hf
    refine g_aload_n (pc' := 6) dX7_is_5 rfl rfl rfl ?_
    refine g_iload_n (pc' := 7) dX7_is_6 rfl rfl rfl ?_
    obtain ⟨q3, hq3, hf⟩ := Option.bind_eq_some_iff.mp hf
    obtain ⟨h4, hq3⟩ := vR_spec hq3
    refine g_callUR (pc' := 10) (as := [.int x1]) (wX5_is g _ a0 x1 hq3) oX5_is ⟨Nat.le_of_ble_eq_true rfl, Nat.le_of_ble_eq_true rfl⟩ dX7_is_7 rfl h4 (by decide +kernel) q539 q531 q402 q529 (Nat.le_of_ble_eq_true rfl) (Nat.le_of_ble_eq_true rfl) (g_rI ?_) g_nt rfl
    refine g_if_eq (tgt := 17) (pc' := 13) dX7_is_10 (by decide) rfl (fun h5 => ?_) (fun h5 => ?_)
    · replace hf := (if_pos h5).symm.trans hf
      refine g_iconst (pc' := 18) (v := 0) dX7_is_17 rfl (by decide) ?_
      obtain rfl := Option.some.inj hf
      exact g_iret dX7_is_18 rfl (by decide +kernel) ⟨rfl, rfl⟩
    · replace hf := (if_neg h5).symm.trans hf
      refine g_iconst (pc' := 14) (v := 1) dX7_is_13 rfl (by decide) ?_
      refine g_goto (tgt := 18) dX7_is_14 (by decide) ?_
      obtain rfl := Option.some.inj hf
      exact g_iret dX7_is_18 rfl (by decide +kernel) ⟨rfl, rfl⟩
def fv_is (w : bWl) (a : Nat) (x1 : Int32) : Option Int32 := vD w a (fX5_is w a x1) (fX6_is w a x1) (fX7_is w a x1) (fX5_is w a x1) (fX6_is w a x1) (fX7_is w a x1)
theorem gv_is {X : bCX} {w : bWl} {pc pc' : Nat} {L : List (Option Value)} {rest : List Value} {a idx : Nat} {x1 : Int32} {r : Int32} (hd : decode (bcd X) pc = .ok (.invokevirtual idx, 3)) (hp : pc + 3 = pc') (hq : Cond.methodLink (bown X) idx mdX5_is.1 ∈ lw_all) (hr : 6 ≤ X.2.1.2.2.2.2.2.1 ∧ 114 ≤ X.2.1.2.2.2.2.2.2) (hv : fv_is w a x1 = some r) (hrs : (rest.map fun v => v.category).sum ≤ 8) (k : bG X w pc' L (.int r :: rest)) : bG X w pc L (.int x1 :: .ref a :: rest) := by
  rcases vD_spec hv with ⟨hc, h⟩ | ⟨hc, h⟩ | ⟨hc, h⟩ | ⟨hc, h⟩ | ⟨hc, h⟩ | ⟨hc, h⟩
  · exact g_callV (mx := mdX5_is) (as := [.int x1]) (wX5_is X.1 w a x1 h) oX5_is ⟨Nat.le_trans (Nat.le_of_ble_eq_true rfl) hr.1, Nat.le_trans (Nat.le_of_ble_eq_true rfl) hr.2⟩ hd hp (ci := 5) rfl hc ⟨by decide +kernel, by decide +kernel⟩ oX5_is.2.2.2 rfl hq q529 q530 q530 q529 (Nat.le_of_ble_eq_true rfl) hrs (g_rI k) g_nt rfl
  · exact g_callV (mx := mdX5_is) (as := [.int x1]) (wX6_is X.1 w a x1 h) oX6_is ⟨Nat.le_trans (Nat.le_of_ble_eq_true rfl) hr.1, Nat.le_trans (Nat.le_of_ble_eq_true rfl) hr.2⟩ hd hp (ci := 6) rfl hc ⟨by decide +kernel, by decide +kernel⟩ oX5_is.2.2.2 rfl hq q529 q530 q532 q533 (Nat.le_of_ble_eq_true rfl) hrs (g_rI k) g_nt rfl
  · exact g_callV (mx := mdX5_is) (as := [.int x1]) (wX7_is X.1 w a x1 h) oX7_is ⟨Nat.le_trans (Nat.le_of_ble_eq_true rfl) hr.1, Nat.le_trans (Nat.le_of_ble_eq_true rfl) hr.2⟩ hd hp (ci := 7) rfl hc ⟨by decide +kernel, by decide +kernel⟩ oX5_is.2.2.2 rfl hq q529 q530 q536 q537 (Nat.le_of_ble_eq_true rfl) hrs (g_rI k) g_nt rfl
  · exact g_callV (mx := mdX5_is) (as := [.int x1]) (wX5_is X.1 w a x1 h) oX5_is ⟨Nat.le_trans (Nat.le_of_ble_eq_true rfl) hr.1, Nat.le_trans (Nat.le_of_ble_eq_true rfl) hr.2⟩ hd hp (ci := 8) rfl hc ⟨by decide +kernel, by decide +kernel⟩ oX5_is.2.2.2 rfl hq q529 q530 q541 q529 (Nat.le_of_ble_eq_true rfl) hrs (g_rI k) g_nt rfl
  · exact g_callV (mx := mdX5_is) (as := [.int x1]) (wX6_is X.1 w a x1 h) oX6_is ⟨Nat.le_trans (Nat.le_of_ble_eq_true rfl) hr.1, Nat.le_trans (Nat.le_of_ble_eq_true rfl) hr.2⟩ hd hp (ci := 9) rfl hc ⟨by decide +kernel, by decide +kernel⟩ oX5_is.2.2.2 rfl hq q529 q530 q540 q533 (Nat.le_of_ble_eq_true rfl) hrs (g_rI k) g_nt rfl
  · exact g_callV (mx := mdX5_is) (as := [.int x1]) (wX7_is X.1 w a x1 h) oX7_is ⟨Nat.le_trans (Nat.le_of_ble_eq_true rfl) hr.1, Nat.le_trans (Nat.le_of_ble_eq_true rfl) hr.2⟩ hd hp (ci := 10) rfl hc ⟨by decide +kernel, by decide +kernel⟩ oX5_is.2.2.2 rfl hq q529 q530 q542 q537 (Nat.le_of_ble_eq_true rfl) hrs (g_rI k) g_nt rfl
def mdX5_eats : bMD := (yX5_eats, cX5_eats, 1, (some FieldType.int), [], 1, 12)
theorem oX5_eats : bOkc mdX5_eats 0 := ⟨by decide +kernel, ⟨by decide +kernel, by decide +kernel⟩, by decide +kernel, q351⟩
def fX5_eats (w : bWl) (a0 : Nat) : Option Int32 :=
  Option.bind (hR w okRu a0 0) fun v1 =>
  Option.bind (aI w 0 v1 1) fun v2 =>
  some ((v2 / 10) + 1)
set_option maxHeartbeats 4000000 in
theorem wX5_eats (g : bGh) (w : bWl) (a0 : Nat) {r : Int32} (hf : fX5_eats w a0 = some r) : bM g mdX5_eats w [.ref a0] (q_ (eI r) w) := by
  unfold fX5_eats at hf
  change bG _ _ 0 [some (.ref a0)] []
  refine g_aload_n (pc' := 1) dX5_eats_0 rfl rfl rfl ?_
  obtain ⟨v1, hv1, hf⟩ := Option.bind_eq_some_iff.mp hf
  refine g_get (pc' := 4) fok_Ru (Or.inl rfl) dX5_eats_1 rfl q377 (hR_spec hv1) ?_
  refine g_iconst (pc' := 5) (v := 1) dX5_eats_4 rfl (by decide) ?_
  obtain ⟨v2, hv2, hf⟩ := Option.bind_eq_some_iff.mp hf
  refine g_iald (pc' := 6) dX5_eats_5 rfl hv2 ?_
  refine g_bipush (pc' := 8) (v := 10) dX5_eats_6 rfl (by decide) ?_
  refine g_idiv (pc' := 9) dX5_eats_8 rfl (by decide) ?_
  refine g_iconst (pc' := 10) (v := 1) dX5_eats_9 rfl (by decide) ?_
  refine g_iadd (pc' := 11) dX5_eats_10 rfl ?_
  obtain rfl := Option.some.inj hf
  exact g_iret dX5_eats_11 rfl rfl ⟨rfl, rfl⟩
def mdX6_eats : bMD := (yX6_eats, cX6_eats, 1, (some FieldType.int), [], 2, 32)
theorem oX6_eats : bOkc mdX6_eats 0 := ⟨by decide +kernel, ⟨by decide +kernel, by decide +kernel⟩, by decide +kernel, q327⟩
def fX6_eats (w : bWl) (a0 : Nat) : Option Int32 :=
  Option.bind (vR w a0 (fX5_eats w a0)) fun q2 =>
  some (2 * q2)
set_option maxHeartbeats 4000000 in
theorem wX6_eats (g : bGh) (w : bWl) (a0 : Nat) {r : Int32} (hf : fX6_eats w a0 = some r) : bM g mdX6_eats w [.ref a0] (q_ (eI r) w) := by
  unfold fX6_eats at hf
  change bG _ _ 0 [some (.ref a0)] []
  refine g_iconst (pc' := 1) (v := 2) dX6_eats_0 rfl (by decide) ?_
  refine g_aload_n (pc' := 2) dX6_eats_1 rfl rfl rfl ?_
  obtain ⟨q2, hq2, hf⟩ := Option.bind_eq_some_iff.mp hf
  obtain ⟨h3, hq2⟩ := vR_spec hq2
  refine g_callUR (pc' := 5) (as := []) (wX5_eats g _ a0 hq2) oX5_eats ⟨Nat.le_of_ble_eq_true rfl, Nat.le_of_ble_eq_true rfl⟩ dX6_eats_2 rfl h3 (by decide +kernel) q328 q324 q329 q322 (Nat.le_of_ble_eq_true rfl) (Nat.le_of_ble_eq_true rfl) (g_rI ?_) g_nt rfl
  refine g_imul (pc' := 6) dX6_eats_5 rfl ?_
  obtain rfl := Option.some.inj hf
  exact g_iret dX6_eats_6 rfl rfl ⟨rfl, rfl⟩
def mdX7_eats : bMD := (yX7_eats, cX7_eats, 1, (some FieldType.int), [], 1, 12)
theorem oX7_eats : bOkc mdX7_eats 0 := ⟨by decide +kernel, ⟨by decide +kernel, by decide +kernel⟩, by decide +kernel, q332⟩
def fX7_eats (w : bWl) (a0 : Nat) : Option Int32 :=
  some 1
set_option maxHeartbeats 4000000 in
theorem wX7_eats (g : bGh) (w : bWl) (a0 : Nat) {r : Int32} (hf : fX7_eats w a0 = some r) : bM g mdX7_eats w [.ref a0] (q_ (eI r) w) := by
  unfold fX7_eats at hf
  change bG _ _ 0 [some (.ref a0)] []
  refine g_iconst (pc' := 1) (v := 1) dX7_eats_0 rfl (by decide) ?_
  obtain rfl := Option.some.inj hf
  exact g_iret dX7_eats_1 rfl rfl ⟨rfl, rfl⟩
def mdX8_eats : bMD := (yX8_eats, cX8_eats, 1, (some FieldType.int), [], 2, 33)
theorem oX8_eats : bOkc mdX8_eats 0 := ⟨by decide +kernel, ⟨by decide +kernel, by decide +kernel⟩, by decide +kernel, q340⟩
def fX8_eats (w : bWl) (a0 : Nat) : Option Int32 :=
  Option.bind (vR w a0 (fX5_eats w a0)) fun q2 =>
  Option.bind (hR w okRu a0 0) fun v4 =>
  Option.bind (aI w 0 v4 2) fun v5 =>
  Option.bind (fJ2_max 0 (q2 - (v5 / 10))) fun q6 =>
  some q6
set_option maxHeartbeats 4000000 in
theorem wX8_eats (g : bGh) (w : bWl) (a0 : Nat) {r : Int32} (hf : fX8_eats w a0 = some r) : bM g mdX8_eats w [.ref a0] (q_ (eI r) w) := by
  unfold fX8_eats at hf
  change bG _ _ 0 [some (.ref a0)] []
  refine g_iconst (pc' := 1) (v := 0) dX8_eats_0 rfl (by decide) ?_
  refine g_aload_n (pc' := 2) dX8_eats_1 rfl rfl rfl ?_
  obtain ⟨q2, hq2, hf⟩ := Option.bind_eq_some_iff.mp hf
  obtain ⟨h3, hq2⟩ := vR_spec hq2
  refine g_callUR (pc' := 5) (as := []) (wX5_eats g _ a0 hq2) oX5_eats ⟨Nat.le_of_ble_eq_true rfl, Nat.le_of_ble_eq_true rfl⟩ dX8_eats_2 rfl h3 (by decide +kernel) q341 q324 q342 q322 (Nat.le_of_ble_eq_true rfl) (Nat.le_of_ble_eq_true rfl) (g_rI ?_) g_nt rfl
  refine g_aload_n (pc' := 6) dX8_eats_5 rfl rfl rfl ?_
  obtain ⟨v4, hv4, hf⟩ := Option.bind_eq_some_iff.mp hf
  refine g_get (pc' := 9) fok_Ru (Or.inr q379) dX8_eats_6 rfl q378 (hR_spec hv4) ?_
  refine g_iconst (pc' := 10) (v := 2) dX8_eats_9 rfl (by decide) ?_
  obtain ⟨v5, hv5, hf⟩ := Option.bind_eq_some_iff.mp hf
  refine g_iald (pc' := 11) dX8_eats_10 rfl hv5 ?_
  refine g_bipush (pc' := 13) (v := 10) dX8_eats_11 rfl (by decide) ?_
  refine g_idiv (pc' := 14) dX8_eats_13 rfl (by decide) ?_
  refine g_isub (pc' := 15) dX8_eats_14 rfl ?_
  obtain ⟨q6, hq6, hf⟩ := Option.bind_eq_some_iff.mp hf
  refine g_callS (pc' := 18) (as := [.int 0, .int (q2 - (v5 / 10))]) (wJ2_max g _ 0 (q2 - (v5 / 10)) hq6) oJ2_max ⟨Nat.le_of_ble_eq_true rfl, Nat.le_of_ble_eq_true rfl⟩ dX8_eats_15 rfl q343 q344 q90 (Nat.le_of_ble_eq_true rfl) (Nat.le_of_ble_eq_true rfl) (g_rI ?_) g_nt rfl
  obtain rfl := Option.some.inj hf
  exact g_iret dX8_eats_18 rfl rfl ⟨rfl, rfl⟩
def mdX9_eats : bMD := (yX9_eats, cX9_eats, 1, (some FieldType.int), [], 3, 52)
theorem oX9_eats : bOkc mdX9_eats 0 := ⟨by decide +kernel, ⟨by decide +kernel, by decide +kernel⟩, by decide +kernel, q335⟩
def fX9_eats (w : bWl) (a0 : Nat) : Option Int32 :=
  Option.bind (vR w a0 (fX6_eats w a0)) fun q2 =>
  some (q2 + 3)
set_option maxHeartbeats 4000000 in
theorem wX9_eats (g : bGh) (w : bWl) (a0 : Nat) {r : Int32} (hf : fX9_eats w a0 = some r) : bM g mdX9_eats w [.ref a0] (q_ (eI r) w) := by
  unfold fX9_eats at hf
  change bG _ _ 0 [some (.ref a0)] []
  refine g_aload_n (pc' := 1) dX9_eats_0 rfl rfl rfl ?_
  obtain ⟨q2, hq2, hf⟩ := Option.bind_eq_some_iff.mp hf
  obtain ⟨h3, hq2⟩ := vR_spec hq2
  refine g_callUR (pc' := 4) (as := []) (wX6_eats g _ a0 hq2) oX6_eats ⟨Nat.le_of_ble_eq_true rfl, Nat.le_of_ble_eq_true rfl⟩ dX9_eats_1 rfl h3 (by decide +kernel) q336 q1545 q337 q326 (Nat.le_of_ble_eq_true rfl) (Nat.le_of_ble_eq_true rfl) (g_rI ?_) g_nt rfl
  refine g_iconst (pc' := 5) (v := 3) dX9_eats_4 rfl (by decide) ?_
  refine g_iadd (pc' := 6) dX9_eats_5 rfl ?_
  obtain rfl := Option.some.inj hf
  exact g_iret dX9_eats_6 rfl rfl ⟨rfl, rfl⟩
def mdX10_eats : bMD := (yX10_eats, cX10_eats, 1, (some FieldType.int), [], 2, 32)
theorem oX10_eats : bOkc mdX10_eats 0 := ⟨by decide +kernel, ⟨by decide +kernel, by decide +kernel⟩, by decide +kernel, q348⟩
def fX10_eats (w : bWl) (a0 : Nat) : Option Int32 :=
  Option.bind (vR w a0 (fX7_eats w a0)) fun q2 =>
  some (q2 - 1)
set_option maxHeartbeats 4000000 in
theorem wX10_eats (g : bGh) (w : bWl) (a0 : Nat) {r : Int32} (hf : fX10_eats w a0 = some r) : bM g mdX10_eats w [.ref a0] (q_ (eI r) w) := by
  unfold fX10_eats at hf
  change bG _ _ 0 [some (.ref a0)] []
  refine g_aload_n (pc' := 1) dX10_eats_0 rfl rfl rfl ?_
  obtain ⟨q2, hq2, hf⟩ := Option.bind_eq_some_iff.mp hf
  obtain ⟨h3, hq2⟩ := vR_spec hq2
  refine g_callUR (pc' := 4) (as := []) (wX7_eats g _ a0 hq2) oX7_eats ⟨Nat.le_of_ble_eq_true rfl, Nat.le_of_ble_eq_true rfl⟩ dX10_eats_1 rfl h3 (by decide +kernel) q349 q1546 q350 q331 (Nat.le_of_ble_eq_true rfl) (Nat.le_of_ble_eq_true rfl) (g_rI ?_) g_nt rfl
  refine g_iconst (pc' := 5) (v := 1) dX10_eats_4 rfl (by decide) ?_
  refine g_isub (pc' := 6) dX10_eats_5 rfl ?_
  obtain rfl := Option.some.inj hf
  exact g_iret dX10_eats_6 rfl rfl ⟨rfl, rfl⟩
def fv_eats (w : bWl) (a : Nat) : Option Int32 := vD w a (fX5_eats w a) (fX6_eats w a) (fX7_eats w a) (fX8_eats w a) (fX9_eats w a) (fX10_eats w a)
theorem gv_eats {X : bCX} {w : bWl} {pc pc' : Nat} {L : List (Option Value)} {rest : List Value} {a idx : Nat} {r : Int32} (hd : decode (bcd X) pc = .ok (.invokevirtual idx, 3)) (hp : pc + 3 = pc') (hq : Cond.methodLink (bown X) idx mdX5_eats.1 ∈ lw_all) (hr : 4 ≤ X.2.1.2.2.2.2.2.1 ∧ 72 ≤ X.2.1.2.2.2.2.2.2) (hv : fv_eats w a = some r) (hrs : (rest.map fun v => v.category).sum ≤ 8) (k : bG X w pc' L (.int r :: rest)) : bG X w pc L (.ref a :: rest) := by
  rcases vD_spec hv with ⟨hc, h⟩ | ⟨hc, h⟩ | ⟨hc, h⟩ | ⟨hc, h⟩ | ⟨hc, h⟩ | ⟨hc, h⟩
  · exact g_callV (mx := mdX5_eats) (as := []) (wX5_eats X.1 w a h) oX5_eats ⟨Nat.le_trans (Nat.le_of_ble_eq_true rfl) hr.1, Nat.le_trans (Nat.le_of_ble_eq_true rfl) hr.2⟩ hd hp (ci := 5) rfl hc ⟨by decide +kernel, by decide +kernel⟩ oX5_eats.2.2.2 rfl hq q322 q323 q323 q322 (Nat.le_of_ble_eq_true rfl) hrs (g_rI k) g_nt rfl
  · exact g_callV (mx := mdX5_eats) (as := []) (wX6_eats X.1 w a h) oX6_eats ⟨Nat.le_trans (Nat.le_of_ble_eq_true rfl) hr.1, Nat.le_trans (Nat.le_of_ble_eq_true rfl) hr.2⟩ hd hp (ci := 6) rfl hc ⟨by decide +kernel, by decide +kernel⟩ oX5_eats.2.2.2 rfl hq q322 q323 q325 q326 (Nat.le_of_ble_eq_true rfl) hrs (g_rI k) g_nt rfl
  · exact g_callV (mx := mdX5_eats) (as := []) (wX7_eats X.1 w a h) oX7_eats ⟨Nat.le_trans (Nat.le_of_ble_eq_true rfl) hr.1, Nat.le_trans (Nat.le_of_ble_eq_true rfl) hr.2⟩ hd hp (ci := 7) rfl hc ⟨by decide +kernel, by decide +kernel⟩ oX5_eats.2.2.2 rfl hq q322 q323 q330 q331 (Nat.le_of_ble_eq_true rfl) hrs (g_rI k) g_nt rfl
  · exact g_callV (mx := mdX5_eats) (as := []) (wX8_eats X.1 w a h) oX8_eats ⟨Nat.le_trans (Nat.le_of_ble_eq_true rfl) hr.1, Nat.le_trans (Nat.le_of_ble_eq_true rfl) hr.2⟩ hd hp (ci := 8) rfl hc ⟨by decide +kernel, by decide +kernel⟩ oX5_eats.2.2.2 rfl hq q322 q323 q338 q339 (Nat.le_of_ble_eq_true rfl) hrs (g_rI k) g_nt rfl
  · exact g_callV (mx := mdX5_eats) (as := []) (wX9_eats X.1 w a h) oX9_eats ⟨Nat.le_trans (Nat.le_of_ble_eq_true rfl) hr.1, Nat.le_trans (Nat.le_of_ble_eq_true rfl) hr.2⟩ hd hp (ci := 9) rfl hc ⟨by decide +kernel, by decide +kernel⟩ oX5_eats.2.2.2 rfl hq q322 q323 q333 q334 (Nat.le_of_ble_eq_true rfl) hrs (g_rI k) g_nt rfl
  · exact g_callV (mx := mdX5_eats) (as := []) (wX10_eats X.1 w a h) oX10_eats ⟨Nat.le_trans (Nat.le_of_ble_eq_true rfl) hr.1, Nat.le_trans (Nat.le_of_ble_eq_true rfl) hr.2⟩ hd hp (ci := 10) rfl hc ⟨by decide +kernel, by decide +kernel⟩ oX5_eats.2.2.2 rfl hq q322 q323 q346 q347 (Nat.le_of_ble_eq_true rfl) hrs (g_rI k) g_nt rfl
def mdX5_grows : bMD := (yX5_grows, cX5_grows, 1, (some FieldType.int), [], 1, 12)
theorem oX5_grows : bOkc mdX5_grows 0 := ⟨by decide +kernel, ⟨by decide +kernel, by decide +kernel⟩, by decide +kernel, q497⟩
def fX5_grows (w : bWl) (a0 : Nat) : Option Int32 :=
  some 1
set_option maxHeartbeats 4000000 in
theorem wX5_grows (g : bGh) (w : bWl) (a0 : Nat) {r : Int32} (hf : fX5_grows w a0 = some r) : bM g mdX5_grows w [.ref a0] (q_ (eI r) w) := by
  unfold fX5_grows at hf
  change bG _ _ 0 [some (.ref a0)] []
  refine g_iconst (pc' := 1) (v := 1) dX5_grows_0 rfl (by decide) ?_
  obtain rfl := Option.some.inj hf
  exact g_iret dX5_grows_1 rfl rfl ⟨rfl, rfl⟩
def mdX6_grows : bMD := (yX6_grows, cX6_grows, 1, (some FieldType.int), [], 2, 32)
theorem oX6_grows : bOkc mdX6_grows 0 := ⟨by decide +kernel, ⟨by decide +kernel, by decide +kernel⟩, by decide +kernel, q486⟩
def fX6_grows (w : bWl) (a0 : Nat) : Option Int32 :=
  Option.bind (vR w a0 (fX5_grows w a0)) fun q2 =>
  Option.bind (hR w okRu a0 0) fun v4 =>
  Option.bind (aI w 0 v4 1) fun v5 =>
  some (q2 + (v5 / 10))
set_option maxHeartbeats 4000000 in
theorem wX6_grows (g : bGh) (w : bWl) (a0 : Nat) {r : Int32} (hf : fX6_grows w a0 = some r) : bM g mdX6_grows w [.ref a0] (q_ (eI r) w) := by
  unfold fX6_grows at hf
  change bG _ _ 0 [some (.ref a0)] []
  refine g_aload_n (pc' := 1) dX6_grows_0 rfl rfl rfl ?_
  obtain ⟨q2, hq2, hf⟩ := Option.bind_eq_some_iff.mp hf
  obtain ⟨h3, hq2⟩ := vR_spec hq2
  refine g_callUR (pc' := 4) (as := []) (wX5_grows g _ a0 hq2) oX5_grows ⟨Nat.le_of_ble_eq_true rfl, Nat.le_of_ble_eq_true rfl⟩ dX6_grows_1 rfl h3 (by decide +kernel) q487 q483 q329 q481 (Nat.le_of_ble_eq_true rfl) (Nat.le_of_ble_eq_true rfl) (g_rI ?_) g_nt rfl
  refine g_aload_n (pc' := 5) dX6_grows_4 rfl rfl rfl ?_
  obtain ⟨v4, hv4, hf⟩ := Option.bind_eq_some_iff.mp hf
  refine g_get (pc' := 8) fok_Ru (Or.inr q381) dX6_grows_5 rfl q380 (hR_spec hv4) ?_
  refine g_iconst (pc' := 9) (v := 1) dX6_grows_8 rfl (by decide) ?_
  obtain ⟨v5, hv5, hf⟩ := Option.bind_eq_some_iff.mp hf
  refine g_iald (pc' := 10) dX6_grows_9 rfl hv5 ?_
  refine g_bipush (pc' := 12) (v := 10) dX6_grows_10 rfl (by decide) ?_
  refine g_idiv (pc' := 13) dX6_grows_12 rfl (by decide) ?_
  refine g_iadd (pc' := 14) dX6_grows_13 rfl ?_
  obtain rfl := Option.some.inj hf
  exact g_iret dX6_grows_14 rfl rfl ⟨rfl, rfl⟩
def mdX7_grows : bMD := (yX7_grows, cX7_grows, 1, (some FieldType.int), [], 1, 12)
theorem oX7_grows : bOkc mdX7_grows 0 := ⟨by decide +kernel, ⟨by decide +kernel, by decide +kernel⟩, by decide +kernel, q490⟩
def fX7_grows (w : bWl) (a0 : Nat) : Option Int32 :=
  some 0
set_option maxHeartbeats 4000000 in
theorem wX7_grows (g : bGh) (w : bWl) (a0 : Nat) {r : Int32} (hf : fX7_grows w a0 = some r) : bM g mdX7_grows w [.ref a0] (q_ (eI r) w) := by
  unfold fX7_grows at hf
  change bG _ _ 0 [some (.ref a0)] []
  refine g_iconst (pc' := 1) (v := 0) dX7_grows_0 rfl (by decide) ?_
  obtain rfl := Option.some.inj hf
  exact g_iret dX7_grows_1 rfl rfl ⟨rfl, rfl⟩
def mdX8_grows : bMD := (yX8_grows, cX8_grows, 1, (some FieldType.int), [], 2, 32)
theorem oX8_grows : bOkc mdX8_grows 0 := ⟨by decide +kernel, ⟨by decide +kernel, by decide +kernel⟩, by decide +kernel, q494⟩
def fX8_grows (w : bWl) (a0 : Nat) : Option Int32 :=
  Option.bind (hR w okRu a0 0) fun v1 =>
  Option.bind (aI w 0 v1 2) fun v2 =>
  (if (v2 - v2 / 2 * 2) = 0 then
  Option.bind (vR w a0 (fX5_grows w a0)) fun q5 =>
  some q5
else
  some 0)
set_option maxHeartbeats 4000000 in
theorem wX8_grows (g : bGh) (w : bWl) (a0 : Nat) {r : Int32} (hf : fX8_grows w a0 = some r) : bM g mdX8_grows w [.ref a0] (q_ (eI r) w) := by
  unfold fX8_grows at hf
  change bG _ _ 0 [some (.ref a0)] []
  refine g_aload_n (pc' := 1) dX8_grows_0 rfl rfl rfl ?_
  obtain ⟨v1, hv1, hf⟩ := Option.bind_eq_some_iff.mp hf
  refine g_get (pc' := 4) fok_Ru (Or.inr q379) dX8_grows_1 rfl q378 (hR_spec hv1) ?_
  refine g_iconst (pc' := 5) (v := 2) dX8_grows_4 rfl (by decide) ?_
  obtain ⟨v2, hv2, hf⟩ := Option.bind_eq_some_iff.mp hf
  refine g_iald (pc' := 6) dX8_grows_5 rfl hv2 ?_
  refine g_iconst (pc' := 7) (v := 2) dX8_grows_6 rfl (by decide) ?_
  refine g_irem (pc' := 8) dX8_grows_7 rfl (by decide) ?_
  refine g_if_ne (tgt := 18) (pc' := 11) dX8_grows_8 (by decide) rfl (fun h3 => ?_) (fun h3 => ?_)
  · replace hf := (if_neg h3).symm.trans hf
    refine g_iconst (pc' := 19) (v := 0) dX8_grows_18 rfl (by decide) ?_
    obtain rfl := Option.some.inj hf
    exact g_iret dX8_grows_19 rfl rfl ⟨rfl, rfl⟩
  · replace hf := (if_pos h3).symm.trans hf
    refine g_aload_n (pc' := 12) dX8_grows_11 rfl rfl rfl ?_
    obtain ⟨q5, hq5, hf⟩ := Option.bind_eq_some_iff.mp hf
    obtain ⟨h6, hq5⟩ := vR_spec hq5
    refine g_callUR (pc' := 15) (as := []) (wX5_grows g _ a0 hq5) oX5_grows ⟨Nat.le_of_ble_eq_true rfl, Nat.le_of_ble_eq_true rfl⟩ dX8_grows_12 rfl h6 (by decide +kernel) q495 q483 q342 q481 (Nat.le_of_ble_eq_true rfl) (Nat.le_of_ble_eq_true rfl) (g_rI ?_) g_nt rfl
    refine g_goto (tgt := 19) dX8_grows_15 (by decide) ?_
    obtain rfl := Option.some.inj hf
    exact g_iret dX8_grows_19 rfl rfl ⟨rfl, rfl⟩
def fv_grows (w : bWl) (a : Nat) : Option Int32 := vD w a (fX5_grows w a) (fX6_grows w a) (fX7_grows w a) (fX8_grows w a) (fX6_grows w a) (fX7_grows w a)
theorem gv_grows {X : bCX} {w : bWl} {pc pc' : Nat} {L : List (Option Value)} {rest : List Value} {a idx : Nat} {r : Int32} (hd : decode (bcd X) pc = .ok (.invokevirtual idx, 3)) (hp : pc + 3 = pc') (hq : Cond.methodLink (bown X) idx mdX5_grows.1 ∈ lw_all) (hr : 3 ≤ X.2.1.2.2.2.2.2.1 ∧ 52 ≤ X.2.1.2.2.2.2.2.2) (hv : fv_grows w a = some r) (hrs : (rest.map fun v => v.category).sum ≤ 8) (k : bG X w pc' L (.int r :: rest)) : bG X w pc L (.ref a :: rest) := by
  rcases vD_spec hv with ⟨hc, h⟩ | ⟨hc, h⟩ | ⟨hc, h⟩ | ⟨hc, h⟩ | ⟨hc, h⟩ | ⟨hc, h⟩
  · exact g_callV (mx := mdX5_grows) (as := []) (wX5_grows X.1 w a h) oX5_grows ⟨Nat.le_trans (Nat.le_of_ble_eq_true rfl) hr.1, Nat.le_trans (Nat.le_of_ble_eq_true rfl) hr.2⟩ hd hp (ci := 5) rfl hc ⟨by decide +kernel, by decide +kernel⟩ oX5_grows.2.2.2 rfl hq q481 q482 q482 q481 (Nat.le_of_ble_eq_true rfl) hrs (g_rI k) g_nt rfl
  · exact g_callV (mx := mdX5_grows) (as := []) (wX6_grows X.1 w a h) oX6_grows ⟨Nat.le_trans (Nat.le_of_ble_eq_true rfl) hr.1, Nat.le_trans (Nat.le_of_ble_eq_true rfl) hr.2⟩ hd hp (ci := 6) rfl hc ⟨by decide +kernel, by decide +kernel⟩ oX5_grows.2.2.2 rfl hq q481 q482 q484 q485 (Nat.le_of_ble_eq_true rfl) hrs (g_rI k) g_nt rfl
  · exact g_callV (mx := mdX5_grows) (as := []) (wX7_grows X.1 w a h) oX7_grows ⟨Nat.le_trans (Nat.le_of_ble_eq_true rfl) hr.1, Nat.le_trans (Nat.le_of_ble_eq_true rfl) hr.2⟩ hd hp (ci := 7) rfl hc ⟨by decide +kernel, by decide +kernel⟩ oX5_grows.2.2.2 rfl hq q481 q482 q488 q489 (Nat.le_of_ble_eq_true rfl) hrs (g_rI k) g_nt rfl
  · exact g_callV (mx := mdX5_grows) (as := []) (wX8_grows X.1 w a h) oX8_grows ⟨Nat.le_trans (Nat.le_of_ble_eq_true rfl) hr.1, Nat.le_trans (Nat.le_of_ble_eq_true rfl) hr.2⟩ hd hp (ci := 8) rfl hc ⟨by decide +kernel, by decide +kernel⟩ oX5_grows.2.2.2 rfl hq q481 q482 q492 q493 (Nat.le_of_ble_eq_true rfl) hrs (g_rI k) g_nt rfl
  · exact g_callV (mx := mdX5_grows) (as := []) (wX6_grows X.1 w a h) oX6_grows ⟨Nat.le_trans (Nat.le_of_ble_eq_true rfl) hr.1, Nat.le_trans (Nat.le_of_ble_eq_true rfl) hr.2⟩ hd hp (ci := 9) rfl hc ⟨by decide +kernel, by decide +kernel⟩ oX5_grows.2.2.2 rfl hq q481 q482 q491 q485 (Nat.le_of_ble_eq_true rfl) hrs (g_rI k) g_nt rfl
  · exact g_callV (mx := mdX5_grows) (as := []) (wX7_grows X.1 w a h) oX7_grows ⟨Nat.le_trans (Nat.le_of_ble_eq_true rfl) hr.1, Nat.le_trans (Nat.le_of_ble_eq_true rfl) hr.2⟩ hd hp (ci := 10) rfl hc ⟨by decide +kernel, by decide +kernel⟩ oX5_grows.2.2.2 rfl hq q481 q482 q496 q489 (Nat.le_of_ble_eq_true rfl) hrs (g_rI k) g_nt rfl
def mdX6_needs : bMD := (yX6_needs, cX6_needs, 1, (some FieldType.int), [], 2, 32)
theorem oX6_needs : bOkc mdX6_needs 0 := ⟨by decide +kernel, ⟨by decide +kernel, by decide +kernel⟩, by decide +kernel, q461⟩
def fX6_needs (w : bWl) (a0 : Nat) : Option Int32 :=
  Option.bind (hR w okRu a0 0) fun v1 =>
  Option.bind (aI w 0 v1 1) fun v2 =>
  (if 20 ≤ v2 then
  Option.bind (vR w a0 (fX13_needs w a0)) fun v4 =>
  some v4
else
  some 1)
set_option maxHeartbeats 4000000 in
theorem wX6_needs (g : bGh) (w : bWl) (a0 : Nat) {r : Int32} (hf : fX6_needs w a0 = some r) : bM g mdX6_needs w [.ref a0] (q_ (eI r) w) := by
  unfold fX6_needs at hf
  change bG _ _ 0 [some (.ref a0)] []
  refine g_aload_n (pc' := 1) dX6_needs_0 rfl rfl rfl ?_
  obtain ⟨v1, hv1, hf⟩ := Option.bind_eq_some_iff.mp hf
  refine g_get (pc' := 4) fok_Ru (Or.inr q381) dX6_needs_1 rfl q380 (hR_spec hv1) ?_
  refine g_iconst (pc' := 5) (v := 1) dX6_needs_4 rfl (by decide) ?_
  obtain ⟨v2, hv2, hf⟩ := Option.bind_eq_some_iff.mp hf
  refine g_iald (pc' := 6) dX6_needs_5 rfl hv2 ?_
  refine g_bipush (pc' := 8) (v := 20) dX6_needs_6 rfl (by decide) ?_
  refine g_icmp_ge (tgt := 15) (pc' := 11) dX6_needs_8 (by decide) rfl (fun h3 => ?_) (fun h3 => ?_)
  · replace hf := (if_pos h3).symm.trans hf
    refine g_aload_n (pc' := 16) dX6_needs_15 rfl rfl rfl ?_
    obtain ⟨v4, hv4, hf⟩ := Option.bind_eq_some_iff.mp hf
    obtain ⟨h5, hv4⟩ := vR_spec hv4
    refine g_needsU (pc' := 19) dX6_needs_16 rfl (List.mem_of_getElem? (i := 1) rfl) q329 h5 ⟨Nat.le_of_ble_eq_true rfl, Nat.le_of_ble_eq_true rfl⟩ hv4 (Nat.le_of_ble_eq_true rfl) ?_
    obtain rfl := Option.some.inj hf
    exact g_iret dX6_needs_19 rfl rfl ⟨rfl, rfl⟩
  · replace hf := (if_neg h3).symm.trans hf
    refine g_iconst (pc' := 12) (v := 1) dX6_needs_11 rfl (by decide) ?_
    refine g_goto (tgt := 19) dX6_needs_12 (by decide) ?_
    obtain rfl := Option.some.inj hf
    exact g_iret dX6_needs_19 rfl rfl ⟨rfl, rfl⟩
def mdX7_needs : bMD := (yX7_needs, cX7_needs, 1, (some FieldType.int), [], 2, 32)
theorem oX7_needs : bOkc mdX7_needs 0 := ⟨by decide +kernel, ⟨by decide +kernel, by decide +kernel⟩, by decide +kernel, q466⟩
def fX7_needs (w : bWl) (a0 : Nat) : Option Int32 :=
  Option.bind (vR w a0 (fX13_needs w a0)) fun v1 =>
  some (2 * v1)
set_option maxHeartbeats 4000000 in
theorem wX7_needs (g : bGh) (w : bWl) (a0 : Nat) {r : Int32} (hf : fX7_needs w a0 = some r) : bM g mdX7_needs w [.ref a0] (q_ (eI r) w) := by
  unfold fX7_needs at hf
  change bG _ _ 0 [some (.ref a0)] []
  refine g_iconst (pc' := 1) (v := 2) dX7_needs_0 rfl (by decide) ?_
  refine g_aload_n (pc' := 2) dX7_needs_1 rfl rfl rfl ?_
  obtain ⟨v1, hv1, hf⟩ := Option.bind_eq_some_iff.mp hf
  obtain ⟨h2, hv1⟩ := vR_spec hv1
  refine g_needsU (pc' := 5) dX7_needs_2 rfl (List.mem_of_getElem? (i := 2) rfl) q402 h2 ⟨Nat.le_of_ble_eq_true rfl, Nat.le_of_ble_eq_true rfl⟩ hv1 (Nat.le_of_ble_eq_true rfl) ?_
  refine g_imul (pc' := 6) dX7_needs_5 rfl ?_
  obtain rfl := Option.some.inj hf
  exact g_iret dX7_needs_6 rfl rfl ⟨rfl, rfl⟩
def mdX8_needs : bMD := (yX8_needs, cX8_needs, 1, (some FieldType.int), [], 2, 32)
theorem oX8_needs : bOkc mdX8_needs 0 := ⟨by decide +kernel, ⟨by decide +kernel, by decide +kernel⟩, by decide +kernel, q474⟩
def fX8_needs (w : bWl) (a0 : Nat) : Option Int32 :=
  Option.bind (vR w a0 (fX13_needs w a0)) fun v1 =>
  some (v1 + 1)
set_option maxHeartbeats 4000000 in
theorem wX8_needs (g : bGh) (w : bWl) (a0 : Nat) {r : Int32} (hf : fX8_needs w a0 = some r) : bM g mdX8_needs w [.ref a0] (q_ (eI r) w) := by
  unfold fX8_needs at hf
  change bG _ _ 0 [some (.ref a0)] []
  refine g_aload_n (pc' := 1) dX8_needs_0 rfl rfl rfl ?_
  obtain ⟨v1, hv1, hf⟩ := Option.bind_eq_some_iff.mp hf
  obtain ⟨h2, hv1⟩ := vR_spec hv1
  refine g_needsU (pc' := 4) dX8_needs_1 rfl (List.mem_of_getElem? (i := 3) rfl) q342 h2 ⟨Nat.le_of_ble_eq_true rfl, Nat.le_of_ble_eq_true rfl⟩ hv1 (Nat.le_of_ble_eq_true rfl) ?_
  refine g_iconst (pc' := 5) (v := 1) dX8_needs_4 rfl (by decide) ?_
  refine g_iadd (pc' := 6) dX8_needs_5 rfl ?_
  obtain rfl := Option.some.inj hf
  exact g_iret dX8_needs_6 rfl rfl ⟨rfl, rfl⟩
def mdX9_needs : bMD := (yX9_needs, cX9_needs, 1, (some FieldType.int), [], 3, 52)
theorem oX9_needs : bOkc mdX9_needs 0 := ⟨by decide +kernel, ⟨by decide +kernel, by decide +kernel⟩, by decide +kernel, q469⟩
def fX9_needs (w : bWl) (a0 : Nat) : Option Int32 :=
  Option.bind (vR w a0 (fX6_needs w a0)) fun q2 =>
  some (q2 - 1)
set_option maxHeartbeats 4000000 in
theorem wX9_needs (g : bGh) (w : bWl) (a0 : Nat) {r : Int32} (hf : fX9_needs w a0 = some r) : bM g mdX9_needs w [.ref a0] (q_ (eI r) w) := by
  unfold fX9_needs at hf
  change bG _ _ 0 [some (.ref a0)] []
  refine g_aload_n (pc' := 1) dX9_needs_0 rfl rfl rfl ?_
  obtain ⟨q2, hq2, hf⟩ := Option.bind_eq_some_iff.mp hf
  obtain ⟨h3, hq2⟩ := vR_spec hq2
  refine g_callUR (pc' := 4) (as := []) (wX6_needs g _ a0 hq2) oX6_needs ⟨Nat.le_of_ble_eq_true rfl, Nat.le_of_ble_eq_true rfl⟩ dX9_needs_1 rfl h3 (by decide +kernel) q470 q1549 q337 q460 (Nat.le_of_ble_eq_true rfl) (Nat.le_of_ble_eq_true rfl) (g_rI ?_) g_nt rfl
  refine g_iconst (pc' := 5) (v := 1) dX9_needs_4 rfl (by decide) ?_
  refine g_isub (pc' := 6) dX9_needs_5 rfl ?_
  obtain rfl := Option.some.inj hf
  exact g_iret dX9_needs_6 rfl rfl ⟨rfl, rfl⟩
def mdX10_needs : bMD := (yX10_needs, cX10_needs, 1, (some FieldType.int), [], 3, 52)
theorem oX10_needs : bOkc mdX10_needs 0 := ⟨by decide +kernel, ⟨by decide +kernel, by decide +kernel⟩, by decide +kernel, q477⟩
def fX10_needs (w : bWl) (a0 : Nat) : Option Int32 :=
  Option.bind (vR w a0 (fX7_needs w a0)) fun q2 =>
  some (q2 + 1)
set_option maxHeartbeats 4000000 in
theorem wX10_needs (g : bGh) (w : bWl) (a0 : Nat) {r : Int32} (hf : fX10_needs w a0 = some r) : bM g mdX10_needs w [.ref a0] (q_ (eI r) w) := by
  unfold fX10_needs at hf
  change bG _ _ 0 [some (.ref a0)] []
  refine g_aload_n (pc' := 1) dX10_needs_0 rfl rfl rfl ?_
  obtain ⟨q2, hq2, hf⟩ := Option.bind_eq_some_iff.mp hf
  obtain ⟨h3, hq2⟩ := vR_spec hq2
  refine g_callUR (pc' := 4) (as := []) (wX7_needs g _ a0 hq2) oX7_needs ⟨Nat.le_of_ble_eq_true rfl, Nat.le_of_ble_eq_true rfl⟩ dX10_needs_1 rfl h3 (by decide +kernel) q478 q1550 q350 q465 (Nat.le_of_ble_eq_true rfl) (Nat.le_of_ble_eq_true rfl) (g_rI ?_) g_nt rfl
  refine g_iconst (pc' := 5) (v := 1) dX10_needs_4 rfl (by decide) ?_
  refine g_iadd (pc' := 6) dX10_needs_5 rfl ?_
  obtain rfl := Option.some.inj hf
  exact g_iret dX10_needs_6 rfl rfl ⟨rfl, rfl⟩
def fv_needs (w : bWl) (a : Nat) : Option Int32 := vD w a (fX13_needs w a) (fX6_needs w a) (fX7_needs w a) (fX8_needs w a) (fX9_needs w a) (fX10_needs w a)
theorem gv_needs {X : bCX} {w : bWl} {pc pc' : Nat} {L : List (Option Value)} {rest : List Value} {a idx : Nat} {r : Int32} (hd : decode (bcd X) pc = .ok (.invokevirtual idx, 3)) (hp : pc + 3 = pc') (hq : Cond.methodLink (bown X) idx ⟨"RumourBeds$Rumour", "needs", "()I"⟩ ∈ bNd) (hr : 4 ≤ X.2.1.2.2.2.2.2.1 ∧ 72 ≤ X.2.1.2.2.2.2.2.2) (hv : fv_needs w a = some r) (hrs : (rest.map fun v => v.category).sum ≤ 8) (k : bG X w pc' L (.int r :: rest)) : bG X w pc L (.ref a :: rest) := by
  rcases vD_spec hv with ⟨hc, h⟩ | ⟨hc, h⟩ | ⟨hc, h⟩ | ⟨hc, h⟩ | ⟨hc, h⟩ | ⟨hc, h⟩
  · exact g_needsD (wX13_needs X.1 w a h) ⟨Nat.le_trans (Nat.le_of_ble_eq_true rfl) hr.1, Nat.le_trans (Nat.le_of_ble_eq_true rfl) hr.2⟩ hd hp hc hq hrs k
  · exact g_needsV (ci := 6) (wX6_needs X.1 w a h) oX6_needs ⟨Nat.le_trans (Nat.le_of_ble_eq_true rfl) hr.1, Nat.le_trans (Nat.le_of_ble_eq_true rfl) hr.2⟩ hd hp rfl hc hq q459 q460 rfl (Nat.le_of_ble_eq_true rfl) hrs k
  · exact g_needsV (ci := 7) (wX7_needs X.1 w a h) oX7_needs ⟨Nat.le_trans (Nat.le_of_ble_eq_true rfl) hr.1, Nat.le_trans (Nat.le_of_ble_eq_true rfl) hr.2⟩ hd hp rfl hc hq q464 q465 rfl (Nat.le_of_ble_eq_true rfl) hrs k
  · exact g_needsV (ci := 8) (wX8_needs X.1 w a h) oX8_needs ⟨Nat.le_trans (Nat.le_of_ble_eq_true rfl) hr.1, Nat.le_trans (Nat.le_of_ble_eq_true rfl) hr.2⟩ hd hp rfl hc hq q472 q473 rfl (Nat.le_of_ble_eq_true rfl) hrs k
  · exact g_needsV (ci := 9) (wX9_needs X.1 w a h) oX9_needs ⟨Nat.le_trans (Nat.le_of_ble_eq_true rfl) hr.1, Nat.le_trans (Nat.le_of_ble_eq_true rfl) hr.2⟩ hd hp rfl hc hq q467 q468 rfl (Nat.le_of_ble_eq_true rfl) hrs k
  · exact g_needsV (ci := 10) (wX10_needs X.1 w a h) oX10_needs ⟨Nat.le_trans (Nat.le_of_ble_eq_true rfl) hr.1, Nat.le_trans (Nat.le_of_ble_eq_true rfl) hr.2⟩ hd hp rfl hc hq q475 q476 rfl (Nat.le_of_ble_eq_true rfl) hrs k
def mdX5_like : bMD := (yX5_like, cX5_like, 2, none, [], 2, 60)
theorem oX5_like : bOkc mdX5_like 1 := ⟨by decide +kernel, ⟨by decide +kernel, by decide +kernel⟩, by decide +kernel, q520⟩
def fX5_like (w : bWl) (a0 : Nat) (a1 : Nat) : Option bWl :=
  Option.bind (hR w okRu a1 0) fun v1 =>
  Option.bind (hR w okRu a0 0) fun v2 =>
  Option.bind (hR w okRu a0 0) fun v3 =>
  Option.bind (aL w v3) fun v4 =>
  Option.bind (cpy w v1 0 v2 0 v4) fun w5 =>
  some w5
set_option maxHeartbeats 4000000 in
theorem wX5_like (g : bGh) (w : bWl) (a0 : Nat) (a1 : Nat) {r : bWl} (hf : fX5_like w a0 a1 = some r) : bM g mdX5_like w [.ref a0, .ref a1] (q_ none r) := by
  unfold fX5_like at hf
  change bG _ _ 0 [some (.ref a0), some (.ref a1)] []
  refine g_aload_n (pc' := 1) dX5_like_0 rfl rfl rfl ?_
  obtain ⟨v1, hv1, hf⟩ := Option.bind_eq_some_iff.mp hf
  refine g_get (pc' := 4) fok_Ru (Or.inl rfl) dX5_like_1 rfl q377 (hR_spec hv1) ?_
  refine g_iconst (pc' := 5) (v := 0) dX5_like_4 rfl (by decide) ?_
  refine g_aload_n (pc' := 6) dX5_like_5 rfl rfl rfl ?_
  obtain ⟨v2, hv2, hf⟩ := Option.bind_eq_some_iff.mp hf
  refine g_get (pc' := 9) fok_Ru (Or.inl rfl) dX5_like_6 rfl q377 (hR_spec hv2) ?_
  refine g_iconst (pc' := 10) (v := 0) dX5_like_9 rfl (by decide) ?_
  refine g_aload_n (pc' := 11) dX5_like_10 rfl rfl rfl ?_
  obtain ⟨v3, hv3, hf⟩ := Option.bind_eq_some_iff.mp hf
  refine g_get (pc' := 14) fok_Ru (Or.inl rfl) dX5_like_11 rfl q377 (hR_spec hv3) ?_
  obtain ⟨v4, hv4, hf⟩ := Option.bind_eq_some_iff.mp hf
  refine g_alen (pc' := 15) dX5_like_14 rfl hv4 ?_
  obtain ⟨w5, hw5, hf⟩ := Option.bind_eq_some_iff.mp hf
  refine g_copy (pc' := 18) dX5_like_15 rfl q521 q523 q522 q97 ⟨Nat.le_of_ble_eq_true rfl, Nat.le_of_ble_eq_true rfl⟩ (Nat.le_of_ble_eq_true rfl) hw5 ?_
  obtain rfl := Option.some.inj hf
  exact g_vret dX5_like_18 rfl ⟨rfl, rfl⟩
def mdX5_isIn : bMD := (yX5_isIn, cX5_isIn, 1, (some FieldType.boolean), [], 1, 12)
theorem oX5_isIn : bOkc mdX5_isIn 0 := ⟨by decide +kernel, ⟨by decide +kernel, by decide +kernel⟩, by decide +kernel, q577⟩
def fX5_isIn (w : bWl) (a0 : Nat) : Option Int32 :=
  Option.bind (hR w okRu a0 0) fun v1 =>
  Option.bind (aI w 0 v1 3) fun v2 =>
  (if v2 < 0 then
  some 0
else
  some 1)
set_option maxHeartbeats 4000000 in
theorem wX5_isIn (g : bGh) (w : bWl) (a0 : Nat) {r : Int32} (hf : fX5_isIn w a0 = some r) : bM g mdX5_isIn w [.ref a0] (q_ (eI r) w) := by
  unfold fX5_isIn at hf
  change bG _ _ 0 [some (.ref a0)] []
  refine g_aload_n (pc' := 1) dX5_isIn_0 rfl rfl rfl ?_
  obtain ⟨v1, hv1, hf⟩ := Option.bind_eq_some_iff.mp hf
  refine g_get (pc' := 4) fok_Ru (Or.inl rfl) dX5_isIn_1 rfl q377 (hR_spec hv1) ?_
  refine g_iconst (pc' := 5) (v := 3) dX5_isIn_4 rfl (by decide) ?_
  obtain ⟨v2, hv2, hf⟩ := Option.bind_eq_some_iff.mp hf
  refine g_iald (pc' := 6) dX5_isIn_5 rfl hv2 ?_
  refine g_if_lt (tgt := 13) (pc' := 9) dX5_isIn_6 (by decide) rfl (fun h3 => ?_) (fun h3 => ?_)
  · replace hf := (if_pos h3).symm.trans hf
    refine g_iconst (pc' := 14) (v := 0) dX5_isIn_13 rfl (by decide) ?_
    obtain rfl := Option.some.inj hf
    exact g_iret dX5_isIn_14 rfl (by decide +kernel) ⟨rfl, rfl⟩
  · replace hf := (if_neg h3).symm.trans hf
    refine g_iconst (pc' := 10) (v := 1) dX5_isIn_9 rfl (by decide) ?_
    refine g_goto (tgt := 14) dX5_isIn_10 (by decide) ?_
    obtain rfl := Option.some.inj hf
    exact g_iret dX5_isIn_14 rfl (by decide +kernel) ⟨rfl, rfl⟩
def mdX5_swells : bMD := (yX5_swells, cX5_swells, 2, none, [], 2, 33)
theorem oX5_swells : bOkc mdX5_swells 1 := ⟨by decide +kernel, ⟨by decide +kernel, by decide +kernel⟩, by decide +kernel, q617⟩
def fX5_swells (w : bWl) (a0 : Nat) (x1 : Int32) : Option bWl :=
  Option.bind (hR w okRu a0 0) fun v1 =>
  Option.bind (hR w okRu a0 0) fun v2 =>
  Option.bind (aI w 0 v2 1) fun v3 =>
  Option.bind (fJ2_min 99 (v3 + x1)) fun q4 =>
  Option.bind (sI w 0 v1 1 q4) fun w5 =>
  some w5
set_option maxHeartbeats 4000000 in
theorem wX5_swells (g : bGh) (w : bWl) (a0 : Nat) (x1 : Int32) {r : bWl} (hf : fX5_swells w a0 x1 = some r) : bM g mdX5_swells w [.ref a0, .int x1] (q_ none r) := by
  unfold fX5_swells at hf
  change bG _ _ 0 [some (.ref a0), some (.int x1)] []
  refine g_aload_n (pc' := 1) dX5_swells_0 rfl rfl rfl ?_
  obtain ⟨v1, hv1, hf⟩ := Option.bind_eq_some_iff.mp hf
  refine g_get (pc' := 4) fok_Ru (Or.inl rfl) dX5_swells_1 rfl q377 (hR_spec hv1) ?_
  refine g_iconst (pc' := 5) (v := 1) dX5_swells_4 rfl (by decide) ?_
  refine g_bipush (pc' := 7) (v := 99) dX5_swells_5 rfl (by decide) ?_
  refine g_aload_n (pc' := 8) dX5_swells_7 rfl rfl rfl ?_
  obtain ⟨v2, hv2, hf⟩ := Option.bind_eq_some_iff.mp hf
  refine g_get (pc' := 11) fok_Ru (Or.inl rfl) dX5_swells_8 rfl q377 (hR_spec hv2) ?_
  refine g_iconst (pc' := 12) (v := 1) dX5_swells_11 rfl (by decide) ?_
  obtain ⟨v3, hv3, hf⟩ := Option.bind_eq_some_iff.mp hf
  refine g_iald (pc' := 13) dX5_swells_12 rfl hv3 ?_
  refine g_iload_n (pc' := 14) dX5_swells_13 rfl rfl rfl ?_
  refine g_iadd (pc' := 15) dX5_swells_14 rfl ?_
  obtain ⟨q4, hq4, hf⟩ := Option.bind_eq_some_iff.mp hf
  refine g_callS (pc' := 18) (as := [.int 99, .int (v3 + x1)]) (wJ2_min g _ 99 (v3 + x1) hq4) oJ2_min ⟨Nat.le_of_ble_eq_true rfl, Nat.le_of_ble_eq_true rfl⟩ dX5_swells_15 rfl q618 q619 q90 (Nat.le_of_ble_eq_true rfl) (Nat.le_of_ble_eq_true rfl) (g_rI ?_) g_nt rfl
  obtain ⟨w5, hw5, hf⟩ := Option.bind_eq_some_iff.mp hf
  refine g_iast (pc' := 19) dX5_swells_18 rfl hw5 ?_
  obtain rfl := Option.some.inj hf
  exact g_vret dX5_swells_19 rfl ⟨rfl, rfl⟩
