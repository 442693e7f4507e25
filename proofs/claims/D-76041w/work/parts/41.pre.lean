/-! printed by tools/gen.py: 41.pre -/
set_option maxRecDepth 100000
def mdX4_init : bMD := (yX4_init, cX4_init, 2, none, [], 4, 95)
theorem oX4_init : bOkc mdX4_init 1 := ⟨by decide +kernel, ⟨by decide +kernel, by decide +kernel⟩, by decide +kernel, q261⟩
def fX4_init (w : bWl) (a0 : Nat) (x1 : Int32) : Option bWl :=
  vE w a0 (Option.bind (hP w (okc 4) a0 6 (.int x1)) fun w2 =>
  some w2)
set_option maxHeartbeats 4000000 in
theorem wX4_init (g : bGh) (w : bWl) (a0 : Nat) (x1 : Int32) {r : bWl} (hf : fX4_init w a0 x1 = some r) : bM g mdX4_init w [.ref a0, .int x1] (q_ none r) := by
  unfold fX4_init at hf
  change bG _ _ 0 [some (.ref a0), some (.int x1)] []
  refine g_aload_n (pc' := 1) dX4_init_0 rfl rfl rfl ?_
  refine g_null (pc' := 2) dX4_init_1 rfl ?_
  refine g_null (pc' := 3) dX4_init_2 rfl ?_
  refine g_iconst (pc' := 4) (v := 0) dX4_init_3 rfl (by decide) ?_
  refine g_iconst (pc' := 5) (v := 0) dX4_init_4 rfl (by decide) ?_
  obtain ⟨h1, hf⟩ := vE_spec hf
  refine g_exc (pc' := 8) dX4_init_5 rfl q262 ⟨Nat.le_of_ble_eq_true rfl, Nat.le_of_ble_eq_true rfl⟩ h1 (Nat.le_of_ble_eq_true rfl) ?_
  refine g_aload_n (pc' := 9) dX4_init_8 rfl rfl rfl ?_
  refine g_iload_n (pc' := 10) dX4_init_9 rfl rfl rfl ?_
  obtain ⟨w2, hw2, hf⟩ := Option.bind_eq_some_iff.mp hf
  refine g_putF (ty := .int) (pc' := 13) (fok_4 6 (by decide)) (Or.inl rfl) dX4_init_10 rfl q268 rfl rfl (by decide +kernel) rfl rfl hw2 ?_
  obtain rfl := Option.some.inj hf
  exact g_vret dX4_init_13 rfl ⟨rfl, rfl⟩
def mdX4_answer : bMD := (yX4_answer, cX4_answer, 1, (some FieldType.int), [], 1, 12)
theorem oX4_answer : bOkc mdX4_answer 0 := ⟨by decide +kernel, ⟨by decide +kernel, by decide +kernel⟩, by decide +kernel, q296⟩
def fX4_answer (w : bWl) (a0 : Nat) : Option Int32 :=
  Option.bind (hI w (okc 4) a0 6) fun v1 =>
  some ((-1000000001) - v1)
set_option maxHeartbeats 4000000 in
theorem wX4_answer (g : bGh) (w : bWl) (a0 : Nat) {r : Int32} (hf : fX4_answer w a0 = some r) : bM g mdX4_answer w [.ref a0] (q_ (eI r) w) := by
  unfold fX4_answer at hf
  change bG _ _ 0 [some (.ref a0)] []
  refine g_ldc (pc' := 2) dX4_answer_0 rfl q297 ?_
  refine g_aload_n (pc' := 3) dX4_answer_2 rfl rfl rfl ?_
  obtain ⟨v1, hv1, hf⟩ := Option.bind_eq_some_iff.mp hf
  refine g_get (pc' := 6) (fok_4 6 (by decide)) (Or.inl rfl) dX4_answer_3 rfl q268 (hI_spec hv1) ?_
  refine g_isub (pc' := 7) dX4_answer_6 rfl ?_
  obtain rfl := Option.some.inj hf
  exact g_iret dX4_answer_7 rfl rfl ⟨rfl, rfl⟩
def mdX12_init : bMD := (yX12_init, cX12_init, 2, none, [], 4, 95)
theorem oX12_init : bOkc mdX12_init 1 := ⟨by decide +kernel, ⟨by decide +kernel, by decide +kernel⟩, by decide +kernel, q906⟩
def fX12_init (w : bWl) (a0 : Nat) (x1 : Int32) : Option bWl :=
  vE w a0 (Option.bind (hP w (okc 12) a0 6 (.int x1)) fun w2 =>
  some w2)
set_option maxHeartbeats 4000000 in
theorem wX12_init (g : bGh) (w : bWl) (a0 : Nat) (x1 : Int32) {r : bWl} (hf : fX12_init w a0 x1 = some r) : bM g mdX12_init w [.ref a0, .int x1] (q_ none r) := by
  unfold fX12_init at hf
  change bG _ _ 0 [some (.ref a0), some (.int x1)] []
  refine g_aload_n (pc' := 1) dX12_init_0 rfl rfl rfl ?_
  refine g_null (pc' := 2) dX12_init_1 rfl ?_
  refine g_null (pc' := 3) dX12_init_2 rfl ?_
  refine g_iconst (pc' := 4) (v := 0) dX12_init_3 rfl (by decide) ?_
  refine g_iconst (pc' := 5) (v := 0) dX12_init_4 rfl (by decide) ?_
  obtain ⟨h1, hf⟩ := vE_spec hf
  refine g_exc (pc' := 8) dX12_init_5 rfl q907 ⟨Nat.le_of_ble_eq_true rfl, Nat.le_of_ble_eq_true rfl⟩ h1 (Nat.le_of_ble_eq_true rfl) ?_
  refine g_aload_n (pc' := 9) dX12_init_8 rfl rfl rfl ?_
  refine g_iload_n (pc' := 10) dX12_init_9 rfl rfl rfl ?_
  obtain ⟨w2, hw2, hf⟩ := Option.bind_eq_some_iff.mp hf
  refine g_putF (ty := .int) (pc' := 13) (fok_12 6 (by decide)) (Or.inl rfl) dX12_init_10 rfl q908 rfl rfl (by decide +kernel) rfl rfl hw2 ?_
  obtain rfl := Option.some.inj hf
  exact g_vret dX12_init_13 rfl ⟨rfl, rfl⟩
def mdX2_init : bMD := (yX2_init, cX2_init, 1, none, [], 2, 60)
theorem oX2_init : bOkc mdX2_init 0 := ⟨by decide +kernel, ⟨by decide +kernel, by decide +kernel⟩, by decide +kernel, q127⟩
def fX2_init (w : bWl) (a0 : Nat) : Option Unit :=
  some ()
set_option maxHeartbeats 4000000 in
theorem wX2_init (g : bGh) (w : bWl) (a0 : Nat) {r : Unit} (hf : fX2_init w a0 = some r) : bM g mdX2_init w [.ref a0] (q_ none w) := by
  unfold fX2_init at hf
  change bG _ _ 0 [some (.ref a0)] []
  refine g_aload_n (pc' := 1) dX2_init_0 rfl rfl rfl ?_
  refine g_obj (pc' := 4) dX2_init_1 rfl q128 ⟨Nat.le_of_ble_eq_true rfl, Nat.le_of_ble_eq_true rfl⟩ (Nat.le_of_ble_eq_true rfl) ?_
  obtain rfl := Option.some.inj hf
  exact g_vret dX2_init_4 rfl ⟨rfl, rfl⟩
def mdX0_need : bMD := (yX0_need, cX0_need, 2, none, [], 5, 116)
theorem oX0_need : bOkc mdX0_need 2 := ⟨by decide +kernel, ⟨by decide +kernel, by decide +kernel⟩, by decide +kernel, q221⟩
def fX0_need (w : bWl) (x0 : Int32) (x1 : Int32) : Option ((Unit ⊕ Nat) × bWl) :=
  (if x0 = 0 then
  Option.bind (nC w (.inr (4, dX4)) 7) fun v2 =>
  Option.bind (fX4_init v2.2 v2.1 x1) fun q3 =>
  some (Sum.inr v2.1, q3)
else
  some (Sum.inl (), w))
set_option maxHeartbeats 4000000 in
theorem wX0_need (g : bGh) (w : bWl) (x0 : Int32) (x1 : Int32) {r : ((Unit ⊕ Nat) × bWl)} (hf : fX0_need w x0 x1 = some r) : bM g mdX0_need w [.int x0, .int x1] (qX eV r.1 r.2) := by
  unfold fX0_need at hf
  change bG _ _ 0 [some (.int x0), some (.int x1)] []
  refine g_iload_n (pc' := 1) dX0_need_0 rfl rfl rfl ?_
  refine g_if_ne (tgt := 13) (pc' := 4) dX0_need_1 (by decide) rfl (fun h1 => ?_) (fun h1 => ?_)
  · replace hf := (if_neg h1).symm.trans hf
    obtain rfl := Option.some.inj hf
    exact g_vret dX0_need_13 rfl ⟨rfl, rfl⟩
  · replace hf := (if_pos h1).symm.trans hf
    obtain ⟨v2, hv2, hf⟩ := Option.bind_eq_some_iff.mp hf
    refine g_new (ci := 4) (pc' := 7) rfl in_X4 tyX4_ok dX4_ok dX0_need_4 rfl q204 q222 q89 hv2 ?_
    refine g_dup (pc' := 8) dX0_need_7 rfl rfl ?_
    refine g_iload_n (pc' := 9) dX0_need_8 rfl rfl rfl ?_
    obtain ⟨q3, hq3, hf⟩ := Option.bind_eq_some_iff.mp hf
    refine g_callI (pc' := 12) (as := [.int x1]) (wX4_init g _ v2.1 x1 hq3) oX4_init ⟨Nat.le_of_ble_eq_true rfl, Nat.le_of_ble_eq_true rfl⟩ dX0_need_9 rfl rfl q259 q260 (Nat.le_of_ble_eq_true rfl) (Nat.le_of_ble_eq_true rfl) (g_rV ?_) g_nt rfl
    refine g_athrow dX0_need_12 ?_
    obtain rfl := Option.some.inj hf
    exact t_leave rfl ⟨rfl, rfl⟩
def mdX0_in : bMD := (yX0_in, cX0_in, 6, (some FieldType.boolean), [], 1, 12)
theorem oX0_in : bOkc mdX0_in 3 := ⟨by decide +kernel, ⟨by decide +kernel, by decide +kernel⟩, by decide +kernel, q211⟩
def fX0_in (x0 : Int64) (x2 : Int64) (x4 : Int64) : Option Int32 :=
  (if (lg_cmp x0 x2) < 0 then
  some 0
else
  (if 0 < (lg_cmp x0 x4) then
  some 0
else
  some 1))
set_option maxHeartbeats 4000000 in
theorem wX0_in (g : bGh) (w : bWl) (x0 : Int64) (x2 : Int64) (x4 : Int64) {r : Int32} (hf : fX0_in x0 x2 x4 = some r) : bM g mdX0_in w [.long x0, .long x2, .long x4] (q_ (eI r) w) := by
  unfold fX0_in at hf
  change bG _ _ 0 [some (.long x0), none, some (.long x2), none, some (.long x4), none] []
  refine g_lload_n (pc' := 1) dX0_in_0 rfl rfl rfl ?_
  refine g_lload_n (pc' := 2) dX0_in_1 rfl rfl rfl ?_
  refine g_lcmp (pc' := 3) dX0_in_2 rfl ?_
  refine g_if_lt (tgt := 17) (pc' := 6) dX0_in_3 (by decide) rfl (fun h1 => ?_) (fun h1 => ?_)
  · replace hf := (if_pos h1).symm.trans hf
    refine g_iconst (pc' := 18) (v := 0) dX0_in_17 rfl (by decide) ?_
    obtain rfl := Option.some.inj hf
    exact g_iret dX0_in_18 rfl (by decide +kernel) ⟨rfl, rfl⟩
  · replace hf := (if_neg h1).symm.trans hf
    refine g_lload_n (pc' := 7) dX0_in_6 rfl rfl rfl ?_
    refine g_lload (pc' := 9) dX0_in_7 rfl rfl ?_
    refine g_lcmp (pc' := 10) dX0_in_9 rfl ?_
    refine g_if_gt (tgt := 17) (pc' := 13) dX0_in_10 (by decide) rfl (fun h2 => ?_) (fun h2 => ?_)
    · replace hf := (if_pos h2).symm.trans hf
      refine g_iconst (pc' := 18) (v := 0) dX0_in_17 rfl (by decide) ?_
      obtain rfl := Option.some.inj hf
      exact g_iret dX0_in_18 rfl (by decide +kernel) ⟨rfl, rfl⟩
    · replace hf := (if_neg h2).symm.trans hf
      refine g_iconst (pc' := 14) (v := 1) dX0_in_13 rfl (by decide) ?_
      refine g_goto (tgt := 18) dX0_in_14 (by decide) ?_
      obtain rfl := Option.some.inj hf
      exact g_iret dX0_in_18 rfl (by decide +kernel) ⟨rfl, rfl⟩
def mdX0_has : bMD := (yX0_has, cX0_has, 2, (some FieldType.boolean), [], 1, 12)
theorem oX0_has : bOkc mdX0_has 2 := ⟨by decide +kernel, ⟨by decide +kernel, by decide +kernel⟩, by decide +kernel, q584⟩
def fX0_has (x0 : Int32) (x1 : Int32) : Option Int32 :=
  (if ((x0 >>> (x1 &&& 31)) &&& 1) = 1 then
  some 1
else
  some 0)
set_option maxHeartbeats 4000000 in
theorem wX0_has (g : bGh) (w : bWl) (x0 : Int32) (x1 : Int32) {r : Int32} (hf : fX0_has x0 x1 = some r) : bM g mdX0_has w [.int x0, .int x1] (q_ (eI r) w) := by
  unfold fX0_has at hf
  change bG _ _ 0 [some (.int x0), some (.int x1)] []
  refine g_iload_n (pc' := 1) dX0_has_0 rfl rfl rfl ?_
  refine g_iload_n (pc' := 2) dX0_has_1 rfl rfl rfl ?_
  refine g_ishr (pc' := 3) dX0_has_2 rfl ?_
  refine g_iconst (pc' := 4) (v := 1) dX0_has_3 rfl (by decide) ?_
  refine g_iand (pc' := 5) dX0_has_4 rfl ?_
  refine g_iconst (pc' := 6) (v := 1) dX0_has_5 rfl (by decide) ?_
  refine g_icmp_ne (tgt := 13) (pc' := 9) dX0_has_6 (by decide) rfl (fun h1 => ?_) (fun h1 => ?_)
  · replace hf := (if_neg h1).symm.trans hf
    refine g_iconst (pc' := 14) (v := 0) dX0_has_13 rfl (by decide) ?_
    obtain rfl := Option.some.inj hf
    exact g_iret dX0_has_14 rfl (by decide +kernel) ⟨rfl, rfl⟩
  · replace hf := (if_pos h1).symm.trans hf
    refine g_iconst (pc' := 10) (v := 1) dX0_has_9 rfl (by decide) ?_
    refine g_goto (tgt := 14) dX0_has_10 (by decide) ?_
    obtain rfl := Option.some.inj hf
    exact g_iret dX0_has_14 rfl (by decide +kernel) ⟨rfl, rfl⟩
def mdX0_slots : bMD := (yX0_slots, cX0_slots, 3, (some (FieldType.array (FieldType.object "RumourBeds$Slot"))), [], 3, 80)
theorem oX0_slots : bOkc mdX0_slots 1 := ⟨by decide +kernel, ⟨by decide +kernel, by decide +kernel⟩, by decide +kernel, q121⟩
def fX0_slots_l7 (y0 : Int32) (b1 : Nat) (rec : (Int32 × bWl) → Option (Int32 × bWl)) (s : Int32 × bWl) : Option (Int32 × bWl) :=
  (if y0 ≤ s.1 then
  some (s.1, s.2)
else
  Option.bind (nC s.2 (.inr (2, dX2)) 1) fun v3 =>
  Option.bind (fX2_init v3.2 v3.1) fun q4 =>
  Option.bind (sR v3.2 b1 s.1 v3.1) fun w5 =>
  rec ((s.1 + 1), w5))
def fX0_slots (w : bWl) (x0 : Int32) : Option (Nat × bWl) :=
  Option.bind (nR0 w x0) fun v1 =>
  Option.bind (lpF (fX0_slots_l7 x0 v1.1) FU (0, v1.2)) fun q6 =>
  some (v1.1, q6.2)
set_option maxHeartbeats 4000000 in
theorem wX0_slots_l7 {g : bGh} {n0 u0 : Nat} {Q : Outcome → bWl → Prop} (y0 : Int32) (b1 : Nat) : ∀ (n : Nat) (s : Int32 × bWl) (r : (Int32 × bWl)), lpF (fX0_slots_l7 y0 b1) n s = some r → bG (g, mdX0_slots, n0, u0, Q) r.2 28 [some (.int y0), some (.ref b1), some (.int r.1)] [] → bG (g, mdX0_slots, n0, u0, Q) s.2 7 [some (.int y0), some (.ref b1), some (.int s.1)] [] := by
  intro n
  induction n with
  | zero => intro s r hf; cases hf
  | succ n ih =>
    intro s r hf kx
    rw [lpF_s] at hf
    unfold fX0_slots_l7 at hf
    refine g_iload_n (pc' := 8) dX0_slots_7 rfl rfl rfl ?_
    refine g_iload_n (pc' := 9) dX0_slots_8 rfl rfl rfl ?_
    refine g_icmp_ge (tgt := 28) (pc' := 12) dX0_slots_9 (by decide) rfl (fun h2 => ?_) (fun h2 => ?_)
    · replace hf := (if_pos h2).symm.trans hf
      obtain rfl := Option.some.inj hf
      exact kx
    · replace hf := (if_neg h2).symm.trans hf
      refine g_aload_n (pc' := 13) dX0_slots_12 rfl rfl rfl ?_
      refine g_iload_n (pc' := 14) dX0_slots_13 rfl rfl rfl ?_
      obtain ⟨v3, hv3, hf⟩ := Option.bind_eq_some_iff.mp hf
      refine g_new (ci := 2) (pc' := 17) rfl in_X2 tyX2_ok dX2_ok dX0_slots_14 rfl q122 q124 q85 hv3 ?_
      refine g_dup (pc' := 18) dX0_slots_17 rfl rfl ?_
      obtain ⟨q4, hq4, hf⟩ := Option.bind_eq_some_iff.mp hf
      refine g_callIN (pc' := 21) (host := "RumourBeds") (as := []) (wX2_init g _ v3.1 hq4) oX2_init ⟨Nat.le_of_ble_eq_true rfl, Nat.le_of_ble_eq_true rfl⟩ dX0_slots_18 rfl rfl (List.mem_of_getElem? (i := 1) rfl) q126 (Nat.le_of_ble_eq_true rfl) (Nat.le_of_ble_eq_true rfl) (g_rV ?_) g_nt rfl
      obtain ⟨w5, hw5, hf⟩ := Option.bind_eq_some_iff.mp hf
      refine g_aast (pc' := 22) dX0_slots_21 rfl hw5 ?_
      refine g_iinc (pc' := 25) (v := s.1 + 1) (L' := [some (.int y0), some (.ref b1), some (.int (s.1 + 1))]) dX0_slots_22 rfl rfl rfl (Nat.le_of_ble_eq_true rfl) rfl rfl ?_
      refine g_goto (tgt := 7) dX0_slots_25 (by decide) ?_
      exact ih _ r hf kx
set_option maxHeartbeats 4000000 in
theorem wX0_slots (g : bGh) (w : bWl) (x0 : Int32) {r : (Nat × bWl)} (hf : fX0_slots w x0 = some r) : bM g mdX0_slots w [.int x0] (q_ (eA r.1) r.2) := by
  unfold fX0_slots at hf
  change bG _ _ 0 [some (.int x0)] []
  refine g_iload_n (pc' := 1) dX0_slots_0 rfl rfl rfl ?_
  obtain ⟨v1, hv1, hf⟩ := Option.bind_eq_some_iff.mp hf
  refine g_anew (pc' := 4) dX0_slots_1 rfl q122 hv1 ?_
  refine g_astore_n (pc' := 5) (L' := [some (.int x0), some (.ref v1.1)]) dX0_slots_4 rfl rfl (Nat.le_of_ble_eq_true rfl) rfl rfl ?_
  refine g_iconst (pc' := 6) (v := 0) dX0_slots_5 rfl (by decide) ?_
  refine g_istore_n (pc' := 7) (L' := [some (.int x0), some (.ref v1.1), some (.int 0)]) dX0_slots_6 rfl rfl (Nat.le_of_ble_eq_true rfl) rfl rfl ?_
  obtain ⟨q6, hq6, hf⟩ := Option.bind_eq_some_iff.mp hf
  refine wX0_slots_l7 x0 v1.1 FU (0, v1.2) q6 hq6 ?_
  refine g_aload_n (pc' := 29) dX0_slots_28 rfl rfl rfl ?_
  obtain rfl := Option.some.inj hf
  exact g_aret dX0_slots_29 rfl (Or.inr ⟨_, rfl⟩) (Or.inr ⟨_, rfl⟩) ⟨rfl, rfl⟩
def mdX0_isHouse : bMD := (yX0_isHouse, cX0_isHouse, 1, (some FieldType.boolean), [], 2, 37)
theorem oX0_isHouse : bOkc mdX0_isHouse 1 := ⟨by decide +kernel, ⟨by decide +kernel, by decide +kernel⟩, by decide +kernel, q207⟩
def fX0_isHouse (x0 : Int32) : Option Int32 :=
  Option.bind (fX0_in ((x0 : Int32).toInt64) 0 7) fun q1 =>
  bz q1 (some q1)
set_option maxHeartbeats 4000000 in
theorem wX0_isHouse (g : bGh) (w : bWl) (x0 : Int32) {r : Int32} (hf : fX0_isHouse x0 = some r) : bM g mdX0_isHouse w [.int x0] (q_ (eI r) w) := by
  unfold fX0_isHouse at hf
  change bG _ _ 0 [some (.int x0)] []
  refine g_iload_n (pc' := 1) dX0_isHouse_0 rfl rfl rfl ?_
  refine g_i2l (pc' := 2) dX0_isHouse_1 rfl ?_
  refine g_lconst (pc' := 3) (v := 0) dX0_isHouse_2 rfl (by decide) ?_
  refine g_ldc2 (pc' := 6) dX0_isHouse_3 rfl q208 ?_
  obtain ⟨q1, hq1, hf⟩ := Option.bind_eq_some_iff.mp hf
  refine g_callS (pc' := 9) (as := [.long ((x0 : Int32).toInt64), .long 0, .long 7]) (wX0_in g _ ((x0 : Int32).toInt64) 0 7 hq1) oX0_in ⟨Nat.le_of_ble_eq_true rfl, Nat.le_of_ble_eq_true rfl⟩ dX0_isHouse_6 rfl q209 q210 q83 (Nat.le_of_ble_eq_true rfl) (Nat.le_of_ble_eq_true rfl) (g_rI ?_) g_nt rfl
  obtain ⟨h2, hf⟩ := bz_spec hf
  obtain rfl := Option.some.inj hf
  exact g_iret dX0_isHouse_9 rfl (bz_nar h2) ⟨rfl, rfl⟩
def mdX0_isEvent : bMD := (yX0_isEvent, cX0_isEvent, 1, (some FieldType.boolean), [], 2, 37)
theorem oX0_isEvent : bOkc mdX0_isEvent 1 := ⟨by decide +kernel, ⟨by decide +kernel, by decide +kernel⟩, by decide +kernel, q358⟩
def fX0_isEvent (x0 : Int32) : Option Int32 :=
  Option.bind (fX0_in ((x0 : Int32).toInt64) 0 15) fun q1 =>
  bz q1 (some q1)
set_option maxHeartbeats 4000000 in
theorem wX0_isEvent (g : bGh) (w : bWl) (x0 : Int32) {r : Int32} (hf : fX0_isEvent x0 = some r) : bM g mdX0_isEvent w [.int x0] (q_ (eI r) w) := by
  unfold fX0_isEvent at hf
  change bG _ _ 0 [some (.int x0)] []
  refine g_iload_n (pc' := 1) dX0_isEvent_0 rfl rfl rfl ?_
  refine g_i2l (pc' := 2) dX0_isEvent_1 rfl ?_
  refine g_lconst (pc' := 3) (v := 0) dX0_isEvent_2 rfl (by decide) ?_
  refine g_ldc2 (pc' := 6) dX0_isEvent_3 rfl q359 ?_
  obtain ⟨q1, hq1, hf⟩ := Option.bind_eq_some_iff.mp hf
  refine g_callS (pc' := 9) (as := [.long ((x0 : Int32).toInt64), .long 0, .long 15]) (wX0_in g _ ((x0 : Int32).toInt64) 0 15 hq1) oX0_in ⟨Nat.le_of_ble_eq_true rfl, Nat.le_of_ble_eq_true rfl⟩ dX0_isEvent_6 rfl q209 q210 q83 (Nat.le_of_ble_eq_true rfl) (Nat.le_of_ble_eq_true rfl) (g_rI ?_) g_nt rfl
  obtain ⟨h2, hf⟩ := bz_spec hf
  obtain rfl := Option.some.inj hf
  exact g_iret dX0_isEvent_9 rfl (bz_nar h2) ⟨rfl, rfl⟩
def mdX0_isAhead : bMD := (yX0_isAhead, cX0_isAhead, 1, (some FieldType.boolean), [], 2, 37)
theorem oX0_isAhead : bOkc mdX0_isAhead 1 := ⟨by decide +kernel, ⟨by decide +kernel, by decide +kernel⟩, by decide +kernel, q701⟩
def fX0_isAhead (x0 : Int32) : Option Int32 :=
  Option.bind (fX0_in ((x0 : Int32).toInt64) 0 60) fun q1 =>
  bz q1 (some q1)
set_option maxHeartbeats 4000000 in
theorem wX0_isAhead (g : bGh) (w : bWl) (x0 : Int32) {r : Int32} (hf : fX0_isAhead x0 = some r) : bM g mdX0_isAhead w [.int x0] (q_ (eI r) w) := by
  unfold fX0_isAhead at hf
  change bG _ _ 0 [some (.int x0)] []
  refine g_iload_n (pc' := 1) dX0_isAhead_0 rfl rfl rfl ?_
  refine g_i2l (pc' := 2) dX0_isAhead_1 rfl ?_
  refine g_lconst (pc' := 3) (v := 0) dX0_isAhead_2 rfl (by decide) ?_
  refine g_ldc2 (pc' := 6) dX0_isAhead_3 rfl q638 ?_
  obtain ⟨q1, hq1, hf⟩ := Option.bind_eq_some_iff.mp hf
  refine g_callS (pc' := 9) (as := [.long ((x0 : Int32).toInt64), .long 0, .long 60]) (wX0_in g _ ((x0 : Int32).toInt64) 0 60 hq1) oX0_in ⟨Nat.le_of_ble_eq_true rfl, Nat.le_of_ble_eq_true rfl⟩ dX0_isAhead_6 rfl q209 q210 q83 (Nat.le_of_ble_eq_true rfl) (Nat.le_of_ble_eq_true rfl) (g_rI ?_) g_nt rfl
  obtain ⟨h2, hf⟩ := bz_spec hf
  obtain rfl := Option.some.inj hf
  exact g_iret dX0_isAhead_9 rfl (bz_nar h2) ⟨rfl, rfl⟩
def mdX0_isSoon : bMD := (yX0_isSoon, cX0_isSoon, 1, (some FieldType.boolean), [], 2, 37)
theorem oX0_isSoon : bOkc mdX0_isSoon 1 := ⟨by decide +kernel, ⟨by decide +kernel, by decide +kernel⟩, by decide +kernel, q743⟩
def fX0_isSoon (x0 : Int32) : Option Int32 :=
  Option.bind (fX0_in ((x0 : Int32).toInt64) 0 20) fun q1 =>
  bz q1 (some q1)
set_option maxHeartbeats 4000000 in
theorem wX0_isSoon (g : bGh) (w : bWl) (x0 : Int32) {r : Int32} (hf : fX0_isSoon x0 = some r) : bM g mdX0_isSoon w [.int x0] (q_ (eI r) w) := by
  unfold fX0_isSoon at hf
  change bG _ _ 0 [some (.int x0)] []
  refine g_iload_n (pc' := 1) dX0_isSoon_0 rfl rfl rfl ?_
  refine g_i2l (pc' := 2) dX0_isSoon_1 rfl ?_
  refine g_lconst (pc' := 3) (v := 0) dX0_isSoon_2 rfl (by decide) ?_
  refine g_ldc2 (pc' := 6) dX0_isSoon_3 rfl q599 ?_
  obtain ⟨q1, hq1, hf⟩ := Option.bind_eq_some_iff.mp hf
  refine g_callS (pc' := 9) (as := [.long ((x0 : Int32).toInt64), .long 0, .long 20]) (wX0_in g _ ((x0 : Int32).toInt64) 0 20 hq1) oX0_in ⟨Nat.le_of_ble_eq_true rfl, Nat.le_of_ble_eq_true rfl⟩ dX0_isSoon_6 rfl q209 q210 q83 (Nat.le_of_ble_eq_true rfl) (Nat.le_of_ble_eq_true rfl) (g_rI ?_) g_nt rfl
  obtain ⟨h2, hf⟩ := bz_spec hf
  obtain rfl := Option.some.inj hf
  exact g_iret dX0_isSoon_9 rfl (bz_nar h2) ⟨rfl, rfl⟩
def mdX0_rumourFor : bMD := (yX0_rumourFor, cX0_rumourFor, 1, (some (FieldType.object "RumourBeds$Rumour")), [], 5, 120)
theorem oX0_rumourFor : bOkc mdX0_rumourFor 1 := ⟨by decide +kernel, ⟨by decide +kernel, by decide +kernel⟩, by decide +kernel, q370⟩
def fX0_rumourFor (w : bWl) (x0 : Int32) : Option (Nat × bWl) :=
  (if x0 = 0 then
  Option.bind (nC w (.inr (5, dX5)) 1) fun v2 =>
  Option.bind (fX5_init v2.2 v2.1) fun q3 =>
  some (v2.1, q3)
else
  (if x0 = 1 then
  Option.bind (nC w (.inr (6, dX6)) 1) fun v5 =>
  Option.bind (fX6_init v5.2 v5.1) fun q6 =>
  some (v5.1, q6)
else
  (if x0 = 2 then
  Option.bind (nC w (.inr (7, dX7)) 1) fun v8 =>
  Option.bind (fX7_init v8.2 v8.1) fun q9 =>
  some (v8.1, q9)
else
  (if x0 = 3 then
  Option.bind (nC w (.inr (8, dX8)) 1) fun v11 =>
  Option.bind (fX8_init v11.2 v11.1) fun q12 =>
  some (v11.1, q12)
else
  (if x0 = 4 then
  Option.bind (nC w (.inr (9, dX9)) 1) fun v14 =>
  Option.bind (fX9_init v14.2 v14.1) fun q15 =>
  some (v14.1, q15)
else
  Option.bind (nC w (.inr (10, dX10)) 1) fun v16 =>
  Option.bind (fX10_init v16.2 v16.1) fun q17 =>
  some (v16.1, q17))))))
set_option maxHeartbeats 4000000 in
theorem wX0_rumourFor (g : bGh) (w : bWl) (x0 : Int32) {r : (Nat × bWl)} (hf : fX0_rumourFor w x0 = some r) : bM g mdX0_rumourFor w [.int x0] (q_ (eA r.1) r.2) := by
  unfold fX0_rumourFor at hf
  change bG _ _ 0 [some (.int x0)] []
  refine g_iload_n (pc' := 1) dX0_rumourFor_0 rfl rfl rfl ?_
  by_cases h1 : x0 = 0
  · replace hf := (if_pos h1).symm.trans hf
    refine g_tableIn (tgt := 36) dX0_rumourFor_1 (by rw [h1]; decide) (by rw [h1]; decide) (by rw [h1]; rfl) (by decide) ?_
    obtain ⟨v2, hv2, hf⟩ := Option.bind_eq_some_iff.mp hf
    refine g_new (ci := 5) (pc' := 39) rfl in_X5 tyX5_ok dX5_ok dX0_rumourFor_36 rfl q371 q372 q91 hv2 ?_
    refine g_dup (pc' := 40) dX0_rumourFor_39 rfl rfl ?_
    obtain ⟨q3, hq3, hf⟩ := Option.bind_eq_some_iff.mp hf
    refine g_callIN (pc' := 43) (host := "RumourBeds") (as := []) (wX5_init g _ v2.1 hq3) oX5_init ⟨Nat.le_of_ble_eq_true rfl, Nat.le_of_ble_eq_true rfl⟩ dX0_rumourFor_40 rfl rfl (List.mem_of_getElem? (i := 3) rfl) q374 (Nat.le_of_ble_eq_true rfl) (Nat.le_of_ble_eq_true rfl) (g_rV ?_) g_nt rfl
    obtain rfl := Option.some.inj hf
    exact g_aret dX0_rumourFor_43 rfl (Or.inl ⟨_, rfl⟩) (Or.inr ⟨_, rfl⟩) ⟨rfl, rfl⟩
  · replace hf := (if_neg h1).symm.trans hf
    by_cases h4 : x0 = 1
    · replace hf := (if_pos h4).symm.trans hf
      refine g_tableIn (tgt := 44) dX0_rumourFor_1 (by rw [h4]; decide) (by rw [h4]; decide) (by rw [h4]; rfl) (by decide) ?_
      obtain ⟨v5, hv5, hf⟩ := Option.bind_eq_some_iff.mp hf
      refine g_new (ci := 6) (pc' := 47) rfl in_X6 tyX6_ok dX6_ok dX0_rumourFor_44 rfl q388 q389 q92 hv5 ?_
      refine g_dup (pc' := 48) dX0_rumourFor_47 rfl rfl ?_
      obtain ⟨q6, hq6, hf⟩ := Option.bind_eq_some_iff.mp hf
      refine g_callIN (pc' := 51) (host := "RumourBeds") (as := []) (wX6_init g _ v5.1 hq6) oX6_init ⟨Nat.le_of_ble_eq_true rfl, Nat.le_of_ble_eq_true rfl⟩ dX0_rumourFor_48 rfl rfl (List.mem_of_getElem? (i := 4) rfl) q391 (Nat.le_of_ble_eq_true rfl) (Nat.le_of_ble_eq_true rfl) (g_rV ?_) g_nt rfl
      obtain rfl := Option.some.inj hf
      exact g_aret dX0_rumourFor_51 rfl (Or.inl ⟨_, rfl⟩) (Or.inr ⟨_, rfl⟩) ⟨rfl, rfl⟩
    · replace hf := (if_neg h4).symm.trans hf
      by_cases h7 : x0 = 2
      · replace hf := (if_pos h7).symm.trans hf
        refine g_tableIn (tgt := 52) dX0_rumourFor_1 (by rw [h7]; decide) (by rw [h7]; decide) (by rw [h7]; rfl) (by decide) ?_
        obtain ⟨v8, hv8, hf⟩ := Option.bind_eq_some_iff.mp hf
        refine g_new (ci := 7) (pc' := 55) rfl in_X7 tyX7_ok dX7_ok dX0_rumourFor_52 rfl q395 q396 q93 hv8 ?_
        refine g_dup (pc' := 56) dX0_rumourFor_55 rfl rfl ?_
        obtain ⟨q9, hq9, hf⟩ := Option.bind_eq_some_iff.mp hf
        refine g_callIN (pc' := 59) (host := "RumourBeds") (as := []) (wX7_init g _ v8.1 hq9) oX7_init ⟨Nat.le_of_ble_eq_true rfl, Nat.le_of_ble_eq_true rfl⟩ dX0_rumourFor_56 rfl rfl (List.mem_of_getElem? (i := 6) rfl) q398 (Nat.le_of_ble_eq_true rfl) (Nat.le_of_ble_eq_true rfl) (g_rV ?_) g_nt rfl
        obtain rfl := Option.some.inj hf
        exact g_aret dX0_rumourFor_59 rfl (Or.inl ⟨_, rfl⟩) (Or.inr ⟨_, rfl⟩) ⟨rfl, rfl⟩
      · replace hf := (if_neg h7).symm.trans hf
        by_cases h10 : x0 = 3
        · replace hf := (if_pos h10).symm.trans hf
          refine g_tableIn (tgt := 60) dX0_rumourFor_1 (by rw [h10]; decide) (by rw [h10]; decide) (by rw [h10]; rfl) (by decide) ?_
          obtain ⟨v11, hv11, hf⟩ := Option.bind_eq_some_iff.mp hf
          refine g_new (ci := 8) (pc' := 63) rfl in_X8 tyX8_ok dX8_ok dX0_rumourFor_60 rfl q403 q404 q94 hv11 ?_
          refine g_dup (pc' := 64) dX0_rumourFor_63 rfl rfl ?_
          obtain ⟨q12, hq12, hf⟩ := Option.bind_eq_some_iff.mp hf
          refine g_callIN (pc' := 67) (host := "RumourBeds") (as := []) (wX8_init g _ v11.1 hq12) oX8_init ⟨Nat.le_of_ble_eq_true rfl, Nat.le_of_ble_eq_true rfl⟩ dX0_rumourFor_64 rfl rfl (List.mem_of_getElem? (i := 8) rfl) q406 (Nat.le_of_ble_eq_true rfl) (Nat.le_of_ble_eq_true rfl) (g_rV ?_) g_nt rfl
          obtain rfl := Option.some.inj hf
          exact g_aret dX0_rumourFor_67 rfl (Or.inl ⟨_, rfl⟩) (Or.inr ⟨_, rfl⟩) ⟨rfl, rfl⟩
        · replace hf := (if_neg h10).symm.trans hf
          by_cases h13 : x0 = 4
          · replace hf := (if_pos h13).symm.trans hf
            refine g_tableIn (tgt := 68) dX0_rumourFor_1 (by rw [h13]; decide) (by rw [h13]; decide) (by rw [h13]; rfl) (by decide) ?_
            obtain ⟨v14, hv14, hf⟩ := Option.bind_eq_some_iff.mp hf
            refine g_new (ci := 9) (pc' := 71) rfl in_X9 tyX9_ok dX9_ok dX0_rumourFor_68 rfl q410 q411 q95 hv14 ?_
            refine g_dup (pc' := 72) dX0_rumourFor_71 rfl rfl ?_
            obtain ⟨q15, hq15, hf⟩ := Option.bind_eq_some_iff.mp hf
            refine g_callIN (pc' := 75) (host := "RumourBeds") (as := []) (wX9_init g _ v14.1 hq15) oX9_init ⟨Nat.le_of_ble_eq_true rfl, Nat.le_of_ble_eq_true rfl⟩ dX0_rumourFor_72 rfl rfl (List.mem_of_getElem? (i := 10) rfl) q413 (Nat.le_of_ble_eq_true rfl) (Nat.le_of_ble_eq_true rfl) (g_rV ?_) g_nt rfl
            obtain rfl := Option.some.inj hf
            exact g_aret dX0_rumourFor_75 rfl (Or.inl ⟨_, rfl⟩) (Or.inr ⟨_, rfl⟩) ⟨rfl, rfl⟩
          · replace hf := (if_neg h13).symm.trans hf
            refine g_tableOut (tgt := 76) dX0_rumourFor_1 (by have kh1 := lv_neT h1 (a := 0) rfl; have kh4 := lv_neT h4 (a := 1) rfl; have kh7 := lv_neT h7 (a := 2) rfl; have kh10 := lv_neT h10 (a := 3) rfl; have kh13 := lv_neT h13 (a := 4) rfl; omega) (by decide) ?_
            obtain ⟨v16, hv16, hf⟩ := Option.bind_eq_some_iff.mp hf
            refine g_new (ci := 10) (pc' := 79) rfl in_X10 tyX10_ok dX10_ok dX0_rumourFor_76 rfl q417 q418 q96 hv16 ?_
            refine g_dup (pc' := 80) dX0_rumourFor_79 rfl rfl ?_
            obtain ⟨q17, hq17, hf⟩ := Option.bind_eq_some_iff.mp hf
            refine g_callIN (pc' := 83) (host := "RumourBeds") (as := []) (wX10_init g _ v16.1 hq17) oX10_init ⟨Nat.le_of_ble_eq_true rfl, Nat.le_of_ble_eq_true rfl⟩ dX0_rumourFor_80 rfl rfl (List.mem_of_getElem? (i := 12) rfl) q420 (Nat.le_of_ble_eq_true rfl) (Nat.le_of_ble_eq_true rfl) (g_rV ?_) g_nt rfl
            obtain rfl := Option.some.inj hf
            exact g_aret dX0_rumourFor_83 rfl (Or.inl ⟨_, rfl⟩) (Or.inr ⟨_, rfl⟩) ⟨rfl, rfl⟩
