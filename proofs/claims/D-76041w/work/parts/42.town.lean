/-! printed by tools/gen.py: 42.town -/
set_option maxRecDepth 100000
def mdX1_init : bMD := (yX1_init, cX1_init, 2, none, [], 4, 102)
theorem oX1_init : bOkc mdX1_init 0 := ⟨by decide +kernel, ⟨by decide +kernel, by decide +kernel⟩, by decide +kernel, q117⟩
def fX1_init_l48 (b0 : Nat) (rec : (Int32 × bWl) → Option (Int32 × bWl)) (s : Int32 × bWl) : Option (Int32 × bWl) :=
  (if 8 ≤ s.1 then
  some (s.1, s.2)
else
  Option.bind (hR s.2 (okc 1) b0 3) fun v12 =>
  Option.bind (sI s.2 0 v12 s.1 1) fun w13 =>
  Option.bind (hR w13 (okc 1) b0 4) fun v14 =>
  Option.bind (sI w13 0 v14 s.1 50) fun w15 =>
  Option.bind (hR w15 (okc 1) b0 5) fun v16 =>
  Option.bind (sI w15 0 v16 s.1 3) fun w17 =>
  rec ((s.1 + 1), w17))
def fX1_init (w : bWl) (a0 : Nat) : Option bWl :=
  Option.bind (nI0 w 0 8) fun v1 =>
  Option.bind (hP v1.2 (okc 1) a0 3 (.ref v1.1)) fun w2 =>
  Option.bind (nI0 w2 0 8) fun v3 =>
  Option.bind (hP v3.2 (okc 1) a0 4 (.ref v3.1)) fun w4 =>
  Option.bind (nI0 w4 0 8) fun v5 =>
  Option.bind (hP v5.2 (okc 1) a0 5 (.ref v5.1)) fun w6 =>
  Option.bind (fX0_slots w6 10) fun q7 =>
  Option.bind (hP q7.2 (okc 1) a0 6 (.ref q7.1)) fun w8 =>
  Option.bind (fX0_slots w8 60) fun q9 =>
  Option.bind (hP q9.2 (okc 1) a0 7 (.ref q9.1)) fun w10 =>
  Option.bind (lpF (fX1_init_l48 a0) FU (0, w10)) fun q18 =>
  some q18.2
set_option maxHeartbeats 4000000 in
theorem wX1_init_l48 {g : bGh} {n0 u0 : Nat} {Q : Outcome → bWl → Prop} (b0 : Nat) : ∀ (n : Nat) (s : Int32 × bWl) (r : (Int32 × bWl)), lpF (fX1_init_l48 b0) n s = some r → bG (g, mdX1_init, n0, u0, Q) r.2 82 [some (.ref b0), some (.int r.1)] [] → bG (g, mdX1_init, n0, u0, Q) s.2 48 [some (.ref b0), some (.int s.1)] [] := by
  intro n
  induction n with
  | zero => intro s r hf; cases hf
  | succ n ih =>
    intro s r hf kx
    rw [lpF_s] at hf
    unfold fX1_init_l48 at hf
    refine g_iload_n (pc' := 49) dX1_init_48 rfl rfl rfl ?_
    refine g_bipush (pc' := 51) (v := 8) dX1_init_49 rfl (by decide) ?_
    refine g_icmp_ge (tgt := 82) (pc' := 54) dX1_init_51 (by decide) rfl (fun h11 => ?_) (fun h11 => ?_)
    · replace hf := (if_pos h11).symm.trans hf
      obtain rfl := Option.some.inj hf
      exact kx
    · replace hf := (if_neg h11).symm.trans hf
      refine g_aload_n (pc' := 55) dX1_init_54 rfl rfl rfl ?_
      obtain ⟨v12, hv12, hf⟩ := Option.bind_eq_some_iff.mp hf
      refine g_get (pc' := 58) (fok_1 3 (by decide)) (Or.inl rfl) dX1_init_55 rfl q142 (hR_spec hv12) ?_
      refine g_iload_n (pc' := 59) dX1_init_58 rfl rfl rfl ?_
      refine g_iconst (pc' := 60) (v := 1) dX1_init_59 rfl (by decide) ?_
      obtain ⟨w13, hw13, hf⟩ := Option.bind_eq_some_iff.mp hf
      refine g_iast (pc' := 61) dX1_init_60 rfl hw13 ?_
      refine g_aload_n (pc' := 62) dX1_init_61 rfl rfl rfl ?_
      obtain ⟨v14, hv14, hf⟩ := Option.bind_eq_some_iff.mp hf
      refine g_get (pc' := 65) (fok_1 4 (by decide)) (Or.inl rfl) dX1_init_62 rfl q145 (hR_spec hv14) ?_
      refine g_iload_n (pc' := 66) dX1_init_65 rfl rfl rfl ?_
      refine g_bipush (pc' := 68) (v := 50) dX1_init_66 rfl (by decide) ?_
      obtain ⟨w15, hw15, hf⟩ := Option.bind_eq_some_iff.mp hf
      refine g_iast (pc' := 69) dX1_init_68 rfl hw15 ?_
      refine g_aload_n (pc' := 70) dX1_init_69 rfl rfl rfl ?_
      obtain ⟨v16, hv16, hf⟩ := Option.bind_eq_some_iff.mp hf
      refine g_get (pc' := 73) (fok_1 5 (by decide)) (Or.inl rfl) dX1_init_70 rfl q148 (hR_spec hv16) ?_
      refine g_iload_n (pc' := 74) dX1_init_73 rfl rfl rfl ?_
      refine g_iconst (pc' := 75) (v := 3) dX1_init_74 rfl (by decide) ?_
      obtain ⟨w17, hw17, hf⟩ := Option.bind_eq_some_iff.mp hf
      refine g_iast (pc' := 76) dX1_init_75 rfl hw17 ?_
      refine g_iinc (pc' := 79) (v := s.1 + 1) (L' := [some (.ref b0), some (.int (s.1 + 1))]) dX1_init_76 rfl rfl rfl (Nat.le_of_ble_eq_true rfl) rfl rfl ?_
      refine g_goto (tgt := 48) dX1_init_79 (by decide) ?_
      exact ih _ r hf kx
set_option maxHeartbeats 4000000 in
theorem wX1_init (g : bGh) (w : bWl) (a0 : Nat) {r : bWl} (hf : fX1_init w a0 = some r) : bM g mdX1_init w [.ref a0] (q_ none r) := by
  unfold fX1_init at hf
  change bG _ _ 0 [some (.ref a0)] []
  refine g_aload_n (pc' := 1) dX1_init_0 rfl rfl rfl ?_
  refine g_obj (pc' := 4) dX1_init_1 rfl q118 ⟨Nat.le_of_ble_eq_true rfl, Nat.le_of_ble_eq_true rfl⟩ (Nat.le_of_ble_eq_true rfl) ?_
  refine g_aload_n (pc' := 5) dX1_init_4 rfl rfl rfl ?_
  refine g_bipush (pc' := 7) (v := 8) dX1_init_5 rfl (by decide) ?_
  obtain ⟨v1, hv1, hf⟩ := Option.bind_eq_some_iff.mp hf
  refine g_newI (pc' := 9) dX1_init_7 rfl hv1 q134 ?_
  obtain ⟨w2, hw2, hf⟩ := Option.bind_eq_some_iff.mp hf
  refine g_putF (ty := (.array .int)) (pc' := 12) (fok_1 3 (by decide)) (Or.inl rfl) dX1_init_9 rfl q142 rfl rfl (by decide +kernel) rfl rfl hw2 ?_
  refine g_aload_n (pc' := 13) dX1_init_12 rfl rfl rfl ?_
  refine g_bipush (pc' := 15) (v := 8) dX1_init_13 rfl (by decide) ?_
  obtain ⟨v3, hv3, hf⟩ := Option.bind_eq_some_iff.mp hf
  refine g_newI (pc' := 17) dX1_init_15 rfl hv3 q134 ?_
  obtain ⟨w4, hw4, hf⟩ := Option.bind_eq_some_iff.mp hf
  refine g_putF (ty := (.array .int)) (pc' := 20) (fok_1 4 (by decide)) (Or.inl rfl) dX1_init_17 rfl q145 rfl rfl (by decide +kernel) rfl rfl hw4 ?_
  refine g_aload_n (pc' := 21) dX1_init_20 rfl rfl rfl ?_
  refine g_bipush (pc' := 23) (v := 8) dX1_init_21 rfl (by decide) ?_
  obtain ⟨v5, hv5, hf⟩ := Option.bind_eq_some_iff.mp hf
  refine g_newI (pc' := 25) dX1_init_23 rfl hv5 q134 ?_
  obtain ⟨w6, hw6, hf⟩ := Option.bind_eq_some_iff.mp hf
  refine g_putF (ty := (.array .int)) (pc' := 28) (fok_1 5 (by decide)) (Or.inl rfl) dX1_init_25 rfl q148 rfl rfl (by decide +kernel) rfl rfl hw6 ?_
  refine g_aload_n (pc' := 29) dX1_init_28 rfl rfl rfl ?_
  refine g_bipush (pc' := 31) (v := 10) dX1_init_29 rfl (by decide) ?_
  obtain ⟨q7, hq7, hf⟩ := Option.bind_eq_some_iff.mp hf
  refine g_callSN (pc' := 34) (host := "RumourBeds") (as := [.int 10]) (wX0_slots g _ 10 hq7) oX0_slots ⟨Nat.le_of_ble_eq_true rfl, Nat.le_of_ble_eq_true rfl⟩ dX1_init_31 rfl (List.mem_of_getElem? (i := 0) rfl) q120 q83 (Nat.le_of_ble_eq_true rfl) (Nat.le_of_ble_eq_true rfl) (g_rA ?_) g_nt rfl
  obtain ⟨w8, hw8, hf⟩ := Option.bind_eq_some_iff.mp hf
  refine g_putF (ty := (.array (.object "RumourBeds$Slot"))) (pc' := 37) (fok_1 6 (by decide)) (Or.inl rfl) dX1_init_34 rfl q151 rfl rfl (by decide +kernel) rfl rfl hw8 ?_
  refine g_aload_n (pc' := 38) dX1_init_37 rfl rfl rfl ?_
  refine g_bipush (pc' := 40) (v := 60) dX1_init_38 rfl (by decide) ?_
  obtain ⟨q9, hq9, hf⟩ := Option.bind_eq_some_iff.mp hf
  refine g_callSN (pc' := 43) (host := "RumourBeds") (as := [.int 60]) (wX0_slots g _ 60 hq9) oX0_slots ⟨Nat.le_of_ble_eq_true rfl, Nat.le_of_ble_eq_true rfl⟩ dX1_init_40 rfl (List.mem_of_getElem? (i := 0) rfl) q120 q83 (Nat.le_of_ble_eq_true rfl) (Nat.le_of_ble_eq_true rfl) (g_rA ?_) g_nt rfl
  obtain ⟨w10, hw10, hf⟩ := Option.bind_eq_some_iff.mp hf
  refine g_putF (ty := (.array (.object "RumourBeds$Slot"))) (pc' := 46) (fok_1 7 (by decide)) (Or.inl rfl) dX1_init_43 rfl q152 rfl rfl (by decide +kernel) rfl rfl hw10 ?_
  refine g_iconst (pc' := 47) (v := 0) dX1_init_46 rfl (by decide) ?_
  refine g_istore_n (pc' := 48) (L' := [some (.ref a0), some (.int 0)]) dX1_init_47 rfl rfl (Nat.le_of_ble_eq_true rfl) rfl rfl ?_
  obtain ⟨q18, hq18, hf⟩ := Option.bind_eq_some_iff.mp hf
  refine wX1_init_l48 a0 FU (0, w10) q18 hq18 ?_
  obtain rfl := Option.some.inj hf
  exact g_vret dX1_init_82 rfl ⟨rfl, rfl⟩
def mdX1_rowOf : bMD := (yX1_rowOf, cX1_rowOf, 2, (some (FieldType.array FieldType.int)), [], 1, 12)
theorem oX1_rowOf : bOkc mdX1_rowOf 1 := ⟨by decide +kernel, ⟨by decide +kernel, by decide +kernel⟩, by decide +kernel, q288⟩
def fX1_rowOf (w : bWl) (a0 : Nat) (x1 : Int32) : Option Nat :=
  (if x1 = 0 then
  Option.bind (hR w (okc 1) a0 3) fun v5 =>
  some v5
else
  (if x1 = 1 then
  Option.bind (hR w (okc 1) a0 4) fun v4 =>
  some v4
else
  Option.bind (hR w (okc 1) a0 5) fun v3 =>
  some v3))
set_option maxHeartbeats 4000000 in
theorem wX1_rowOf (g : bGh) (w : bWl) (a0 : Nat) (x1 : Int32) {r : Nat} (hf : fX1_rowOf w a0 x1 = some r) : bM g mdX1_rowOf w [.ref a0, .int x1] (q_ (eA r) w) := by
  unfold fX1_rowOf at hf
  change bG _ _ 0 [some (.ref a0), some (.int x1)] []
  refine g_iload_n (pc' := 1) dX1_rowOf_0 rfl rfl rfl ?_
  refine g_if_ne (tgt := 11) (pc' := 4) dX1_rowOf_1 (by decide) rfl (fun h1 => ?_) (fun h1 => ?_)
  · replace hf := (if_neg h1).symm.trans hf
    refine g_iload_n (pc' := 12) dX1_rowOf_11 rfl rfl rfl ?_
    refine g_iconst (pc' := 13) (v := 1) dX1_rowOf_12 rfl (by decide) ?_
    refine g_icmp_ne (tgt := 23) (pc' := 16) dX1_rowOf_13 (by decide) rfl (fun h2 => ?_) (fun h2 => ?_)
    · replace hf := (if_neg h2).symm.trans hf
      refine g_aload_n (pc' := 24) dX1_rowOf_23 rfl rfl rfl ?_
      obtain ⟨v3, hv3, hf⟩ := Option.bind_eq_some_iff.mp hf
      refine g_get (pc' := 27) (fok_1 5 (by decide)) (Or.inl rfl) dX1_rowOf_24 rfl q148 (hR_spec hv3) ?_
      obtain rfl := Option.some.inj hf
      exact g_aret dX1_rowOf_27 rfl (Or.inr ⟨_, rfl⟩) (Or.inr ⟨_, rfl⟩) ⟨rfl, rfl⟩
    · replace hf := (if_pos h2).symm.trans hf
      refine g_aload_n (pc' := 17) dX1_rowOf_16 rfl rfl rfl ?_
      obtain ⟨v4, hv4, hf⟩ := Option.bind_eq_some_iff.mp hf
      refine g_get (pc' := 20) (fok_1 4 (by decide)) (Or.inl rfl) dX1_rowOf_17 rfl q145 (hR_spec hv4) ?_
      refine g_goto (tgt := 27) dX1_rowOf_20 (by decide) ?_
      obtain rfl := Option.some.inj hf
      exact g_aret dX1_rowOf_27 rfl (Or.inr ⟨_, rfl⟩) (Or.inr ⟨_, rfl⟩) ⟨rfl, rfl⟩
  · replace hf := (if_pos h1).symm.trans hf
    refine g_aload_n (pc' := 5) dX1_rowOf_4 rfl rfl rfl ?_
    obtain ⟨v5, hv5, hf⟩ := Option.bind_eq_some_iff.mp hf
    refine g_get (pc' := 8) (fok_1 3 (by decide)) (Or.inl rfl) dX1_rowOf_5 rfl q142 (hR_spec hv5) ?_
    refine g_goto (tgt := 27) dX1_rowOf_8 (by decide) ?_
    obtain rfl := Option.some.inj hf
    exact g_aret dX1_rowOf_27 rfl (Or.inr ⟨_, rfl⟩) (Or.inr ⟨_, rfl⟩) ⟨rfl, rfl⟩
def mdX1_rumour : bMD := (yX1_rumour, cX1_rumour, 2, (some (FieldType.object "RumourBeds$Rumour")), [], 1, 12)
theorem oX1_rumour : bOkc mdX1_rumour 1 := ⟨by decide +kernel, ⟨by decide +kernel, by decide +kernel⟩, by decide +kernel, q310⟩
def fX1_rumour (w : bWl) (a0 : Nat) (x1 : Int32) : Option Nat :=
  Option.bind (hR w (okc 1) a0 6) fun v1 =>
  Option.bind (aR w v1 x1) fun v2 =>
  Option.bind (hN w (okc 2) v2 0) fun v3 => nz v3 (fun v3a =>
  vR w v3a (some v3a)) (none)
set_option maxHeartbeats 4000000 in
theorem wX1_rumour (g : bGh) (w : bWl) (a0 : Nat) (x1 : Int32) {r : Nat} (hf : fX1_rumour w a0 x1 = some r) : bM g mdX1_rumour w [.ref a0, .int x1] (q_ (eA r) w) := by
  unfold fX1_rumour at hf
  change bG _ _ 0 [some (.ref a0), some (.int x1)] []
  refine g_aload_n (pc' := 1) dX1_rumour_0 rfl rfl rfl ?_
  obtain ⟨v1, hv1, hf⟩ := Option.bind_eq_some_iff.mp hf
  refine g_get (pc' := 4) (fok_1 6 (by decide)) (Or.inl rfl) dX1_rumour_1 rfl q151 (hR_spec hv1) ?_
  refine g_iload_n (pc' := 5) dX1_rumour_4 rfl rfl rfl ?_
  obtain ⟨v2, hv2, hf⟩ := Option.bind_eq_some_iff.mp hf
  refine g_aald (pc' := 6) dX1_rumour_5 rfl hv2 ?_
  obtain ⟨v3, hv3, hf⟩ := Option.bind_eq_some_iff.mp hf
  refine g_get (pc' := 9) (fok_2 0 (by decide)) (Or.inl rfl) dX1_rumour_6 rfl q129 (hN_spec hv3) ?_
  cases v3 with
  | some v3a =>
    simp only [nz] at hf
    show bG _ _ _ _ (.ref _ :: _)
    obtain ⟨h4, hf⟩ := vR_spec hf
    refine g_castR (pc' := 12) dX1_rumour_9 rfl q311 h4 ?_
    obtain rfl := Option.some.inj hf
    exact g_aret dX1_rumour_12 rfl (Or.inl ⟨_, rfl⟩) (Or.inr ⟨_, rfl⟩) ⟨rfl, rfl⟩
  | none =>
    replace hf : _ = some _ := hf
    show bG _ _ _ _ (.null :: _)
    refine g_castN (pc' := 12) dX1_rumour_9 rfl ?_
    cases hf
def mdX1_inside : bMD := (yX1_inside, cX1_inside, 4, (some FieldType.int), [], 2, 33)
theorem oX1_inside : bOkc mdX1_inside 1 := ⟨by decide +kernel, ⟨by decide +kernel, by decide +kernel⟩, by decide +kernel, q306⟩
def fX1_inside_l4 (w : bWl) (b0 : Nat) (y1 : Int32) (rec : (Int32 × Int32) → Option (Int32 × Int32)) (s : Int32 × Int32) : Option (Int32 × Int32) :=
  Option.bind (hI w (okc 1) b0 2) fun v1 =>
  (if v1 ≤ s.2 then
  some (s.1, s.2)
else
  Option.bind (vK 1 w b0 (fX1_rumour w b0 s.2)) fun q3 =>
  Option.bind (hR w okRu q3 0) fun v5 =>
  Option.bind (aI w 0 v5 3) fun v6 =>
  Option.bind (α := Int32) ((if v6 = y1 then
  some (s.1 ||| (1 <<< (s.2 &&& 31)))
else
  some s.1)) fun q7 =>
  rec (q7, (s.2 + 1)))
def fX1_inside (w : bWl) (a0 : Nat) (x1 : Int32) : Option Int32 :=
  Option.bind (lpF (fX1_inside_l4 w a0 x1) FU (0, 0)) fun q9 =>
  some q9.1
set_option maxHeartbeats 4000000 in
theorem wX1_inside_l4 {g : bGh} {w : bWl} {n0 u0 : Nat} {Q : Outcome → bWl → Prop} (b0 : Nat) (y1 : Int32) : ∀ (n : Nat) (s : Int32 × Int32) (r : (Int32 × Int32)), lpF (fX1_inside_l4 w b0 y1) n s = some r → bG (g, mdX1_inside, n0, u0, Q) w 38 [some (.ref b0), some (.int y1), some (.int r.1), some (.int r.2)] [] → bG (g, mdX1_inside, n0, u0, Q) w 4 [some (.ref b0), some (.int y1), some (.int s.1), some (.int s.2)] [] := by
  intro n
  induction n with
  | zero => intro s r hf; cases hf
  | succ n ih =>
    intro s r hf kx
    rw [lpF_s] at hf
    unfold fX1_inside_l4 at hf
    refine g_iload_n (pc' := 5) dX1_inside_4 rfl rfl rfl ?_
    refine g_aload_n (pc' := 6) dX1_inside_5 rfl rfl rfl ?_
    obtain ⟨v1, hv1, hf⟩ := Option.bind_eq_some_iff.mp hf
    refine g_get (pc' := 9) (fok_1 2 (by decide)) (Or.inl rfl) dX1_inside_6 rfl q139 (hI_spec hv1) ?_
    refine g_icmp_ge (tgt := 38) (pc' := 12) dX1_inside_9 (by decide) rfl (fun h2 => ?_) (fun h2 => ?_)
    · replace hf := (if_pos h2).symm.trans hf
      obtain rfl := Option.some.inj hf
      exact kx
    · replace hf := (if_neg h2).symm.trans hf
      refine g_aload_n (pc' := 13) dX1_inside_12 rfl rfl rfl ?_
      refine g_iload_n (pc' := 14) dX1_inside_13 rfl rfl rfl ?_
      obtain ⟨q3, hq3, hf⟩ := Option.bind_eq_some_iff.mp hf
      obtain ⟨h4, hq3⟩ := vK_spec hq3
      refine g_callV (pc' := 17) (mx := mdX1_rumour) (as := [.int s.2]) (wX1_rumour g _ b0 s.2 hq3) oX1_rumour ⟨Nat.le_of_ble_eq_true rfl, Nat.le_of_ble_eq_true rfl⟩ dX1_inside_14 rfl (ci := 1) rfl h4 ⟨by decide +kernel, by decide +kernel⟩ oX1_rumour.2.2.2 rfl q307 q308 q309 q309 q308 (Nat.le_of_ble_eq_true rfl) (Nat.le_of_ble_eq_true rfl) (g_rA ?_) g_nt rfl
      obtain ⟨v5, hv5, hf⟩ := Option.bind_eq_some_iff.mp hf
      refine g_get (pc' := 20) fok_Ru (Or.inl rfl) dX1_inside_17 rfl q382 (hR_spec hv5) ?_
      refine g_iconst (pc' := 21) (v := 3) dX1_inside_20 rfl (by decide) ?_
      obtain ⟨v6, hv6, hf⟩ := Option.bind_eq_some_iff.mp hf
      refine g_iald (pc' := 22) dX1_inside_21 rfl hv6 ?_
      refine g_iload_n (pc' := 23) dX1_inside_22 rfl rfl rfl ?_
      obtain ⟨q7, hqq7, hf⟩ := Option.bind_eq_some_iff.mp hf
      have hJq7 : bG (g, mdX1_inside, n0, u0, Q) w 32 [some (.ref b0), some (.int y1), some (.int q7), some (.int s.2)] [] := by
        refine g_iinc (pc' := 35) (v := s.2 + 1) (L' := [some (.ref b0), some (.int y1), some (.int q7), some (.int (s.2 + 1))]) dX1_inside_32 rfl rfl rfl (Nat.le_of_ble_eq_true rfl) rfl rfl ?_
        refine g_goto (tgt := 4) dX1_inside_35 (by decide) ?_
        exact ih _ r hf kx
      replace hf := hqq7
      refine g_icmp_ne (tgt := 32) (pc' := 26) dX1_inside_23 (by decide) rfl (fun h8 => ?_) (fun h8 => ?_)
      · replace hf := (if_neg h8).symm.trans hf
        obtain rfl := Option.some.inj hf
        exact hJq7
      · replace hf := (if_pos h8).symm.trans hf
        refine g_iload_n (pc' := 27) dX1_inside_26 rfl rfl rfl ?_
        refine g_iconst (pc' := 28) (v := 1) dX1_inside_27 rfl (by decide) ?_
        refine g_iload_n (pc' := 29) dX1_inside_28 rfl rfl rfl ?_
        refine g_ishl (pc' := 30) dX1_inside_29 rfl ?_
        refine g_ior (pc' := 31) dX1_inside_30 rfl ?_
        refine g_istore_n (pc' := 32) (L' := [some (.ref b0), some (.int y1), some (.int (s.1 ||| (1 <<< (s.2 &&& 31)))), some (.int s.2)]) dX1_inside_31 rfl rfl (Nat.le_of_ble_eq_true rfl) rfl rfl ?_
        obtain rfl := Option.some.inj hf
        exact hJq7
set_option maxHeartbeats 4000000 in
theorem wX1_inside (g : bGh) (w : bWl) (a0 : Nat) (x1 : Int32) {r : Int32} (hf : fX1_inside w a0 x1 = some r) : bM g mdX1_inside w [.ref a0, .int x1] (q_ (eI r) w) := by
  unfold fX1_inside at hf
  change bG _ _ 0 [some (.ref a0), some (.int x1)] []
  refine g_iconst (pc' := 1) (v := 0) dX1_inside_0 rfl (by decide) ?_
  refine g_istore_n (pc' := 2) (L' := [some (.ref a0), some (.int x1), some (.int 0)]) dX1_inside_1 rfl rfl (Nat.le_of_ble_eq_true rfl) rfl rfl ?_
  refine g_iconst (pc' := 3) (v := 0) dX1_inside_2 rfl (by decide) ?_
  refine g_istore_n (pc' := 4) (L' := [some (.ref a0), some (.int x1), some (.int 0), some (.int 0)]) dX1_inside_3 rfl rfl (Nat.le_of_ble_eq_true rfl) rfl rfl ?_
  obtain ⟨q9, hq9, hf⟩ := Option.bind_eq_some_iff.mp hf
  refine wX1_inside_l4 a0 x1 FU (0, 0) q9 hq9 ?_
  refine g_iload_n (pc' := 39) dX1_inside_38 rfl rfl rfl ?_
  obtain rfl := Option.some.inj hf
  exact g_iret dX1_inside_39 rfl rfl ⟨rfl, rfl⟩
def mdX1_eaten : bMD := (yX1_eaten, cX1_eaten, 4, (some FieldType.int), [], 4, 72)
theorem oX1_eaten : bOkc mdX1_eaten 1 := ⟨by decide +kernel, ⟨by decide +kernel, by decide +kernel⟩, by decide +kernel, q320⟩
def fX1_eaten_l4 (w : bWl) (b0 : Nat) (y1 : Int32) (rec : (Int32 × Int32) → Option (Int32 × Int32)) (s : Int32 × Int32) : Option (Int32 × Int32) :=
  Option.bind (hI w (okc 1) b0 2) fun v1 =>
  (if v1 ≤ s.2 then
  some (s.1, s.2)
else
  Option.bind (vK 1 w b0 (fX1_rumour w b0 s.2)) fun q3 =>
  Option.bind (hR w okRu q3 0) fun v5 =>
  Option.bind (aI w 0 v5 3) fun v6 =>
  Option.bind (α := Int32) ((if v6 = y1 then
  Option.bind (vK 1 w b0 (fX1_rumour w b0 s.2)) fun q9 =>
  Option.bind (fv_eats w q9) fun v11 =>
  some (s.1 + v11)
else
  some s.1)) fun q7 =>
  rec (q7, (s.2 + 1)))
def fX1_eaten (w : bWl) (a0 : Nat) (x1 : Int32) : Option Int32 :=
  Option.bind (lpF (fX1_eaten_l4 w a0 x1) FU (0, 0)) fun q13 =>
  some q13.1
set_option maxHeartbeats 4000000 in
theorem wX1_eaten_l4 {g : bGh} {w : bWl} {n0 u0 : Nat} {Q : Outcome → bWl → Prop} (b0 : Nat) (y1 : Int32) : ∀ (n : Nat) (s : Int32 × Int32) (r : (Int32 × Int32)), lpF (fX1_eaten_l4 w b0 y1) n s = some r → bG (g, mdX1_eaten, n0, u0, Q) w 43 [some (.ref b0), some (.int y1), some (.int r.1), some (.int r.2)] [] → bG (g, mdX1_eaten, n0, u0, Q) w 4 [some (.ref b0), some (.int y1), some (.int s.1), some (.int s.2)] [] := by
  intro n
  induction n with
  | zero => intro s r hf; cases hf
  | succ n ih =>
    intro s r hf kx
    rw [lpF_s] at hf
    unfold fX1_eaten_l4 at hf
    refine g_iload_n (pc' := 5) dX1_eaten_4 rfl rfl rfl ?_
    refine g_aload_n (pc' := 6) dX1_eaten_5 rfl rfl rfl ?_
    obtain ⟨v1, hv1, hf⟩ := Option.bind_eq_some_iff.mp hf
    refine g_get (pc' := 9) (fok_1 2 (by decide)) (Or.inl rfl) dX1_eaten_6 rfl q139 (hI_spec hv1) ?_
    refine g_icmp_ge (tgt := 43) (pc' := 12) dX1_eaten_9 (by decide) rfl (fun h2 => ?_) (fun h2 => ?_)
    · replace hf := (if_pos h2).symm.trans hf
      obtain rfl := Option.some.inj hf
      exact kx
    · replace hf := (if_neg h2).symm.trans hf
      refine g_aload_n (pc' := 13) dX1_eaten_12 rfl rfl rfl ?_
      refine g_iload_n (pc' := 14) dX1_eaten_13 rfl rfl rfl ?_
      obtain ⟨q3, hq3, hf⟩ := Option.bind_eq_some_iff.mp hf
      obtain ⟨h4, hq3⟩ := vK_spec hq3
      refine g_callV (pc' := 17) (mx := mdX1_rumour) (as := [.int s.2]) (wX1_rumour g _ b0 s.2 hq3) oX1_rumour ⟨Nat.le_of_ble_eq_true rfl, Nat.le_of_ble_eq_true rfl⟩ dX1_eaten_14 rfl (ci := 1) rfl h4 ⟨by decide +kernel, by decide +kernel⟩ oX1_rumour.2.2.2 rfl q307 q308 q309 q309 q308 (Nat.le_of_ble_eq_true rfl) (Nat.le_of_ble_eq_true rfl) (g_rA ?_) g_nt rfl
      obtain ⟨v5, hv5, hf⟩ := Option.bind_eq_some_iff.mp hf
      refine g_get (pc' := 20) fok_Ru (Or.inl rfl) dX1_eaten_17 rfl q382 (hR_spec hv5) ?_
      refine g_iconst (pc' := 21) (v := 3) dX1_eaten_20 rfl (by decide) ?_
      obtain ⟨v6, hv6, hf⟩ := Option.bind_eq_some_iff.mp hf
      refine g_iald (pc' := 22) dX1_eaten_21 rfl hv6 ?_
      refine g_iload_n (pc' := 23) dX1_eaten_22 rfl rfl rfl ?_
      obtain ⟨q7, hqq7, hf⟩ := Option.bind_eq_some_iff.mp hf
      have hJq7 : bG (g, mdX1_eaten, n0, u0, Q) w 37 [some (.ref b0), some (.int y1), some (.int q7), some (.int s.2)] [] := by
        refine g_iinc (pc' := 40) (v := s.2 + 1) (L' := [some (.ref b0), some (.int y1), some (.int q7), some (.int (s.2 + 1))]) dX1_eaten_37 rfl rfl rfl (Nat.le_of_ble_eq_true rfl) rfl rfl ?_
        refine g_goto (tgt := 4) dX1_eaten_40 (by decide) ?_
        exact ih _ r hf kx
      replace hf := hqq7
      refine g_icmp_ne (tgt := 37) (pc' := 26) dX1_eaten_23 (by decide) rfl (fun h8 => ?_) (fun h8 => ?_)
      · replace hf := (if_neg h8).symm.trans hf
        obtain rfl := Option.some.inj hf
        exact hJq7
      · replace hf := (if_pos h8).symm.trans hf
        refine g_iload_n (pc' := 27) dX1_eaten_26 rfl rfl rfl ?_
        refine g_aload_n (pc' := 28) dX1_eaten_27 rfl rfl rfl ?_
        refine g_iload_n (pc' := 29) dX1_eaten_28 rfl rfl rfl ?_
        obtain ⟨q9, hq9, hf⟩ := Option.bind_eq_some_iff.mp hf
        obtain ⟨h10, hq9⟩ := vK_spec hq9
        refine g_callV (pc' := 32) (mx := mdX1_rumour) (as := [.int s.2]) (wX1_rumour g _ b0 s.2 hq9) oX1_rumour ⟨Nat.le_of_ble_eq_true rfl, Nat.le_of_ble_eq_true rfl⟩ dX1_eaten_29 rfl (ci := 1) rfl h10 ⟨by decide +kernel, by decide +kernel⟩ oX1_rumour.2.2.2 rfl q307 q308 q309 q309 q308 (Nat.le_of_ble_eq_true rfl) (Nat.le_of_ble_eq_true rfl) (g_rA ?_) g_nt rfl
        obtain ⟨v11, hv11, hf⟩ := Option.bind_eq_some_iff.mp hf
        refine gv_eats (pc' := 35) dX1_eaten_32 rfl q321 ⟨Nat.le_of_ble_eq_true rfl, Nat.le_of_ble_eq_true rfl⟩ hv11 (Nat.le_of_ble_eq_true rfl) ?_
        refine g_iadd (pc' := 36) dX1_eaten_35 rfl ?_
        refine g_istore_n (pc' := 37) (L' := [some (.ref b0), some (.int y1), some (.int (s.1 + v11)), some (.int s.2)]) dX1_eaten_36 rfl rfl (Nat.le_of_ble_eq_true rfl) rfl rfl ?_
        obtain rfl := Option.some.inj hf
        exact hJq7
set_option maxHeartbeats 4000000 in
theorem wX1_eaten (g : bGh) (w : bWl) (a0 : Nat) (x1 : Int32) {r : Int32} (hf : fX1_eaten w a0 x1 = some r) : bM g mdX1_eaten w [.ref a0, .int x1] (q_ (eI r) w) := by
  unfold fX1_eaten at hf
  change bG _ _ 0 [some (.ref a0), some (.int x1)] []
  refine g_iconst (pc' := 1) (v := 0) dX1_eaten_0 rfl (by decide) ?_
  refine g_istore_n (pc' := 2) (L' := [some (.ref a0), some (.int x1), some (.int 0)]) dX1_eaten_1 rfl rfl (Nat.le_of_ble_eq_true rfl) rfl rfl ?_
  refine g_iconst (pc' := 3) (v := 0) dX1_eaten_2 rfl (by decide) ?_
  refine g_istore_n (pc' := 4) (L' := [some (.ref a0), some (.int x1), some (.int 0), some (.int 0)]) dX1_eaten_3 rfl rfl (Nat.le_of_ble_eq_true rfl) rfl rfl ?_
  obtain ⟨q13, hq13, hf⟩ := Option.bind_eq_some_iff.mp hf
  refine wX1_eaten_l4 a0 x1 FU (0, 0) q13 hq13 ?_
  refine g_iload_n (pc' := 44) dX1_eaten_43 rfl rfl rfl ?_
  obtain rfl := Option.some.inj hf
  exact g_iret dX1_eaten_44 rfl rfl ⟨rfl, rfl⟩
def mdX1_pooled : bMD := (yX1_pooled, cX1_pooled, 4, (some (FieldType.object "RumourBeds$Rumour")), [], 6, 140)
theorem oX1_pooled : bOkc mdX1_pooled 2 := ⟨by decide +kernel, ⟨by decide +kernel, by decide +kernel⟩, by decide +kernel, q367⟩
def fX1_pooled (w : bWl) (a0 : Nat) (x1 : Int32) (x2 : Int32) : Option (Nat × bWl) :=
  Option.bind (hR w (okc 1) a0 7) fun v1 =>
  Option.bind (aR w v1 ((6 * x1) + x2)) fun v2 =>
  Option.bind (hN w (okc 2) v2 0) fun v3 => nz v3 (fun v3a =>
  Option.bind (hN w (okc 2) v2 0) fun v4 => nz v4 (fun v4a =>
  vR w v4a (some (v4a, w))) (none)) (Option.bind (fX0_rumourFor w x2) fun q6 =>
  Option.bind (hP q6.2 (okc 2) v2 0 (.ref q6.1)) fun w7 =>
  Option.bind (hN w7 (okc 2) v2 0) fun v8 => nz v8 (fun v8a =>
  vR w7 v8a (some (v8a, w7))) (none))
set_option maxHeartbeats 4000000 in
theorem wX1_pooled (g : bGh) (w : bWl) (a0 : Nat) (x1 : Int32) (x2 : Int32) {r : (Nat × bWl)} (hf : fX1_pooled w a0 x1 x2 = some r) : bM g mdX1_pooled w [.ref a0, .int x1, .int x2] (q_ (eA r.1) r.2) := by
  unfold fX1_pooled at hf
  change bG _ _ 0 [some (.ref a0), some (.int x1), some (.int x2)] []
  refine g_aload_n (pc' := 1) dX1_pooled_0 rfl rfl rfl ?_
  obtain ⟨v1, hv1, hf⟩ := Option.bind_eq_some_iff.mp hf
  refine g_get (pc' := 4) (fok_1 7 (by decide)) (Or.inl rfl) dX1_pooled_1 rfl q152 (hR_spec hv1) ?_
  refine g_bipush (pc' := 6) (v := 6) dX1_pooled_4 rfl (by decide) ?_
  refine g_iload_n (pc' := 7) dX1_pooled_6 rfl rfl rfl ?_
  refine g_imul (pc' := 8) dX1_pooled_7 rfl ?_
  refine g_iload_n (pc' := 9) dX1_pooled_8 rfl rfl rfl ?_
  refine g_iadd (pc' := 10) dX1_pooled_9 rfl ?_
  obtain ⟨v2, hv2, hf⟩ := Option.bind_eq_some_iff.mp hf
  refine g_aald (pc' := 11) dX1_pooled_10 rfl hv2 ?_
  refine g_astore_n (pc' := 12) (L' := [some (.ref a0), some (.int x1), some (.int x2), some (.ref v2)]) dX1_pooled_11 rfl rfl (Nat.le_of_ble_eq_true rfl) rfl rfl ?_
  refine g_aload_n (pc' := 13) dX1_pooled_12 rfl rfl rfl ?_
  obtain ⟨v3, hv3, hf⟩ := Option.bind_eq_some_iff.mp hf
  refine g_get (pc' := 16) (fok_2 0 (by decide)) (Or.inl rfl) dX1_pooled_13 rfl q129 (hN_spec hv3) ?_
  cases v3 with
  | some v3a =>
    simp only [nz] at hf
    show bG _ _ _ _ (.ref _ :: _)
    refine g_ifnonnull (tgt := 27) dX1_pooled_16 (by decide) ?_
    refine g_aload_n (pc' := 28) dX1_pooled_27 rfl rfl rfl ?_
    obtain ⟨v4, hv4, hf⟩ := Option.bind_eq_some_iff.mp hf
    refine g_get (pc' := 31) (fok_2 0 (by decide)) (Or.inl rfl) dX1_pooled_28 rfl q129 (hN_spec hv4) ?_
    cases v4 with
    | some v4a =>
      simp only [nz] at hf
      show bG _ _ _ _ (.ref _ :: _)
      obtain ⟨h5, hf⟩ := vR_spec hf
      refine g_castR (pc' := 34) dX1_pooled_31 rfl q311 h5 ?_
      obtain rfl := Option.some.inj hf
      exact g_aret dX1_pooled_34 rfl (Or.inl ⟨_, rfl⟩) (Or.inr ⟨_, rfl⟩) ⟨rfl, rfl⟩
    | none =>
      replace hf : _ = some _ := hf
      show bG _ _ _ _ (.null :: _)
      refine g_castN (pc' := 34) dX1_pooled_31 rfl ?_
      cases hf
  | none =>
    replace hf : _ = some _ := hf
    show bG _ _ _ _ (.null :: _)
    refine g_ifnonnullN (pc' := 19) dX1_pooled_16 rfl ?_
    refine g_aload_n (pc' := 20) dX1_pooled_19 rfl rfl rfl ?_
    refine g_iload_n (pc' := 21) dX1_pooled_20 rfl rfl rfl ?_
    obtain ⟨q6, hq6, hf⟩ := Option.bind_eq_some_iff.mp hf
    refine g_callSN (pc' := 24) (host := "RumourBeds") (as := [.int x2]) (wX0_rumourFor g _ x2 hq6) oX0_rumourFor ⟨Nat.le_of_ble_eq_true rfl, Nat.le_of_ble_eq_true rfl⟩ dX1_pooled_21 rfl (List.mem_of_getElem? (i := 2) rfl) q369 q83 (Nat.le_of_ble_eq_true rfl) (Nat.le_of_ble_eq_true rfl) (g_rA ?_) g_nt rfl
    obtain ⟨w7, hw7, hf⟩ := Option.bind_eq_some_iff.mp hf
    refine g_put (ty := (.object "java/lang/Object")) (pc' := 27) (fok_2 0 (by decide)) (Or.inl rfl) dX1_pooled_24 rfl q129 (by decide +kernel) rfl rfl hw7 ?_
    refine g_aload_n (pc' := 28) dX1_pooled_27 rfl rfl rfl ?_
    obtain ⟨v8, hv8, hf⟩ := Option.bind_eq_some_iff.mp hf
    refine g_get (pc' := 31) (fok_2 0 (by decide)) (Or.inl rfl) dX1_pooled_28 rfl q129 (hN_spec hv8) ?_
    cases v8 with
    | some v8a =>
      simp only [nz] at hf
      show bG _ _ _ _ (.ref _ :: _)
      obtain ⟨h9, hf⟩ := vR_spec hf
      refine g_castR (pc' := 34) dX1_pooled_31 rfl q311 h9 ?_
      obtain rfl := Option.some.inj hf
      exact g_aret dX1_pooled_34 rfl (Or.inl ⟨_, rfl⟩) (Or.inr ⟨_, rfl⟩) ⟨rfl, rfl⟩
    | none =>
      replace hf : _ = some _ := hf
      show bG _ _ _ _ (.null :: _)
      refine g_castN (pc' := 34) dX1_pooled_31 rfl ?_
      cases hf
def mdX1_comes : bMD := (yX1_comes, cX1_comes, 6, (some (FieldType.object "RumourBeds$Rumour")), [], 7, 163)
theorem oX1_comes : bOkc mdX1_comes 3 := ⟨by decide +kernel, ⟨by decide +kernel, by decide +kernel⟩, by decide +kernel, q363⟩
def fX1_comes (w : bWl) (a0 : Nat) (x1 : Int32) (x2 : Int32) (x3 : Int32) : Option (Nat × bWl) :=
  Option.bind (hI w (okc 1) a0 2) fun v1 =>
  Option.bind (vK 1 w a0 (fX1_pooled w a0 v1 x1)) fun q2 =>
  Option.bind (hR q2.2 okRu q2.1 0) fun v4 =>
  Option.bind (sI q2.2 0 v4 0 x2) fun w5 =>
  Option.bind (sI w5 0 v4 1 x3) fun w6 =>
  Option.bind (sI w6 0 v4 2 0) fun w7 =>
  Option.bind (sI w7 0 v4 3 (-1)) fun w8 =>
  Option.bind (hR w8 (okc 1) a0 6) fun v9 =>
  Option.bind (hI w8 (okc 1) a0 2) fun v10 =>
  Option.bind (aR w8 v9 v10) fun v11 =>
  Option.bind (hP w8 (okc 2) v11 0 (.ref q2.1)) fun w12 =>
  Option.bind (hI w12 (okc 1) a0 2) fun v13 =>
  Option.bind (hP w12 (okc 1) a0 2 (.int (v13 + 1))) fun w14 =>
  some (q2.1, w14)
set_option maxHeartbeats 4000000 in
theorem wX1_comes (g : bGh) (w : bWl) (a0 : Nat) (x1 : Int32) (x2 : Int32) (x3 : Int32) {r : (Nat × bWl)} (hf : fX1_comes w a0 x1 x2 x3 = some r) : bM g mdX1_comes w [.ref a0, .int x1, .int x2, .int x3] (q_ (eA r.1) r.2) := by
  unfold fX1_comes at hf
  change bG _ _ 0 [some (.ref a0), some (.int x1), some (.int x2), some (.int x3)] []
  refine g_aload_n (pc' := 1) dX1_comes_0 rfl rfl rfl ?_
  refine g_aload_n (pc' := 2) dX1_comes_1 rfl rfl rfl ?_
  obtain ⟨v1, hv1, hf⟩ := Option.bind_eq_some_iff.mp hf
  refine g_get (pc' := 5) (fok_1 2 (by decide)) (Or.inl rfl) dX1_comes_2 rfl q139 (hI_spec hv1) ?_
  refine g_iload_n (pc' := 6) dX1_comes_5 rfl rfl rfl ?_
  obtain ⟨q2, hq2, hf⟩ := Option.bind_eq_some_iff.mp hf
  obtain ⟨h3, hq2⟩ := vK_spec hq2
  refine g_callV (pc' := 9) (mx := mdX1_pooled) (as := [.int v1, .int x1]) (wX1_pooled g _ a0 v1 x1 hq2) oX1_pooled ⟨Nat.le_of_ble_eq_true rfl, Nat.le_of_ble_eq_true rfl⟩ dX1_comes_6 rfl (ci := 1) rfl h3 ⟨by decide +kernel, by decide +kernel⟩ oX1_pooled.2.2.2 rfl q364 q366 qs3 qs3 q366 (Nat.le_of_ble_eq_true rfl) (Nat.le_of_ble_eq_true rfl) (g_rA ?_) g_nt rfl
  refine g_astore (pc' := 11) (L' := [some (.ref a0), some (.int x1), some (.int x2), some (.int x3), some (.ref q2.1)]) dX1_comes_9 rfl (Nat.le_of_ble_eq_true rfl) rfl rfl ?_
  refine g_aload (pc' := 13) dX1_comes_11 rfl rfl ?_
  obtain ⟨v4, hv4, hf⟩ := Option.bind_eq_some_iff.mp hf
  refine g_get (pc' := 16) fok_Ru (Or.inl rfl) dX1_comes_13 rfl q382 (hR_spec hv4) ?_
  refine g_astore (pc' := 18) (L' := [some (.ref a0), some (.int x1), some (.int x2), some (.int x3), some (.ref q2.1), some (.ref v4)]) dX1_comes_16 rfl (Nat.le_of_ble_eq_true rfl) rfl rfl ?_
  refine g_aload (pc' := 20) dX1_comes_18 rfl rfl ?_
  refine g_iconst (pc' := 21) (v := 0) dX1_comes_20 rfl (by decide) ?_
  refine g_iload_n (pc' := 22) dX1_comes_21 rfl rfl rfl ?_
  obtain ⟨w5, hw5, hf⟩ := Option.bind_eq_some_iff.mp hf
  refine g_iast (pc' := 23) dX1_comes_22 rfl hw5 ?_
  refine g_aload (pc' := 25) dX1_comes_23 rfl rfl ?_
  refine g_iconst (pc' := 26) (v := 1) dX1_comes_25 rfl (by decide) ?_
  refine g_iload_n (pc' := 27) dX1_comes_26 rfl rfl rfl ?_
  obtain ⟨w6, hw6, hf⟩ := Option.bind_eq_some_iff.mp hf
  refine g_iast (pc' := 28) dX1_comes_27 rfl hw6 ?_
  refine g_aload (pc' := 30) dX1_comes_28 rfl rfl ?_
  refine g_iconst (pc' := 31) (v := 2) dX1_comes_30 rfl (by decide) ?_
  refine g_iconst (pc' := 32) (v := 0) dX1_comes_31 rfl (by decide) ?_
  obtain ⟨w7, hw7, hf⟩ := Option.bind_eq_some_iff.mp hf
  refine g_iast (pc' := 33) dX1_comes_32 rfl hw7 ?_
  refine g_aload (pc' := 35) dX1_comes_33 rfl rfl ?_
  refine g_iconst (pc' := 36) (v := 3) dX1_comes_35 rfl (by decide) ?_
  refine g_iconst (pc' := 37) (v := (-1)) dX1_comes_36 rfl (by decide) ?_
  obtain ⟨w8, hw8, hf⟩ := Option.bind_eq_some_iff.mp hf
  refine g_iast (pc' := 38) dX1_comes_37 rfl hw8 ?_
  refine g_aload_n (pc' := 39) dX1_comes_38 rfl rfl rfl ?_
  obtain ⟨v9, hv9, hf⟩ := Option.bind_eq_some_iff.mp hf
  refine g_get (pc' := 42) (fok_1 6 (by decide)) (Or.inl rfl) dX1_comes_39 rfl q151 (hR_spec hv9) ?_
  refine g_aload_n (pc' := 43) dX1_comes_42 rfl rfl rfl ?_
  obtain ⟨v10, hv10, hf⟩ := Option.bind_eq_some_iff.mp hf
  refine g_get (pc' := 46) (fok_1 2 (by decide)) (Or.inl rfl) dX1_comes_43 rfl q139 (hI_spec hv10) ?_
  obtain ⟨v11, hv11, hf⟩ := Option.bind_eq_some_iff.mp hf
  refine g_aald (pc' := 47) dX1_comes_46 rfl hv11 ?_
  refine g_aload (pc' := 49) dX1_comes_47 rfl rfl ?_
  obtain ⟨w12, hw12, hf⟩ := Option.bind_eq_some_iff.mp hf
  refine g_put (ty := (.object "java/lang/Object")) (pc' := 52) (fok_2 0 (by decide)) (Or.inl rfl) dX1_comes_49 rfl q129 (by decide +kernel) rfl rfl hw12 ?_
  refine g_aload_n (pc' := 53) dX1_comes_52 rfl rfl rfl ?_
  refine g_dup (pc' := 54) dX1_comes_53 rfl rfl ?_
  obtain ⟨v13, hv13, hf⟩ := Option.bind_eq_some_iff.mp hf
  refine g_get (pc' := 57) (fok_1 2 (by decide)) (Or.inl rfl) dX1_comes_54 rfl q139 (hI_spec hv13) ?_
  refine g_iconst (pc' := 58) (v := 1) dX1_comes_57 rfl (by decide) ?_
  refine g_iadd (pc' := 59) dX1_comes_58 rfl ?_
  obtain ⟨w14, hw14, hf⟩ := Option.bind_eq_some_iff.mp hf
  refine g_put (ty := .int) (pc' := 62) (fok_1 2 (by decide)) (Or.inl rfl) dX1_comes_59 rfl q139 (by decide +kernel) rfl rfl hw14 ?_
  refine g_aload (pc' := 64) dX1_comes_62 rfl rfl ?_
  obtain rfl := Option.some.inj hf
  exact g_aret dX1_comes_64 rfl (Or.inl ⟨_, rfl⟩) (Or.inr ⟨_, rfl⟩) ⟨rfl, rfl⟩
def mdX1_turns : bMD := (yX1_turns, cX1_turns, 4, none, [], 7, 163)
theorem oX1_turns : bOkc mdX1_turns 2 := ⟨by decide +kernel, ⟨by decide +kernel, by decide +kernel⟩, by decide +kernel, q510⟩
def fX1_turns (w : bWl) (a0 : Nat) (x1 : Int32) (x2 : Int32) : Option bWl :=
  Option.bind (vK 1 w a0 (fX1_pooled w a0 x1 x2)) fun q1 =>
  Option.bind (vK 1 q1.2 a0 (fX1_rumour q1.2 a0 x1)) fun q3 =>
  Option.bind (vR q1.2 q1.1 (fX5_like q1.2 q1.1 q3)) fun q5 =>
  Option.bind (hR q5 (okc 1) a0 6) fun v7 =>
  Option.bind (aR q5 v7 x1) fun v8 =>
  Option.bind (hP q5 (okc 2) v8 0 (.ref q1.1)) fun w9 =>
  some w9
set_option maxHeartbeats 4000000 in
theorem wX1_turns (g : bGh) (w : bWl) (a0 : Nat) (x1 : Int32) (x2 : Int32) {r : bWl} (hf : fX1_turns w a0 x1 x2 = some r) : bM g mdX1_turns w [.ref a0, .int x1, .int x2] (q_ none r) := by
  unfold fX1_turns at hf
  change bG _ _ 0 [some (.ref a0), some (.int x1), some (.int x2)] []
  refine g_aload_n (pc' := 1) dX1_turns_0 rfl rfl rfl ?_
  refine g_iload_n (pc' := 2) dX1_turns_1 rfl rfl rfl ?_
  refine g_iload_n (pc' := 3) dX1_turns_2 rfl rfl rfl ?_
  obtain ⟨q1, hq1, hf⟩ := Option.bind_eq_some_iff.mp hf
  obtain ⟨h2, hq1⟩ := vK_spec hq1
  refine g_callV (pc' := 6) (mx := mdX1_pooled) (as := [.int x1, .int x2]) (wX1_pooled g _ a0 x1 x2 hq1) oX1_pooled ⟨Nat.le_of_ble_eq_true rfl, Nat.le_of_ble_eq_true rfl⟩ dX1_turns_3 rfl (ci := 1) rfl h2 ⟨by decide +kernel, by decide +kernel⟩ oX1_pooled.2.2.2 rfl q364 q366 qs3 qs3 q366 (Nat.le_of_ble_eq_true rfl) (Nat.le_of_ble_eq_true rfl) (g_rA ?_) g_nt rfl
  refine g_astore_n (pc' := 7) (L' := [some (.ref a0), some (.int x1), some (.int x2), some (.ref q1.1)]) dX1_turns_6 rfl rfl (Nat.le_of_ble_eq_true rfl) rfl rfl ?_
  refine g_aload_n (pc' := 8) dX1_turns_7 rfl rfl rfl ?_
  refine g_aload_n (pc' := 9) dX1_turns_8 rfl rfl rfl ?_
  refine g_iload_n (pc' := 10) dX1_turns_9 rfl rfl rfl ?_
  obtain ⟨q3, hq3, hf⟩ := Option.bind_eq_some_iff.mp hf
  obtain ⟨h4, hq3⟩ := vK_spec hq3
  refine g_callV (pc' := 13) (mx := mdX1_rumour) (as := [.int x1]) (wX1_rumour g _ a0 x1 hq3) oX1_rumour ⟨Nat.le_of_ble_eq_true rfl, Nat.le_of_ble_eq_true rfl⟩ dX1_turns_10 rfl (ci := 1) rfl h4 ⟨by decide +kernel, by decide +kernel⟩ oX1_rumour.2.2.2 rfl q307 q308 q309 q309 q308 (Nat.le_of_ble_eq_true rfl) (Nat.le_of_ble_eq_true rfl) (g_rA ?_) g_nt rfl
  obtain ⟨q5, hq5, hf⟩ := Option.bind_eq_some_iff.mp hf
  obtain ⟨h6, hq5⟩ := vR_spec hq5
  refine g_callVR (pc' := 16) (as := [.ref q3]) (wX5_like g _ q1.1 q3 hq5) oX5_like ⟨Nat.le_of_ble_eq_true rfl, Nat.le_of_ble_eq_true rfl⟩ dX1_turns_13 rfl h6 ⟨by decide +kernel, by decide +kernel⟩ q511 q512 q513 q515 q516 q518 q517 q519 (Nat.le_of_ble_eq_true rfl) (Nat.le_of_ble_eq_true rfl) (g_rV ?_) g_nt rfl
  refine g_aload_n (pc' := 17) dX1_turns_16 rfl rfl rfl ?_
  obtain ⟨v7, hv7, hf⟩ := Option.bind_eq_some_iff.mp hf
  refine g_get (pc' := 20) (fok_1 6 (by decide)) (Or.inl rfl) dX1_turns_17 rfl q151 (hR_spec hv7) ?_
  refine g_iload_n (pc' := 21) dX1_turns_20 rfl rfl rfl ?_
  obtain ⟨v8, hv8, hf⟩ := Option.bind_eq_some_iff.mp hf
  refine g_aald (pc' := 22) dX1_turns_21 rfl hv8 ?_
  refine g_aload_n (pc' := 23) dX1_turns_22 rfl rfl rfl ?_
  obtain ⟨w9, hw9, hf⟩ := Option.bind_eq_some_iff.mp hf
  refine g_put (ty := (.object "java/lang/Object")) (pc' := 26) (fok_2 0 (by decide)) (Or.inl rfl) dX1_turns_23 rfl q129 (by decide +kernel) rfl rfl hw9 ?_
  obtain rfl := Option.some.inj hf
  exact g_vret dX1_turns_26 rfl ⟨rfl, rfl⟩
def mdX1_hasBed : bMD := (yX1_hasBed, cX1_hasBed, 2, (some FieldType.boolean), [], 3, 56)
theorem oX1_hasBed : bOkc mdX1_hasBed 1 := ⟨by decide +kernel, ⟨by decide +kernel, by decide +kernel⟩, by decide +kernel, q556⟩
def fX1_hasBed (w : bWl) (a0 : Nat) (x1 : Int32) : Option Int32 :=
  Option.bind (vK 1 w a0 (fX1_inside w a0 x1)) fun q1 =>
  Option.bind (fJ3_bitCount q1) fun q3 =>
  Option.bind (hR w (okc 1) a0 3) fun v4 =>
  Option.bind (aI w 0 v4 x1) fun v5 =>
  (if v5 ≤ q3 then
  some 0
else
  some 1)
set_option maxHeartbeats 4000000 in
theorem wX1_hasBed (g : bGh) (w : bWl) (a0 : Nat) (x1 : Int32) {r : Int32} (hf : fX1_hasBed w a0 x1 = some r) : bM g mdX1_hasBed w [.ref a0, .int x1] (q_ (eI r) w) := by
  unfold fX1_hasBed at hf
  change bG _ _ 0 [some (.ref a0), some (.int x1)] []
  refine g_aload_n (pc' := 1) dX1_hasBed_0 rfl rfl rfl ?_
  refine g_iload_n (pc' := 2) dX1_hasBed_1 rfl rfl rfl ?_
  obtain ⟨q1, hq1, hf⟩ := Option.bind_eq_some_iff.mp hf
  obtain ⟨h2, hq1⟩ := vK_spec hq1
  refine g_callV (pc' := 5) (mx := mdX1_inside) (as := [.int x1]) (wX1_inside g _ a0 x1 hq1) oX1_inside ⟨Nat.le_of_ble_eq_true rfl, Nat.le_of_ble_eq_true rfl⟩ dX1_hasBed_2 rfl (ci := 1) rfl h2 ⟨by decide +kernel, by decide +kernel⟩ oX1_inside.2.2.2 rfl q557 q304 q305 q305 q304 (Nat.le_of_ble_eq_true rfl) (Nat.le_of_ble_eq_true rfl) (g_rI ?_) g_nt rfl
  obtain ⟨q3, hq3, hf⟩ := Option.bind_eq_some_iff.mp hf
  refine g_callS (pc' := 8) (as := [.int q1]) (wJ3_bitCount g _ q1 hq3) oJ3_bitCount ⟨Nat.le_of_ble_eq_true rfl, Nat.le_of_ble_eq_true rfl⟩ dX1_hasBed_5 rfl q558 q559 q98 (Nat.le_of_ble_eq_true rfl) (Nat.le_of_ble_eq_true rfl) (g_rI ?_) g_nt rfl
  refine g_aload_n (pc' := 9) dX1_hasBed_8 rfl rfl rfl ?_
  obtain ⟨v4, hv4, hf⟩ := Option.bind_eq_some_iff.mp hf
  refine g_get (pc' := 12) (fok_1 3 (by decide)) (Or.inl rfl) dX1_hasBed_9 rfl q142 (hR_spec hv4) ?_
  refine g_iload_n (pc' := 13) dX1_hasBed_12 rfl rfl rfl ?_
  obtain ⟨v5, hv5, hf⟩ := Option.bind_eq_some_iff.mp hf
  refine g_iald (pc' := 14) dX1_hasBed_13 rfl hv5 ?_
  refine g_icmp_ge (tgt := 21) (pc' := 17) dX1_hasBed_14 (by decide) rfl (fun h6 => ?_) (fun h6 => ?_)
  · replace hf := (if_pos h6).symm.trans hf
    refine g_iconst (pc' := 22) (v := 0) dX1_hasBed_21 rfl (by decide) ?_
    obtain rfl := Option.some.inj hf
    exact g_iret dX1_hasBed_22 rfl (by decide +kernel) ⟨rfl, rfl⟩
  · replace hf := (if_neg h6).symm.trans hf
    refine g_iconst (pc' := 18) (v := 1) dX1_hasBed_17 rfl (by decide) ?_
    refine g_goto (tgt := 22) dX1_hasBed_18 (by decide) ?_
    obtain rfl := Option.some.inj hf
    exact g_iret dX1_hasBed_22 rfl (by decide +kernel) ⟨rfl, rfl⟩
def mdX1_takes : bMD := (yX1_takes, cX1_takes, 3, (some FieldType.boolean), [], 4, 77)
theorem oX1_takes : bOkc mdX1_takes 2 := ⟨by decide +kernel, ⟨by decide +kernel, by decide +kernel⟩, by decide +kernel, q552⟩
def fX1_takes (w : bWl) (a0 : Nat) (x1 : Int32) (a2 : Nat) : Option Int32 :=
  Option.bind (vK 1 w a0 (fX1_hasBed w a0 x1)) fun q1 =>
  (if q1 = 0 then
  some 0
else
  Option.bind (hR w (okc 1) a0 5) fun v4 =>
  Option.bind (aI w 0 v4 x1) fun v5 =>
  Option.bind (fv_needs w a2) fun v6 =>
  (if v5 < v6 then
  some 0
else
  some 1))
set_option maxHeartbeats 4000000 in
theorem wX1_takes (g : bGh) (w : bWl) (a0 : Nat) (x1 : Int32) (a2 : Nat) {r : Int32} (hf : fX1_takes w a0 x1 a2 = some r) : bM g mdX1_takes w [.ref a0, .int x1, .ref a2] (q_ (eI r) w) := by
  unfold fX1_takes at hf
  change bG _ _ 0 [some (.ref a0), some (.int x1), some (.ref a2)] []
  refine g_aload_n (pc' := 1) dX1_takes_0 rfl rfl rfl ?_
  refine g_iload_n (pc' := 2) dX1_takes_1 rfl rfl rfl ?_
  obtain ⟨q1, hq1, hf⟩ := Option.bind_eq_some_iff.mp hf
  obtain ⟨h2, hq1⟩ := vK_spec hq1
  refine g_callV (pc' := 5) (mx := mdX1_hasBed) (as := [.int x1]) (wX1_hasBed g _ a0 x1 hq1) oX1_hasBed ⟨Nat.le_of_ble_eq_true rfl, Nat.le_of_ble_eq_true rfl⟩ dX1_takes_2 rfl (ci := 1) rfl h2 ⟨by decide +kernel, by decide +kernel⟩ oX1_hasBed.2.2.2 rfl q553 q554 q555 q555 q554 (Nat.le_of_ble_eq_true rfl) (Nat.le_of_ble_eq_true rfl) (g_rI ?_) g_nt rfl
  refine g_if_eq (tgt := 25) (pc' := 8) dX1_takes_5 (by decide) rfl (fun h3 => ?_) (fun h3 => ?_)
  · replace hf := (if_pos h3).symm.trans hf
    refine g_iconst (pc' := 26) (v := 0) dX1_takes_25 rfl (by decide) ?_
    obtain rfl := Option.some.inj hf
    exact g_iret dX1_takes_26 rfl (by decide +kernel) ⟨rfl, rfl⟩
  · replace hf := (if_neg h3).symm.trans hf
    refine g_aload_n (pc' := 9) dX1_takes_8 rfl rfl rfl ?_
    obtain ⟨v4, hv4, hf⟩ := Option.bind_eq_some_iff.mp hf
    refine g_get (pc' := 12) (fok_1 5 (by decide)) (Or.inl rfl) dX1_takes_9 rfl q148 (hR_spec hv4) ?_
    refine g_iload_n (pc' := 13) dX1_takes_12 rfl rfl rfl ?_
    obtain ⟨v5, hv5, hf⟩ := Option.bind_eq_some_iff.mp hf
    refine g_iald (pc' := 14) dX1_takes_13 rfl hv5 ?_
    refine g_aload_n (pc' := 15) dX1_takes_14 rfl rfl rfl ?_
    obtain ⟨v6, hv6, hf⟩ := Option.bind_eq_some_iff.mp hf
    refine gv_needs (pc' := 18) dX1_takes_15 rfl (List.mem_of_getElem? (i := 4) rfl) ⟨Nat.le_of_ble_eq_true rfl, Nat.le_of_ble_eq_true rfl⟩ hv6 (Nat.le_of_ble_eq_true rfl) ?_
    refine g_icmp_lt (tgt := 25) (pc' := 21) dX1_takes_18 (by decide) rfl (fun h8 => ?_) (fun h8 => ?_)
    · replace hf := (if_pos h8).symm.trans hf
      refine g_iconst (pc' := 26) (v := 0) dX1_takes_25 rfl (by decide) ?_
      obtain rfl := Option.some.inj hf
      exact g_iret dX1_takes_26 rfl (by decide +kernel) ⟨rfl, rfl⟩
    · replace hf := (if_neg h8).symm.trans hf
      refine g_iconst (pc' := 22) (v := 1) dX1_takes_21 rfl (by decide) ?_
      refine g_goto (tgt := 26) dX1_takes_22 (by decide) ?_
      obtain rfl := Option.some.inj hf
      exact g_iret dX1_takes_26 rfl (by decide +kernel) ⟨rfl, rfl⟩
def mdX1_isTrue : bMD := (yX1_isTrue, cX1_isTrue, 2, (some FieldType.boolean), [], 2, 33)
theorem oX1_isTrue : bOkc mdX1_isTrue 1 := ⟨by decide +kernel, ⟨by decide +kernel, by decide +kernel⟩, by decide +kernel, q581⟩
def fX1_isTrue (w : bWl) (a0 : Nat) (x1 : Int32) : Option Int32 :=
  Option.bind (hI w (okc 1) a0 1) fun v1 =>
  Option.bind (fX0_has v1 x1) fun q2 =>
  bz q2 (some q2)
set_option maxHeartbeats 4000000 in
theorem wX1_isTrue (g : bGh) (w : bWl) (a0 : Nat) (x1 : Int32) {r : Int32} (hf : fX1_isTrue w a0 x1 = some r) : bM g mdX1_isTrue w [.ref a0, .int x1] (q_ (eI r) w) := by
  unfold fX1_isTrue at hf
  change bG _ _ 0 [some (.ref a0), some (.int x1)] []
  refine g_aload_n (pc' := 1) dX1_isTrue_0 rfl rfl rfl ?_
  obtain ⟨v1, hv1, hf⟩ := Option.bind_eq_some_iff.mp hf
  refine g_get (pc' := 4) (fok_1 1 (by decide)) (Or.inl rfl) dX1_isTrue_1 rfl q137 (hI_spec hv1) ?_
  refine g_iload_n (pc' := 5) dX1_isTrue_4 rfl rfl rfl ?_
  obtain ⟨q2, hq2, hf⟩ := Option.bind_eq_some_iff.mp hf
  refine g_callSN (pc' := 8) (host := "RumourBeds") (as := [.int v1, .int x1]) (wX0_has g _ v1 x1 hq2) oX0_has ⟨Nat.le_of_ble_eq_true rfl, Nat.le_of_ble_eq_true rfl⟩ dX1_isTrue_5 rfl (List.mem_of_getElem? (i := 14) rfl) q583 q83 (Nat.le_of_ble_eq_true rfl) (Nat.le_of_ble_eq_true rfl) (g_rI ?_) g_nt rfl
  obtain ⟨h3, hf⟩ := bz_spec hf
  obtain rfl := Option.some.inj hf
  exact g_iret dX1_isTrue_8 rfl (bz_nar h3) ⟨rfl, rfl⟩
def mdX1_host : bMD := (yX1_host, cX1_host, 4, (some FieldType.int), [], 5, 99)
theorem oX1_host : bOkc mdX1_host 1 := ⟨by decide +kernel, ⟨by decide +kernel, by decide +kernel⟩, by decide +kernel, q592⟩
def fX1_host_l4 (w : bWl) (b0 : Nat) (b1 : Nat) (rec : (Int32 × Int32) → Option (Int32 × Int32)) (s : Int32 × Int32) : Option (Int32 × Int32) :=
  (if 8 ≤ s.2 then
  some (s.1, s.2)
else
  Option.bind (hR w okRu b1 0) fun v2 =>
  Option.bind (aI w 0 v2 0) fun v3 =>
  Option.bind (vK 1 w b0 (fX1_isTrue w b0 v3)) fun q4 =>
  (if q4 = 0 then
  Option.bind (vK 1 w b0 (fX1_takes w b0 s.2 b1)) fun q7 =>
  Option.bind (α := Int32) ((if q7 = 0 then
  some s.1
else
  (if s.1 < 0 then
  some s.2
else
  Option.bind (hR w (okc 1) b0 5) fun v12 =>
  Option.bind (aI w 0 v12 s.2) fun v13 =>
  Option.bind (hR w (okc 1) b0 5) fun v14 =>
  Option.bind (aI w 0 v14 s.1) fun v15 =>
  (if v13 ≤ v15 then
  some s.1
else
  some s.2)))) fun q9 =>
  rec (q9, (s.2 + 1))
else
  some (s.1, s.2)))
def fX1_host (w : bWl) (a0 : Nat) (a1 : Nat) : Option Int32 :=
  Option.bind (lpF (fX1_host_l4 w a0 a1) FU ((-1), 0)) fun q17 =>
  some q17.1
set_option maxHeartbeats 4000000 in
theorem wX1_host_l4 {g : bGh} {w : bWl} {n0 u0 : Nat} {Q : Outcome → bWl → Prop} (b0 : Nat) (b1 : Nat) : ∀ (n : Nat) (s : Int32 × Int32) (r : (Int32 × Int32)), lpF (fX1_host_l4 w b0 b1) n s = some r → bG (g, mdX1_host, n0, u0, Q) w 59 [some (.ref b0), some (.ref b1), some (.int r.1), some (.int r.2)] [] → bG (g, mdX1_host, n0, u0, Q) w 4 [some (.ref b0), some (.ref b1), some (.int s.1), some (.int s.2)] [] := by
  intro n
  induction n with
  | zero => intro s r hf; cases hf
  | succ n ih =>
    intro s r hf kx
    rw [lpF_s] at hf
    unfold fX1_host_l4 at hf
    refine g_iload_n (pc' := 5) dX1_host_4 rfl rfl rfl ?_
    refine g_bipush (pc' := 7) (v := 8) dX1_host_5 rfl (by decide) ?_
    refine g_icmp_ge (tgt := 59) (pc' := 10) dX1_host_7 (by decide) rfl (fun h1 => ?_) (fun h1 => ?_)
    · replace hf := (if_pos h1).symm.trans hf
      obtain rfl := Option.some.inj hf
      exact kx
    · replace hf := (if_neg h1).symm.trans hf
      refine g_aload_n (pc' := 11) dX1_host_10 rfl rfl rfl ?_
      refine g_aload_n (pc' := 12) dX1_host_11 rfl rfl rfl ?_
      obtain ⟨v2, hv2, hf⟩ := Option.bind_eq_some_iff.mp hf
      refine g_get (pc' := 15) fok_Ru (Or.inl rfl) dX1_host_12 rfl q382 (hR_spec hv2) ?_
      refine g_iconst (pc' := 16) (v := 0) dX1_host_15 rfl (by decide) ?_
      obtain ⟨v3, hv3, hf⟩ := Option.bind_eq_some_iff.mp hf
      refine g_iald (pc' := 17) dX1_host_16 rfl hv3 ?_
      obtain ⟨q4, hq4, hf⟩ := Option.bind_eq_some_iff.mp hf
      obtain ⟨h5, hq4⟩ := vK_spec hq4
      refine g_callV (pc' := 20) (mx := mdX1_isTrue) (as := [.int v3]) (wX1_isTrue g _ b0 v3 hq4) oX1_isTrue ⟨Nat.le_of_ble_eq_true rfl, Nat.le_of_ble_eq_true rfl⟩ dX1_host_17 rfl (ci := 1) rfl h5 ⟨by decide +kernel, by decide +kernel⟩ oX1_isTrue.2.2.2 rfl q593 q579 q580 q580 q579 (Nat.le_of_ble_eq_true rfl) (Nat.le_of_ble_eq_true rfl) (g_rI ?_) g_nt rfl
      refine g_if_ne (tgt := 59) (pc' := 23) dX1_host_20 (by decide) rfl (fun h6 => ?_) (fun h6 => ?_)
      · replace hf := (if_neg h6).symm.trans hf
        obtain rfl := Option.some.inj hf
        exact kx
      · replace hf := (if_pos h6).symm.trans hf
        refine g_aload_n (pc' := 24) dX1_host_23 rfl rfl rfl ?_
        refine g_iload_n (pc' := 25) dX1_host_24 rfl rfl rfl ?_
        refine g_aload_n (pc' := 26) dX1_host_25 rfl rfl rfl ?_
        obtain ⟨q7, hq7, hf⟩ := Option.bind_eq_some_iff.mp hf
        obtain ⟨h8, hq7⟩ := vK_spec hq7
        refine g_callV (pc' := 29) (mx := mdX1_takes) (as := [.int s.2, .ref b1]) (wX1_takes g _ b0 s.2 b1 hq7) oX1_takes ⟨Nat.le_of_ble_eq_true rfl, Nat.le_of_ble_eq_true rfl⟩ dX1_host_26 rfl (ci := 1) rfl h8 ⟨by decide +kernel, by decide +kernel⟩ oX1_takes.2.2.2 rfl q594 q550 q551 q551 q550 (Nat.le_of_ble_eq_true rfl) (Nat.le_of_ble_eq_true rfl) (g_rI ?_) g_nt rfl
        obtain ⟨q9, hqq9, hf⟩ := Option.bind_eq_some_iff.mp hf
        have hJq9 : bG (g, mdX1_host, n0, u0, Q) w 53 [some (.ref b0), some (.ref b1), some (.int q9), some (.int s.2)] [] := by
          refine g_iinc (pc' := 56) (v := s.2 + 1) (L' := [some (.ref b0), some (.ref b1), some (.int q9), some (.int (s.2 + 1))]) dX1_host_53 rfl rfl rfl (Nat.le_of_ble_eq_true rfl) rfl rfl ?_
          refine g_goto (tgt := 4) dX1_host_56 (by decide) ?_
          exact ih _ r hf kx
        replace hf := hqq9
        refine g_if_eq (tgt := 53) (pc' := 32) dX1_host_29 (by decide) rfl (fun h10 => ?_) (fun h10 => ?_)
        · replace hf := (if_pos h10).symm.trans hf
          obtain rfl := Option.some.inj hf
          exact hJq9
        · replace hf := (if_neg h10).symm.trans hf
          refine g_iload_n (pc' := 33) dX1_host_32 rfl rfl rfl ?_
          refine g_if_lt (tgt := 51) (pc' := 36) dX1_host_33 (by decide) rfl (fun h11 => ?_) (fun h11 => ?_)
          · replace hf := (if_pos h11).symm.trans hf
            refine g_iload_n (pc' := 52) dX1_host_51 rfl rfl rfl ?_
            refine g_istore_n (pc' := 53) (L' := [some (.ref b0), some (.ref b1), some (.int s.2), some (.int s.2)]) dX1_host_52 rfl rfl (Nat.le_of_ble_eq_true rfl) rfl rfl ?_
            obtain rfl := Option.some.inj hf
            exact hJq9
          · replace hf := (if_neg h11).symm.trans hf
            refine g_aload_n (pc' := 37) dX1_host_36 rfl rfl rfl ?_
            obtain ⟨v12, hv12, hf⟩ := Option.bind_eq_some_iff.mp hf
            refine g_get (pc' := 40) (fok_1 5 (by decide)) (Or.inl rfl) dX1_host_37 rfl q148 (hR_spec hv12) ?_
            refine g_iload_n (pc' := 41) dX1_host_40 rfl rfl rfl ?_
            obtain ⟨v13, hv13, hf⟩ := Option.bind_eq_some_iff.mp hf
            refine g_iald (pc' := 42) dX1_host_41 rfl hv13 ?_
            refine g_aload_n (pc' := 43) dX1_host_42 rfl rfl rfl ?_
            obtain ⟨v14, hv14, hf⟩ := Option.bind_eq_some_iff.mp hf
            refine g_get (pc' := 46) (fok_1 5 (by decide)) (Or.inl rfl) dX1_host_43 rfl q148 (hR_spec hv14) ?_
            refine g_iload_n (pc' := 47) dX1_host_46 rfl rfl rfl ?_
            obtain ⟨v15, hv15, hf⟩ := Option.bind_eq_some_iff.mp hf
            refine g_iald (pc' := 48) dX1_host_47 rfl hv15 ?_
            refine g_icmp_le (tgt := 53) (pc' := 51) dX1_host_48 (by decide) rfl (fun h16 => ?_) (fun h16 => ?_)
            · replace hf := (if_pos h16).symm.trans hf
              obtain rfl := Option.some.inj hf
              exact hJq9
            · replace hf := (if_neg h16).symm.trans hf
              refine g_iload_n (pc' := 52) dX1_host_51 rfl rfl rfl ?_
              refine g_istore_n (pc' := 53) (L' := [some (.ref b0), some (.ref b1), some (.int s.2), some (.int s.2)]) dX1_host_52 rfl rfl (Nat.le_of_ble_eq_true rfl) rfl rfl ?_
              obtain rfl := Option.some.inj hf
              exact hJq9
set_option maxHeartbeats 4000000 in
theorem wX1_host (g : bGh) (w : bWl) (a0 : Nat) (a1 : Nat) {r : Int32} (hf : fX1_host w a0 a1 = some r) : bM g mdX1_host w [.ref a0, .ref a1] (q_ (eI r) w) := by
  unfold fX1_host at hf
  change bG _ _ 0 [some (.ref a0), some (.ref a1)] []
  refine g_iconst (pc' := 1) (v := (-1)) dX1_host_0 rfl (by decide) ?_
  refine g_istore_n (pc' := 2) (L' := [some (.ref a0), some (.ref a1), some (.int (-1))]) dX1_host_1 rfl rfl (Nat.le_of_ble_eq_true rfl) rfl rfl ?_
  refine g_iconst (pc' := 3) (v := 0) dX1_host_2 rfl (by decide) ?_
  refine g_istore_n (pc' := 4) (L' := [some (.ref a0), some (.ref a1), some (.int (-1)), some (.int 0)]) dX1_host_3 rfl rfl (Nat.le_of_ble_eq_true rfl) rfl rfl ?_
  obtain ⟨q17, hq17, hf⟩ := Option.bind_eq_some_iff.mp hf
  refine wX1_host_l4 a0 a1 FU ((-1), 0) q17 hq17 ?_
  refine g_iload_n (pc' := 60) dX1_host_59 rfl rfl rfl ?_
  obtain rfl := Option.some.inj hf
  exact g_iret dX1_host_60 rfl rfl ⟨rfl, rfl⟩
def mdX1_comesIn : bMD := (yX1_comesIn, cX1_comesIn, 2, none, [], 6, 122)
theorem oX1_comesIn : bOkc mdX1_comesIn 1 := ⟨by decide +kernel, ⟨by decide +kernel, by decide +kernel⟩, by decide +kernel, q588⟩
def fX1_comesIn (w : bWl) (a0 : Nat) (a1 : Nat) : Option bWl :=
  Option.bind (hR w okRu a1 0) fun v1 =>
  Option.bind (vK 1 w a0 (fX1_host w a0 a1)) fun q2 =>
  Option.bind (sI w 0 v1 3 q2) fun w4 =>
  some w4
set_option maxHeartbeats 4000000 in
theorem wX1_comesIn (g : bGh) (w : bWl) (a0 : Nat) (a1 : Nat) {r : bWl} (hf : fX1_comesIn w a0 a1 = some r) : bM g mdX1_comesIn w [.ref a0, .ref a1] (q_ none r) := by
  unfold fX1_comesIn at hf
  change bG _ _ 0 [some (.ref a0), some (.ref a1)] []
  refine g_aload_n (pc' := 1) dX1_comesIn_0 rfl rfl rfl ?_
  obtain ⟨v1, hv1, hf⟩ := Option.bind_eq_some_iff.mp hf
  refine g_get (pc' := 4) fok_Ru (Or.inl rfl) dX1_comesIn_1 rfl q382 (hR_spec hv1) ?_
  refine g_iconst (pc' := 5) (v := 3) dX1_comesIn_4 rfl (by decide) ?_
  refine g_aload_n (pc' := 6) dX1_comesIn_5 rfl rfl rfl ?_
  refine g_aload_n (pc' := 7) dX1_comesIn_6 rfl rfl rfl ?_
  obtain ⟨q2, hq2, hf⟩ := Option.bind_eq_some_iff.mp hf
  obtain ⟨h3, hq2⟩ := vK_spec hq2
  refine g_callV (pc' := 10) (mx := mdX1_host) (as := [.ref a1]) (wX1_host g _ a0 a1 hq2) oX1_host ⟨Nat.le_of_ble_eq_true rfl, Nat.le_of_ble_eq_true rfl⟩ dX1_comesIn_7 rfl (ci := 1) rfl h3 ⟨by decide +kernel, by decide +kernel⟩ oX1_host.2.2.2 rfl q589 q590 q591 q591 q590 (Nat.le_of_ble_eq_true rfl) (Nat.le_of_ble_eq_true rfl) (g_rI ?_) g_nt rfl
  obtain ⟨w4, hw4, hf⟩ := Option.bind_eq_some_iff.mp hf
  refine g_iast (pc' := 11) dX1_comesIn_10 rfl hw4 ?_
  obtain rfl := Option.some.inj hf
  exact g_vret dX1_comesIn_11 rfl ⟨rfl, rfl⟩
def mdX1_improves : bMD := (yX1_improves, cX1_improves, 6, none, [], 5, 99)
theorem oX1_improves : bOkc mdX1_improves 2 := ⟨by decide +kernel, ⟨by decide +kernel, by decide +kernel⟩, by decide +kernel, q607⟩
def fX1_improves_l15 (w : bWl) (b0 : Nat) (b1 : Nat) (y3 : Int32) (rec : (Int32) → Option ((Int32) ⊕ bWl)) (s : Int32) : Option ((Int32) ⊕ bWl) :=
  (if 8 ≤ s then
  some (Sum.inl s)
else
  Option.bind (vK 1 w b0 (fX1_takes w b0 ((y3 + s) - (y3 + s) / 8 * 8) b1)) fun q6 =>
  (if q6 = 0 then
  rec (s + 1)
else
  Option.bind (hR w okRu b1 0) fun v9 =>
  Option.bind (sI w 0 v9 3 ((y3 + s) - (y3 + s) / 8 * 8)) fun w10 =>
  some (Sum.inr w10)))
def fX1_improves (w : bWl) (a0 : Nat) (a1 : Nat) (x2 : Int32) : Option bWl :=
  Option.bind (vR w a1 (fX5_swells w a1 x2)) fun q1 =>
  Option.bind (hR q1 okRu a1 0) fun v3 =>
  Option.bind (aI q1 0 v3 3) fun v4 =>
  Option.bind (lpF (fX1_improves_l15 q1 a0 a1 v4) FU 1) fun q11 => sx q11 (fun e12 =>
  some q1) (fun e12 => some e12)
set_option maxHeartbeats 4000000 in
theorem wX1_improves_l15 {g : bGh} {w : bWl} {n0 u0 : Nat} {Q : Outcome → bWl → Prop} (b0 : Nat) (b1 : Nat) (y3 : Int32) : ∀ (n : Nat) (s : Int32) (r : ((Int32) ⊕ bWl)), lpF (fX1_improves_l15 w b0 b1 y3) n s = some r → (∀ e, r = Sum.inl e → bG (g, mdX1_improves, n0, u0, Q) w 59 [some (.ref b0), some (.ref b1), none, some (.int y3), some (.int e)] []) → (∀ e, r = Sum.inr e → Q (.returned none) e) → bG (g, mdX1_improves, n0, u0, Q) w 15 [some (.ref b0), some (.ref b1), none, some (.int y3), some (.int s)] [] := by
  intro n
  induction n with
  | zero => intro s r hf; cases hf
  | succ n ih =>
    intro s r hf kx kr
    rw [lpF_s] at hf
    unfold fX1_improves_l15 at hf
    refine g_iload (pc' := 17) dX1_improves_15 rfl rfl ?_
    refine g_bipush (pc' := 19) (v := 8) dX1_improves_17 rfl (by decide) ?_
    refine g_icmp_ge (tgt := 59) (pc' := 22) dX1_improves_19 (by decide) rfl (fun h5 => ?_) (fun h5 => ?_)
    · replace hf := (if_pos h5).symm.trans hf
      obtain rfl := Option.some.inj hf
      exact (kx _ rfl)
    · replace hf := (if_neg h5).symm.trans hf
      refine g_iload_n (pc' := 23) dX1_improves_22 rfl rfl rfl ?_
      refine g_iload (pc' := 25) dX1_improves_23 rfl rfl ?_
      refine g_iadd (pc' := 26) dX1_improves_25 rfl ?_
      refine g_bipush (pc' := 28) (v := 8) dX1_improves_26 rfl (by decide) ?_
      refine g_irem (pc' := 29) dX1_improves_28 rfl (by decide) ?_
      refine g_istore (pc' := 31) (L' := [some (.ref b0), some (.ref b1), none, some (.int y3), some (.int s), some (.int ((y3 + s) - (y3 + s) / 8 * 8))]) dX1_improves_29 rfl (Nat.le_of_ble_eq_true rfl) rfl rfl ?_
      refine g_aload_n (pc' := 32) dX1_improves_31 rfl rfl rfl ?_
      refine g_iload (pc' := 34) dX1_improves_32 rfl rfl ?_
      refine g_aload_n (pc' := 35) dX1_improves_34 rfl rfl rfl ?_
      obtain ⟨q6, hq6, hf⟩ := Option.bind_eq_some_iff.mp hf
      obtain ⟨h7, hq6⟩ := vK_spec hq6
      refine g_callV (pc' := 38) (mx := mdX1_takes) (as := [.int ((y3 + s) - (y3 + s) / 8 * 8), .ref b1]) (wX1_takes g _ b0 ((y3 + s) - (y3 + s) / 8 * 8) b1 hq6) oX1_takes ⟨Nat.le_of_ble_eq_true rfl, Nat.le_of_ble_eq_true rfl⟩ dX1_improves_35 rfl (ci := 1) rfl h7 ⟨by decide +kernel, by decide +kernel⟩ oX1_takes.2.2.2 rfl q594 q550 q551 q551 q550 (Nat.le_of_ble_eq_true rfl) (Nat.le_of_ble_eq_true rfl) (g_rI ?_) g_nt rfl
      refine g_if_ne (tgt := 44) (pc' := 41) dX1_improves_38 (by decide) rfl (fun h8 => ?_) (fun h8 => ?_)
      · replace hf := (if_neg h8).symm.trans hf
        refine g_aload_n (pc' := 45) dX1_improves_44 rfl rfl rfl ?_
        obtain ⟨v9, hv9, hf⟩ := Option.bind_eq_some_iff.mp hf
        refine g_get (pc' := 48) fok_Ru (Or.inl rfl) dX1_improves_45 rfl q382 (hR_spec hv9) ?_
        refine g_iconst (pc' := 49) (v := 3) dX1_improves_48 rfl (by decide) ?_
        refine g_iload (pc' := 51) dX1_improves_49 rfl rfl ?_
        obtain ⟨w10, hw10, hf⟩ := Option.bind_eq_some_iff.mp hf
        refine g_iast (pc' := 52) dX1_improves_51 rfl hw10 ?_
        obtain rfl := Option.some.inj hf
        exact g_vret dX1_improves_52 rfl (kr _ rfl)
      · replace hf := (if_pos h8).symm.trans hf
        refine g_goto (tgt := 53) dX1_improves_41 (by decide) ?_
        refine g_iinc (pc' := 56) (v := s + 1) (L' := [some (.ref b0), some (.ref b1), none, some (.int y3), some (.int (s + 1)), some (.int ((y3 + s) - (y3 + s) / 8 * 8))]) dX1_improves_53 rfl rfl rfl (Nat.le_of_ble_eq_true rfl) rfl rfl ?_
        refine g_goto (tgt := 15) dX1_improves_56 (by decide) ?_
        refine g_drop [5] (L' := [some (.ref b0), some (.ref b1), none, some (.int y3), some (.int (s + 1)), none]) rfl ?_
        refine g_cut (L := [some (.ref b0), some (.ref b1), none, some (.int y3), some (.int (s + 1))]) 1 rfl ?_
        exact ih _ r hf kx kr
set_option maxHeartbeats 4000000 in
theorem wX1_improves (g : bGh) (w : bWl) (a0 : Nat) (a1 : Nat) (x2 : Int32) {r : bWl} (hf : fX1_improves w a0 a1 x2 = some r) : bM g mdX1_improves w [.ref a0, .ref a1, .int x2] (q_ none r) := by
  unfold fX1_improves at hf
  change bG _ _ 0 [some (.ref a0), some (.ref a1), some (.int x2)] []
  refine g_aload_n (pc' := 1) dX1_improves_0 rfl rfl rfl ?_
  refine g_iload_n (pc' := 2) dX1_improves_1 rfl rfl rfl ?_
  obtain ⟨q1, hq1, hf⟩ := Option.bind_eq_some_iff.mp hf
  obtain ⟨h2, hq1⟩ := vR_spec hq1
  refine g_callVR (pc' := 5) (as := [.int x2]) (wX5_swells g _ a1 x2 hq1) oX5_swells ⟨Nat.le_of_ble_eq_true rfl, Nat.le_of_ble_eq_true rfl⟩ dX1_improves_2 rfl h2 ⟨by decide +kernel, by decide +kernel⟩ q608 q609 q610 q612 q613 q615 q614 q616 (Nat.le_of_ble_eq_true rfl) (Nat.le_of_ble_eq_true rfl) (g_rV ?_) g_nt rfl
  refine g_aload_n (pc' := 6) dX1_improves_5 rfl rfl rfl ?_
  obtain ⟨v3, hv3, hf⟩ := Option.bind_eq_some_iff.mp hf
  refine g_get (pc' := 9) fok_Ru (Or.inl rfl) dX1_improves_6 rfl q382 (hR_spec hv3) ?_
  refine g_iconst (pc' := 10) (v := 3) dX1_improves_9 rfl (by decide) ?_
  obtain ⟨v4, hv4, hf⟩ := Option.bind_eq_some_iff.mp hf
  refine g_iald (pc' := 11) dX1_improves_10 rfl hv4 ?_
  refine g_istore_n (pc' := 12) (L' := [some (.ref a0), some (.ref a1), some (.int x2), some (.int v4)]) dX1_improves_11 rfl rfl (Nat.le_of_ble_eq_true rfl) rfl rfl ?_
  refine g_iconst (pc' := 13) (v := 1) dX1_improves_12 rfl (by decide) ?_
  refine g_istore (pc' := 15) (L' := [some (.ref a0), some (.ref a1), some (.int x2), some (.int v4), some (.int 1)]) dX1_improves_13 rfl (Nat.le_of_ble_eq_true rfl) rfl rfl ?_
  refine g_drop [2] (L' := [some (.ref a0), some (.ref a1), none, some (.int v4), some (.int 1)]) rfl ?_
  obtain ⟨q11, hq11, hf⟩ := Option.bind_eq_some_iff.mp hf
  cases q11 with
  | inl e12 =>
    replace hf : _ = some _ := hf
    refine wX1_improves_l15 a0 a1 v4 FU _ (Sum.inl e12) hq11 (fun e' he => ?_) (fun e' he => by cases he)
    cases he
    obtain rfl := Option.some.inj hf
    exact g_vret dX1_improves_59 rfl ⟨rfl, rfl⟩
  | inr e12 =>
    refine wX1_improves_l15 a0 a1 v4 FU _ (Sum.inr e12) hq11 (fun e' he => by cases he) (fun e' he => ?_)
    cases he
    obtain rfl := Option.some.inj hf
    exact ⟨rfl, rfl⟩
def mdX1_comesTrue : bMD := (yX1_comesTrue, cX1_comesTrue, 5, (some FieldType.int), [], 2, 33)
theorem oX1_comesTrue : bOkc mdX1_comesTrue 1 := ⟨by decide +kernel, ⟨by decide +kernel, by decide +kernel⟩, by decide +kernel, q628⟩
def fX1_comesTrue_l4 (b0 : Nat) (y1 : Int32) (rec : (Int32 × Int32 × bWl) → Option (Int32 × Int32 × bWl)) (s : Int32 × Int32 × bWl) : Option (Int32 × Int32 × bWl) :=
  Option.bind (hI s.2.2 (okc 1) b0 2) fun v1 =>
  (if v1 ≤ s.2.1 then
  some (s.1, s.2.1, s.2.2)
else
  Option.bind (vK 1 s.2.2 b0 (fX1_rumour s.2.2 b0 s.2.1)) fun q3 =>
  Option.bind (hR s.2.2 okRu q3 0) fun v5 =>
  Option.bind (aI s.2.2 0 v5 0) fun v6 =>
  Option.bind (α := Int32 × bWl) ((if v6 = y1 then
  Option.bind (vR s.2.2 q3 (fX5_isIn s.2.2 q3)) fun q9 =>
  (if q9 = 0 then
  some (s.1, s.2.2)
else
  Option.bind (hR s.2.2 okRu q3 0) fun v12 =>
  Option.bind (sI s.2.2 0 v12 3 (-1)) fun w13 =>
  some ((s.1 + 1), w13))
else
  some (s.1, s.2.2))) fun q7 =>
  rec (q7.1, (s.2.1 + 1), q7.2))
def fX1_comesTrue (w : bWl) (a0 : Nat) (x1 : Int32) : Option (Int32 × bWl) :=
  Option.bind (lpF (fX1_comesTrue_l4 a0 x1) FU (0, 0, w)) fun q14 =>
  Option.bind (hI q14.2.2 (okc 1) a0 1) fun v15 =>
  Option.bind (hP q14.2.2 (okc 1) a0 1 (.int (v15 ||| (1 <<< (x1 &&& 31))))) fun w16 =>
  some (q14.1, w16)
set_option maxHeartbeats 4000000 in
theorem wX1_comesTrue_l4 {g : bGh} {n0 u0 : Nat} {Q : Outcome → bWl → Prop} (b0 : Nat) (y1 : Int32) : ∀ (n : Nat) (s : Int32 × Int32 × bWl) (r : (Int32 × Int32 × bWl)), lpF (fX1_comesTrue_l4 b0 y1) n s = some r → bG (g, mdX1_comesTrue, n0, u0, Q) r.2.2 58 [some (.ref b0), some (.int y1), some (.int r.1), some (.int r.2.1)] [] → bG (g, mdX1_comesTrue, n0, u0, Q) s.2.2 4 [some (.ref b0), some (.int y1), some (.int s.1), some (.int s.2.1)] [] := by
  intro n
  induction n with
  | zero => intro s r hf; cases hf
  | succ n ih =>
    intro s r hf kx
    rw [lpF_s] at hf
    unfold fX1_comesTrue_l4 at hf
    refine g_iload_n (pc' := 5) dX1_comesTrue_4 rfl rfl rfl ?_
    refine g_aload_n (pc' := 6) dX1_comesTrue_5 rfl rfl rfl ?_
    obtain ⟨v1, hv1, hf⟩ := Option.bind_eq_some_iff.mp hf
    refine g_get (pc' := 9) (fok_1 2 (by decide)) (Or.inl rfl) dX1_comesTrue_6 rfl q139 (hI_spec hv1) ?_
    refine g_icmp_ge (tgt := 58) (pc' := 12) dX1_comesTrue_9 (by decide) rfl (fun h2 => ?_) (fun h2 => ?_)
    · replace hf := (if_pos h2).symm.trans hf
      obtain rfl := Option.some.inj hf
      exact kx
    · replace hf := (if_neg h2).symm.trans hf
      refine g_aload_n (pc' := 13) dX1_comesTrue_12 rfl rfl rfl ?_
      refine g_iload_n (pc' := 14) dX1_comesTrue_13 rfl rfl rfl ?_
      obtain ⟨q3, hq3, hf⟩ := Option.bind_eq_some_iff.mp hf
      obtain ⟨h4, hq3⟩ := vK_spec hq3
      refine g_callV (pc' := 17) (mx := mdX1_rumour) (as := [.int s.2.1]) (wX1_rumour g _ b0 s.2.1 hq3) oX1_rumour ⟨Nat.le_of_ble_eq_true rfl, Nat.le_of_ble_eq_true rfl⟩ dX1_comesTrue_14 rfl (ci := 1) rfl h4 ⟨by decide +kernel, by decide +kernel⟩ oX1_rumour.2.2.2 rfl q307 q308 q309 q309 q308 (Nat.le_of_ble_eq_true rfl) (Nat.le_of_ble_eq_true rfl) (g_rA ?_) g_nt rfl
      refine g_astore (pc' := 19) (L' := [some (.ref b0), some (.int y1), some (.int s.1), some (.int s.2.1), some (.ref q3)]) dX1_comesTrue_17 rfl (Nat.le_of_ble_eq_true rfl) rfl rfl ?_
      refine g_aload (pc' := 21) dX1_comesTrue_19 rfl rfl ?_
      obtain ⟨v5, hv5, hf⟩ := Option.bind_eq_some_iff.mp hf
      refine g_get (pc' := 24) fok_Ru (Or.inl rfl) dX1_comesTrue_21 rfl q382 (hR_spec hv5) ?_
      refine g_iconst (pc' := 25) (v := 0) dX1_comesTrue_24 rfl (by decide) ?_
      obtain ⟨v6, hv6, hf⟩ := Option.bind_eq_some_iff.mp hf
      refine g_iald (pc' := 26) dX1_comesTrue_25 rfl hv6 ?_
      refine g_iload_n (pc' := 27) dX1_comesTrue_26 rfl rfl rfl ?_
      obtain ⟨q7, hqq7, hf⟩ := Option.bind_eq_some_iff.mp hf
      have hJq7 : bG (g, mdX1_comesTrue, n0, u0, Q) q7.2 52 [some (.ref b0), some (.int y1), some (.int q7.1), some (.int s.2.1), none] [] := by
        refine g_iinc (pc' := 55) (v := s.2.1 + 1) (L' := [some (.ref b0), some (.int y1), some (.int q7.1), some (.int (s.2.1 + 1)), none]) dX1_comesTrue_52 rfl rfl rfl (Nat.le_of_ble_eq_true rfl) rfl rfl ?_
        refine g_goto (tgt := 4) dX1_comesTrue_55 (by decide) ?_
        refine g_cut (L := [some (.ref b0), some (.int y1), some (.int q7.1), some (.int (s.2.1 + 1))]) 1 rfl ?_
        exact ih _ r hf kx
      replace hf := hqq7
      refine g_icmp_ne (tgt := 52) (pc' := 30) dX1_comesTrue_27 (by decide) rfl (fun h8 => ?_) (fun h8 => ?_)
      · replace hf := (if_neg h8).symm.trans hf
        obtain rfl := Option.some.inj hf
        refine g_drop [4] (L' := [some (.ref b0), some (.int y1), some (.int s.1), some (.int s.2.1), none]) rfl ?_
        exact hJq7
      · replace hf := (if_pos h8).symm.trans hf
        refine g_aload (pc' := 32) dX1_comesTrue_30 rfl rfl ?_
        obtain ⟨q9, hq9, hf⟩ := Option.bind_eq_some_iff.mp hf
        obtain ⟨h10, hq9⟩ := vR_spec hq9
        refine g_callVR (pc' := 35) (as := []) (wX5_isIn g _ q3 hq9) oX5_isIn ⟨Nat.le_of_ble_eq_true rfl, Nat.le_of_ble_eq_true rfl⟩ dX1_comesTrue_32 rfl h10 ⟨by decide +kernel, by decide +kernel⟩ q629 q569 q570 q572 q573 q575 q574 q576 (Nat.le_of_ble_eq_true rfl) (Nat.le_of_ble_eq_true rfl) (g_rI ?_) g_nt rfl
        refine g_if_ne (tgt := 41) (pc' := 38) dX1_comesTrue_35 (by decide) rfl (fun h11 => ?_) (fun h11 => ?_)
        · replace hf := (if_neg h11).symm.trans hf
          refine g_aload (pc' := 43) dX1_comesTrue_41 rfl rfl ?_
          obtain ⟨v12, hv12, hf⟩ := Option.bind_eq_some_iff.mp hf
          refine g_get (pc' := 46) fok_Ru (Or.inl rfl) dX1_comesTrue_43 rfl q382 (hR_spec hv12) ?_
          refine g_iconst (pc' := 47) (v := 3) dX1_comesTrue_46 rfl (by decide) ?_
          refine g_iconst (pc' := 48) (v := (-1)) dX1_comesTrue_47 rfl (by decide) ?_
          obtain ⟨w13, hw13, hf⟩ := Option.bind_eq_some_iff.mp hf
          refine g_iast (pc' := 49) dX1_comesTrue_48 rfl hw13 ?_
          refine g_iinc (pc' := 52) (v := s.1 + 1) (L' := [some (.ref b0), some (.int y1), some (.int (s.1 + 1)), some (.int s.2.1), some (.ref q3)]) dX1_comesTrue_49 rfl rfl rfl (Nat.le_of_ble_eq_true rfl) rfl rfl ?_
          obtain rfl := Option.some.inj hf
          refine g_drop [4] (L' := [some (.ref b0), some (.int y1), some (.int (s.1 + 1)), some (.int s.2.1), none]) rfl ?_
          exact hJq7
        · replace hf := (if_pos h11).symm.trans hf
          refine g_goto (tgt := 52) dX1_comesTrue_38 (by decide) ?_
          obtain rfl := Option.some.inj hf
          refine g_drop [4] (L' := [some (.ref b0), some (.int y1), some (.int s.1), some (.int s.2.1), none]) rfl ?_
          exact hJq7
set_option maxHeartbeats 4000000 in
theorem wX1_comesTrue (g : bGh) (w : bWl) (a0 : Nat) (x1 : Int32) {r : (Int32 × bWl)} (hf : fX1_comesTrue w a0 x1 = some r) : bM g mdX1_comesTrue w [.ref a0, .int x1] (q_ (eI r.1) r.2) := by
  unfold fX1_comesTrue at hf
  change bG _ _ 0 [some (.ref a0), some (.int x1)] []
  refine g_iconst (pc' := 1) (v := 0) dX1_comesTrue_0 rfl (by decide) ?_
  refine g_istore_n (pc' := 2) (L' := [some (.ref a0), some (.int x1), some (.int 0)]) dX1_comesTrue_1 rfl rfl (Nat.le_of_ble_eq_true rfl) rfl rfl ?_
  refine g_iconst (pc' := 3) (v := 0) dX1_comesTrue_2 rfl (by decide) ?_
  refine g_istore_n (pc' := 4) (L' := [some (.ref a0), some (.int x1), some (.int 0), some (.int 0)]) dX1_comesTrue_3 rfl rfl (Nat.le_of_ble_eq_true rfl) rfl rfl ?_
  obtain ⟨q14, hq14, hf⟩ := Option.bind_eq_some_iff.mp hf
  refine wX1_comesTrue_l4 a0 x1 FU (0, 0, w) q14 hq14 ?_
  refine g_aload_n (pc' := 59) dX1_comesTrue_58 rfl rfl rfl ?_
  refine g_dup (pc' := 60) dX1_comesTrue_59 rfl rfl ?_
  obtain ⟨v15, hv15, hf⟩ := Option.bind_eq_some_iff.mp hf
  refine g_get (pc' := 63) (fok_1 1 (by decide)) (Or.inl rfl) dX1_comesTrue_60 rfl q137 (hI_spec hv15) ?_
  refine g_iconst (pc' := 64) (v := 1) dX1_comesTrue_63 rfl (by decide) ?_
  refine g_iload_n (pc' := 65) dX1_comesTrue_64 rfl rfl rfl ?_
  refine g_ishl (pc' := 66) dX1_comesTrue_65 rfl ?_
  refine g_ior (pc' := 67) dX1_comesTrue_66 rfl ?_
  obtain ⟨w16, hw16, hf⟩ := Option.bind_eq_some_iff.mp hf
  refine g_put (ty := .int) (pc' := 70) (fok_1 1 (by decide)) (Or.inl rfl) dX1_comesTrue_67 rfl q137 (by decide +kernel) rfl rfl hw16 ?_
  refine g_iload_n (pc' := 71) dX1_comesTrue_70 rfl rfl rfl ?_
  obtain rfl := Option.some.inj hf
  exact g_iret dX1_comesTrue_71 rfl rfl ⟨rfl, rfl⟩
def mdX1_lodges : bMD := (yX1_lodges, cX1_lodges, 4, none, [], 4, 72)
theorem oX1_lodges : bOkc mdX1_lodges 1 := ⟨by decide +kernel, ⟨by decide +kernel, by decide +kernel⟩, by decide +kernel, q650⟩
def fX1_lodges (w : bWl) (a0 : Nat) (a1 : Nat) : Option bWl :=
  Option.bind (hR w okRu a1 0) fun v1 =>
  Option.bind (aI w 0 v1 3) fun v2 =>
  Option.bind (hR w (okc 1) a0 4) fun v3 =>
  Option.bind (aI w 0 v3 v2) fun v4 =>
  Option.bind (fv_eats w a1) fun v5 =>
  Option.bind (hR w (okc 1) a0 4) fun v7 =>
  Option.bind (fJ2_max 0 (v4 - v5)) fun q8 =>
  Option.bind (sI w 0 v7 v2 q8) fun w9 =>
  (if 0 ≤ (v4 - v5) then
  Option.bind (fv_grows w9 a1) fun v11 =>
  Option.bind (vR w9 a1 (fX5_swells w9 a1 v11)) fun q13 =>
  some q13
else
  Option.bind (hR w9 okRu a1 0) fun v15 =>
  Option.bind (sI w9 0 v15 3 (-1)) fun w16 =>
  some w16)
set_option maxHeartbeats 4000000 in
theorem wX1_lodges (g : bGh) (w : bWl) (a0 : Nat) (a1 : Nat) {r : bWl} (hf : fX1_lodges w a0 a1 = some r) : bM g mdX1_lodges w [.ref a0, .ref a1] (q_ none r) := by
  unfold fX1_lodges at hf
  change bG _ _ 0 [some (.ref a0), some (.ref a1)] []
  refine g_aload_n (pc' := 1) dX1_lodges_0 rfl rfl rfl ?_
  obtain ⟨v1, hv1, hf⟩ := Option.bind_eq_some_iff.mp hf
  refine g_get (pc' := 4) fok_Ru (Or.inl rfl) dX1_lodges_1 rfl q382 (hR_spec hv1) ?_
  refine g_iconst (pc' := 5) (v := 3) dX1_lodges_4 rfl (by decide) ?_
  obtain ⟨v2, hv2, hf⟩ := Option.bind_eq_some_iff.mp hf
  refine g_iald (pc' := 6) dX1_lodges_5 rfl hv2 ?_
  refine g_istore_n (pc' := 7) (L' := [some (.ref a0), some (.ref a1), some (.int v2)]) dX1_lodges_6 rfl rfl (Nat.le_of_ble_eq_true rfl) rfl rfl ?_
  refine g_aload_n (pc' := 8) dX1_lodges_7 rfl rfl rfl ?_
  obtain ⟨v3, hv3, hf⟩ := Option.bind_eq_some_iff.mp hf
  refine g_get (pc' := 11) (fok_1 4 (by decide)) (Or.inl rfl) dX1_lodges_8 rfl q145 (hR_spec hv3) ?_
  refine g_iload_n (pc' := 12) dX1_lodges_11 rfl rfl rfl ?_
  obtain ⟨v4, hv4, hf⟩ := Option.bind_eq_some_iff.mp hf
  refine g_iald (pc' := 13) dX1_lodges_12 rfl hv4 ?_
  refine g_aload_n (pc' := 14) dX1_lodges_13 rfl rfl rfl ?_
  obtain ⟨v5, hv5, hf⟩ := Option.bind_eq_some_iff.mp hf
  refine gv_eats (pc' := 17) dX1_lodges_14 rfl q321 ⟨Nat.le_of_ble_eq_true rfl, Nat.le_of_ble_eq_true rfl⟩ hv5 (Nat.le_of_ble_eq_true rfl) ?_
  refine g_isub (pc' := 18) dX1_lodges_17 rfl ?_
  refine g_istore_n (pc' := 19) (L' := [some (.ref a0), some (.ref a1), some (.int v2), some (.int (v4 - v5))]) dX1_lodges_18 rfl rfl (Nat.le_of_ble_eq_true rfl) rfl rfl ?_
  refine g_aload_n (pc' := 20) dX1_lodges_19 rfl rfl rfl ?_
  obtain ⟨v7, hv7, hf⟩ := Option.bind_eq_some_iff.mp hf
  refine g_get (pc' := 23) (fok_1 4 (by decide)) (Or.inl rfl) dX1_lodges_20 rfl q145 (hR_spec hv7) ?_
  refine g_iload_n (pc' := 24) dX1_lodges_23 rfl rfl rfl ?_
  refine g_iconst (pc' := 25) (v := 0) dX1_lodges_24 rfl (by decide) ?_
  refine g_iload_n (pc' := 26) dX1_lodges_25 rfl rfl rfl ?_
  obtain ⟨q8, hq8, hf⟩ := Option.bind_eq_some_iff.mp hf
  refine g_callS (pc' := 29) (as := [.int 0, .int (v4 - v5)]) (wJ2_max g _ 0 (v4 - v5) hq8) oJ2_max ⟨Nat.le_of_ble_eq_true rfl, Nat.le_of_ble_eq_true rfl⟩ dX1_lodges_26 rfl q651 q344 q90 (Nat.le_of_ble_eq_true rfl) (Nat.le_of_ble_eq_true rfl) (g_rI ?_) g_nt rfl
  obtain ⟨w9, hw9, hf⟩ := Option.bind_eq_some_iff.mp hf
  refine g_iast (pc' := 30) dX1_lodges_29 rfl hw9 ?_
  refine g_iload_n (pc' := 31) dX1_lodges_30 rfl rfl rfl ?_
  refine g_if_ge (tgt := 44) (pc' := 34) dX1_lodges_31 (by decide) rfl (fun h10 => ?_) (fun h10 => ?_)
  · replace hf := (if_pos h10).symm.trans hf
    refine g_aload_n (pc' := 45) dX1_lodges_44 rfl rfl rfl ?_
    refine g_aload_n (pc' := 46) dX1_lodges_45 rfl rfl rfl ?_
    obtain ⟨v11, hv11, hf⟩ := Option.bind_eq_some_iff.mp hf
    refine gv_grows (pc' := 49) dX1_lodges_46 rfl q652 ⟨Nat.le_of_ble_eq_true rfl, Nat.le_of_ble_eq_true rfl⟩ hv11 (Nat.le_of_ble_eq_true rfl) ?_
    obtain ⟨q13, hq13, hf⟩ := Option.bind_eq_some_iff.mp hf
    obtain ⟨h14, hq13⟩ := vR_spec hq13
    refine g_callVR (pc' := 52) (as := [.int v11]) (wX5_swells g _ a1 v11 hq13) oX5_swells ⟨Nat.le_of_ble_eq_true rfl, Nat.le_of_ble_eq_true rfl⟩ dX1_lodges_49 rfl h14 ⟨by decide +kernel, by decide +kernel⟩ q608 q609 q610 q612 q613 q615 q614 q616 (Nat.le_of_ble_eq_true rfl) (Nat.le_of_ble_eq_true rfl) (g_rV ?_) g_nt rfl
    obtain rfl := Option.some.inj hf
    exact g_vret dX1_lodges_52 rfl ⟨rfl, rfl⟩
  · replace hf := (if_neg h10).symm.trans hf
    refine g_aload_n (pc' := 35) dX1_lodges_34 rfl rfl rfl ?_
    obtain ⟨v15, hv15, hf⟩ := Option.bind_eq_some_iff.mp hf
    refine g_get (pc' := 38) fok_Ru (Or.inl rfl) dX1_lodges_35 rfl q382 (hR_spec hv15) ?_
    refine g_iconst (pc' := 39) (v := 3) dX1_lodges_38 rfl (by decide) ?_
    refine g_iconst (pc' := 40) (v := (-1)) dX1_lodges_39 rfl (by decide) ?_
    obtain ⟨w16, hw16, hf⟩ := Option.bind_eq_some_iff.mp hf
    refine g_iast (pc' := 41) dX1_lodges_40 rfl hw16 ?_
    refine g_goto (tgt := 52) dX1_lodges_41 (by decide) ?_
    obtain rfl := Option.some.inj hf
    exact g_vret dX1_lodges_52 rfl ⟨rfl, rfl⟩
def mdX1_ofEvent : bMD := (yX1_ofEvent, cX1_ofEvent, 5, (some FieldType.int), [], 2, 33)
theorem oX1_ofEvent : bOkc mdX1_ofEvent 2 := ⟨by decide +kernel, ⟨by decide +kernel, by decide +kernel⟩, by decide +kernel, q661⟩
def fX1_ofEvent_l5 (w : bWl) (b0 : Nat) (y1 : Int32) (y2 : Int32) (rec : (Int32 × Int32) → Option (Int32 × Int32)) (s : Int32 × Int32) : Option (Int32 × Int32) :=
  Option.bind (hI w (okc 1) b0 2) fun v1 =>
  (if v1 ≤ s.2 then
  some (s.1, s.2)
else
  Option.bind (fX0_has y1 s.2) fun q3 =>
  Option.bind (α := Int32) ((if q3 = 0 then
  some s.1
else
  Option.bind (vK 1 w b0 (fX1_rumour w b0 s.2)) fun q6 =>
  Option.bind (hR w okRu q6 0) fun v8 =>
  Option.bind (aI w 0 v8 0) fun v9 =>
  (if v9 = y2 then
  some (s.1 ||| (1 <<< (s.2 &&& 31)))
else
  some s.1))) fun q4 =>
  rec (q4, (s.2 + 1)))
def fX1_ofEvent (w : bWl) (a0 : Nat) (x1 : Int32) (x2 : Int32) : Option Int32 :=
  Option.bind (lpF (fX1_ofEvent_l5 w a0 x1 x2) FU (0, 0)) fun q11 =>
  some q11.1
set_option maxHeartbeats 4000000 in
theorem wX1_ofEvent_l5 {g : bGh} {w : bWl} {n0 u0 : Nat} {Q : Outcome → bWl → Prop} (b0 : Nat) (y1 : Int32) (y2 : Int32) : ∀ (n : Nat) (s : Int32 × Int32) (r : (Int32 × Int32)), lpF (fX1_ofEvent_l5 w b0 y1 y2) n s = some r → bG (g, mdX1_ofEvent, n0, u0, Q) w 51 [some (.ref b0), some (.int y1), some (.int y2), some (.int r.1), some (.int r.2)] [] → bG (g, mdX1_ofEvent, n0, u0, Q) w 5 [some (.ref b0), some (.int y1), some (.int y2), some (.int s.1), some (.int s.2)] [] := by
  intro n
  induction n with
  | zero => intro s r hf; cases hf
  | succ n ih =>
    intro s r hf kx
    rw [lpF_s] at hf
    unfold fX1_ofEvent_l5 at hf
    refine g_iload (pc' := 7) dX1_ofEvent_5 rfl rfl ?_
    refine g_aload_n (pc' := 8) dX1_ofEvent_7 rfl rfl rfl ?_
    obtain ⟨v1, hv1, hf⟩ := Option.bind_eq_some_iff.mp hf
    refine g_get (pc' := 11) (fok_1 2 (by decide)) (Or.inl rfl) dX1_ofEvent_8 rfl q139 (hI_spec hv1) ?_
    refine g_icmp_ge (tgt := 51) (pc' := 14) dX1_ofEvent_11 (by decide) rfl (fun h2 => ?_) (fun h2 => ?_)
    · replace hf := (if_pos h2).symm.trans hf
      obtain rfl := Option.some.inj hf
      exact kx
    · replace hf := (if_neg h2).symm.trans hf
      refine g_iload_n (pc' := 15) dX1_ofEvent_14 rfl rfl rfl ?_
      refine g_iload (pc' := 17) dX1_ofEvent_15 rfl rfl ?_
      obtain ⟨q3, hq3, hf⟩ := Option.bind_eq_some_iff.mp hf
      refine g_callSN (pc' := 20) (host := "RumourBeds") (as := [.int y1, .int s.2]) (wX0_has g _ y1 s.2 hq3) oX0_has ⟨Nat.le_of_ble_eq_true rfl, Nat.le_of_ble_eq_true rfl⟩ dX1_ofEvent_17 rfl (List.mem_of_getElem? (i := 14) rfl) q583 q83 (Nat.le_of_ble_eq_true rfl) (Nat.le_of_ble_eq_true rfl) (g_rI ?_) g_nt rfl
      obtain ⟨q4, hqq4, hf⟩ := Option.bind_eq_some_iff.mp hf
      have hJq4 : bG (g, mdX1_ofEvent, n0, u0, Q) w 45 [some (.ref b0), some (.int y1), some (.int y2), some (.int q4), some (.int s.2)] [] := by
        refine g_iinc (pc' := 48) (v := s.2 + 1) (L' := [some (.ref b0), some (.int y1), some (.int y2), some (.int q4), some (.int (s.2 + 1))]) dX1_ofEvent_45 rfl rfl rfl (Nat.le_of_ble_eq_true rfl) rfl rfl ?_
        refine g_goto (tgt := 5) dX1_ofEvent_48 (by decide) ?_
        exact ih _ r hf kx
      replace hf := hqq4
      refine g_if_eq (tgt := 45) (pc' := 23) dX1_ofEvent_20 (by decide) rfl (fun h5 => ?_) (fun h5 => ?_)
      · replace hf := (if_pos h5).symm.trans hf
        obtain rfl := Option.some.inj hf
        exact hJq4
      · replace hf := (if_neg h5).symm.trans hf
        refine g_aload_n (pc' := 24) dX1_ofEvent_23 rfl rfl rfl ?_
        refine g_iload (pc' := 26) dX1_ofEvent_24 rfl rfl ?_
        obtain ⟨q6, hq6, hf⟩ := Option.bind_eq_some_iff.mp hf
        obtain ⟨h7, hq6⟩ := vK_spec hq6
        refine g_callV (pc' := 29) (mx := mdX1_rumour) (as := [.int s.2]) (wX1_rumour g _ b0 s.2 hq6) oX1_rumour ⟨Nat.le_of_ble_eq_true rfl, Nat.le_of_ble_eq_true rfl⟩ dX1_ofEvent_26 rfl (ci := 1) rfl h7 ⟨by decide +kernel, by decide +kernel⟩ oX1_rumour.2.2.2 rfl q307 q308 q309 q309 q308 (Nat.le_of_ble_eq_true rfl) (Nat.le_of_ble_eq_true rfl) (g_rA ?_) g_nt rfl
        obtain ⟨v8, hv8, hf⟩ := Option.bind_eq_some_iff.mp hf
        refine g_get (pc' := 32) fok_Ru (Or.inl rfl) dX1_ofEvent_29 rfl q382 (hR_spec hv8) ?_
        refine g_iconst (pc' := 33) (v := 0) dX1_ofEvent_32 rfl (by decide) ?_
        obtain ⟨v9, hv9, hf⟩ := Option.bind_eq_some_iff.mp hf
        refine g_iald (pc' := 34) dX1_ofEvent_33 rfl hv9 ?_
        refine g_iload_n (pc' := 35) dX1_ofEvent_34 rfl rfl rfl ?_
        refine g_icmp_ne (tgt := 45) (pc' := 38) dX1_ofEvent_35 (by decide) rfl (fun h10 => ?_) (fun h10 => ?_)
        · replace hf := (if_neg h10).symm.trans hf
          obtain rfl := Option.some.inj hf
          exact hJq4
        · replace hf := (if_pos h10).symm.trans hf
          refine g_iload_n (pc' := 39) dX1_ofEvent_38 rfl rfl rfl ?_
          refine g_iconst (pc' := 40) (v := 1) dX1_ofEvent_39 rfl (by decide) ?_
          refine g_iload (pc' := 42) dX1_ofEvent_40 rfl rfl ?_
          refine g_ishl (pc' := 43) dX1_ofEvent_42 rfl ?_
          refine g_ior (pc' := 44) dX1_ofEvent_43 rfl ?_
          refine g_istore_n (pc' := 45) (L' := [some (.ref b0), some (.int y1), some (.int y2), some (.int (s.1 ||| (1 <<< (s.2 &&& 31)))), some (.int s.2)]) dX1_ofEvent_44 rfl rfl (Nat.le_of_ble_eq_true rfl) rfl rfl ?_
          obtain rfl := Option.some.inj hf
          exact hJq4
set_option maxHeartbeats 4000000 in
theorem wX1_ofEvent (g : bGh) (w : bWl) (a0 : Nat) (x1 : Int32) (x2 : Int32) {r : Int32} (hf : fX1_ofEvent w a0 x1 x2 = some r) : bM g mdX1_ofEvent w [.ref a0, .int x1, .int x2] (q_ (eI r) w) := by
  unfold fX1_ofEvent at hf
  change bG _ _ 0 [some (.ref a0), some (.int x1), some (.int x2)] []
  refine g_iconst (pc' := 1) (v := 0) dX1_ofEvent_0 rfl (by decide) ?_
  refine g_istore_n (pc' := 2) (L' := [some (.ref a0), some (.int x1), some (.int x2), some (.int 0)]) dX1_ofEvent_1 rfl rfl (Nat.le_of_ble_eq_true rfl) rfl rfl ?_
  refine g_iconst (pc' := 3) (v := 0) dX1_ofEvent_2 rfl (by decide) ?_
  refine g_istore (pc' := 5) (L' := [some (.ref a0), some (.int x1), some (.int x2), some (.int 0), some (.int 0)]) dX1_ofEvent_3 rfl (Nat.le_of_ble_eq_true rfl) rfl rfl ?_
  obtain ⟨q11, hq11, hf⟩ := Option.bind_eq_some_iff.mp hf
  refine wX1_ofEvent_l5 a0 x1 x2 FU (0, 0) q11 hq11 ?_
  refine g_iload_n (pc' := 52) dX1_ofEvent_51 rfl rfl rfl ?_
  obtain rfl := Option.some.inj hf
  exact g_iret dX1_ofEvent_52 rfl rfl ⟨rfl, rfl⟩
def mdX1_half : bMD := (yX1_half, cX1_half, 4, (some FieldType.int), [], 2, 33)
theorem oX1_half : bOkc mdX1_half 1 := ⟨by decide +kernel, ⟨by decide +kernel, by decide +kernel⟩, by decide +kernel, q665⟩
def fX1_half (w : bWl) (a0 : Nat) (x1 : Int32) : Option Int32 :=
  Option.bind (fJ3_numberOfTrailingZeros x1) fun q1 =>
  Option.bind (fJ3_numberOfTrailingZeros (x1 &&& (x1 - 1))) fun q2 =>
  Option.bind (vK 1 w a0 (fX1_rumour w a0 q1)) fun q3 =>
  Option.bind (hR w okRu q3 0) fun v5 =>
  Option.bind (aI w 0 v5 1) fun v6 =>
  Option.bind (vK 1 w a0 (fX1_rumour w a0 q2)) fun q7 =>
  Option.bind (hR w okRu q7 0) fun v9 =>
  Option.bind (aI w 0 v9 1) fun v10 =>
  some ((v6 + v10) / 2)
set_option maxHeartbeats 4000000 in
theorem wX1_half (g : bGh) (w : bWl) (a0 : Nat) (x1 : Int32) {r : Int32} (hf : fX1_half w a0 x1 = some r) : bM g mdX1_half w [.ref a0, .int x1] (q_ (eI r) w) := by
  unfold fX1_half at hf
  change bG _ _ 0 [some (.ref a0), some (.int x1)] []
  refine g_iload_n (pc' := 1) dX1_half_0 rfl rfl rfl ?_
  obtain ⟨q1, hq1, hf⟩ := Option.bind_eq_some_iff.mp hf
  refine g_callS (pc' := 4) (as := [.int x1]) (wJ3_numberOfTrailingZeros g _ x1 hq1) oJ3_numberOfTrailingZeros ⟨Nat.le_of_ble_eq_true rfl, Nat.le_of_ble_eq_true rfl⟩ dX1_half_1 rfl q666 q667 q98 (Nat.le_of_ble_eq_true rfl) (Nat.le_of_ble_eq_true rfl) (g_rI ?_) g_nt rfl
  refine g_istore_n (pc' := 5) (L' := [some (.ref a0), some (.int x1), some (.int q1)]) dX1_half_4 rfl rfl (Nat.le_of_ble_eq_true rfl) rfl rfl ?_
  refine g_iload_n (pc' := 6) dX1_half_5 rfl rfl rfl ?_
  refine g_iload_n (pc' := 7) dX1_half_6 rfl rfl rfl ?_
  refine g_iconst (pc' := 8) (v := 1) dX1_half_7 rfl (by decide) ?_
  refine g_isub (pc' := 9) dX1_half_8 rfl ?_
  refine g_iand (pc' := 10) dX1_half_9 rfl ?_
  obtain ⟨q2, hq2, hf⟩ := Option.bind_eq_some_iff.mp hf
  refine g_callS (pc' := 13) (as := [.int (x1 &&& (x1 - 1))]) (wJ3_numberOfTrailingZeros g _ (x1 &&& (x1 - 1)) hq2) oJ3_numberOfTrailingZeros ⟨Nat.le_of_ble_eq_true rfl, Nat.le_of_ble_eq_true rfl⟩ dX1_half_10 rfl q666 q667 q98 (Nat.le_of_ble_eq_true rfl) (Nat.le_of_ble_eq_true rfl) (g_rI ?_) g_nt rfl
  refine g_istore_n (pc' := 14) (L' := [some (.ref a0), some (.int x1), some (.int q1), some (.int q2)]) dX1_half_13 rfl rfl (Nat.le_of_ble_eq_true rfl) rfl rfl ?_
  refine g_aload_n (pc' := 15) dX1_half_14 rfl rfl rfl ?_
  refine g_iload_n (pc' := 16) dX1_half_15 rfl rfl rfl ?_
  obtain ⟨q3, hq3, hf⟩ := Option.bind_eq_some_iff.mp hf
  obtain ⟨h4, hq3⟩ := vK_spec hq3
  refine g_callV (pc' := 19) (mx := mdX1_rumour) (as := [.int q1]) (wX1_rumour g _ a0 q1 hq3) oX1_rumour ⟨Nat.le_of_ble_eq_true rfl, Nat.le_of_ble_eq_true rfl⟩ dX1_half_16 rfl (ci := 1) rfl h4 ⟨by decide +kernel, by decide +kernel⟩ oX1_rumour.2.2.2 rfl q307 q308 q309 q309 q308 (Nat.le_of_ble_eq_true rfl) (Nat.le_of_ble_eq_true rfl) (g_rA ?_) g_nt rfl
  obtain ⟨v5, hv5, hf⟩ := Option.bind_eq_some_iff.mp hf
  refine g_get (pc' := 22) fok_Ru (Or.inl rfl) dX1_half_19 rfl q382 (hR_spec hv5) ?_
  refine g_iconst (pc' := 23) (v := 1) dX1_half_22 rfl (by decide) ?_
  obtain ⟨v6, hv6, hf⟩ := Option.bind_eq_some_iff.mp hf
  refine g_iald (pc' := 24) dX1_half_23 rfl hv6 ?_
  refine g_aload_n (pc' := 25) dX1_half_24 rfl rfl rfl ?_
  refine g_iload_n (pc' := 26) dX1_half_25 rfl rfl rfl ?_
  obtain ⟨q7, hq7, hf⟩ := Option.bind_eq_some_iff.mp hf
  obtain ⟨h8, hq7⟩ := vK_spec hq7
  refine g_callV (pc' := 29) (mx := mdX1_rumour) (as := [.int q2]) (wX1_rumour g _ a0 q2 hq7) oX1_rumour ⟨Nat.le_of_ble_eq_true rfl, Nat.le_of_ble_eq_true rfl⟩ dX1_half_26 rfl (ci := 1) rfl h8 ⟨by decide +kernel, by decide +kernel⟩ oX1_rumour.2.2.2 rfl q307 q308 q309 q309 q308 (Nat.le_of_ble_eq_true rfl) (Nat.le_of_ble_eq_true rfl) (g_rA ?_) g_nt rfl
  obtain ⟨v9, hv9, hf⟩ := Option.bind_eq_some_iff.mp hf
  refine g_get (pc' := 32) fok_Ru (Or.inl rfl) dX1_half_29 rfl q382 (hR_spec hv9) ?_
  refine g_iconst (pc' := 33) (v := 1) dX1_half_32 rfl (by decide) ?_
  obtain ⟨v10, hv10, hf⟩ := Option.bind_eq_some_iff.mp hf
  refine g_iald (pc' := 34) dX1_half_33 rfl hv10 ?_
  refine g_iadd (pc' := 35) dX1_half_34 rfl ?_
  refine g_iconst (pc' := 36) (v := 2) dX1_half_35 rfl (by decide) ?_
  refine g_idiv (pc' := 37) dX1_half_36 rfl (by decide) ?_
  obtain rfl := Option.some.inj hf
  exact g_iret dX1_half_37 rfl rfl ⟨rfl, rfl⟩
def mdX1_third : bMD := (yX1_third, cX1_third, 4, none, [], 8, 188)
theorem oX1_third : bOkc mdX1_third 1 := ⟨by decide +kernel, ⟨by decide +kernel, by decide +kernel⟩, by decide +kernel, q657⟩
def fX1_third_l2 (w : bWl) (b0 : Nat) (y1 : Int32) (rec : (Int32) → Option ((Int32) ⊕ bWl)) (s : Int32) : Option ((Int32) ⊕ bWl) :=
  (if 16 ≤ s then
  some (Sum.inl s)
else
  Option.bind (vK 1 w b0 (fX1_inside w b0 y1)) fun q2 =>
  Option.bind (vK 1 w b0 (fX1_ofEvent w b0 q2 s)) fun q4 =>
  Option.bind (fJ3_bitCount q4) fun q6 =>
  (if 2 ≤ q6 then
  Option.bind (vK 1 w b0 (fX1_inside w b0 (-1))) fun q8 =>
  Option.bind (vK 1 w b0 (fX1_ofEvent w b0 q8 s)) fun q10 =>
  (if q10 = 0 then
  Option.bind (hI w (okc 1) b0 2) fun v13 =>
  (if 10 ≤ v13 then
  some (Sum.inr w)
else
  Option.bind (vK 1 w b0 (fX1_half w b0 q4)) fun q15 =>
  Option.bind (vK 1 w b0 (fX1_comes w b0 0 s q15)) fun q17 =>
  some (Sum.inr q17.2))
else
  some (Sum.inr w))
else
  rec (s + 1)))
def fX1_third (w : bWl) (a0 : Nat) (x1 : Int32) : Option bWl :=
  Option.bind (lpF (fX1_third_l2 w a0 x1) FU 0) fun q19 => sx q19 (fun e20 =>
  some w) (fun e20 => some e20)
set_option maxHeartbeats 4000000 in
theorem wX1_third_l2 {g : bGh} {w : bWl} {n0 u0 : Nat} {Q : Outcome → bWl → Prop} (b0 : Nat) (y1 : Int32) : ∀ (n : Nat) (s : Int32) (r : ((Int32) ⊕ bWl)), lpF (fX1_third_l2 w b0 y1) n s = some r → (∀ e, r = Sum.inl e → bG (g, mdX1_third, n0, u0, Q) w 71 [some (.ref b0), some (.int y1), some (.int e)] []) → (∀ e, r = Sum.inr e → Q (.returned none) e) → bG (g, mdX1_third, n0, u0, Q) w 2 [some (.ref b0), some (.int y1), some (.int s)] [] := by
  intro n
  induction n with
  | zero => intro s r hf; cases hf
  | succ n ih =>
    intro s r hf kx kr
    rw [lpF_s] at hf
    unfold fX1_third_l2 at hf
    refine g_iload_n (pc' := 3) dX1_third_2 rfl rfl rfl ?_
    refine g_bipush (pc' := 5) (v := 16) dX1_third_3 rfl (by decide) ?_
    refine g_icmp_ge (tgt := 71) (pc' := 8) dX1_third_5 (by decide) rfl (fun h1 => ?_) (fun h1 => ?_)
    · replace hf := (if_pos h1).symm.trans hf
      obtain rfl := Option.some.inj hf
      exact (kx _ rfl)
    · replace hf := (if_neg h1).symm.trans hf
      refine g_aload_n (pc' := 9) dX1_third_8 rfl rfl rfl ?_
      refine g_aload_n (pc' := 10) dX1_third_9 rfl rfl rfl ?_
      refine g_iload_n (pc' := 11) dX1_third_10 rfl rfl rfl ?_
      obtain ⟨q2, hq2, hf⟩ := Option.bind_eq_some_iff.mp hf
      obtain ⟨h3, hq2⟩ := vK_spec hq2
      refine g_callV (pc' := 14) (mx := mdX1_inside) (as := [.int y1]) (wX1_inside g _ b0 y1 hq2) oX1_inside ⟨Nat.le_of_ble_eq_true rfl, Nat.le_of_ble_eq_true rfl⟩ dX1_third_11 rfl (ci := 1) rfl h3 ⟨by decide +kernel, by decide +kernel⟩ oX1_inside.2.2.2 rfl q557 q304 q305 q305 q304 (Nat.le_of_ble_eq_true rfl) (Nat.le_of_ble_eq_true rfl) (g_rI ?_) g_nt rfl
      refine g_iload_n (pc' := 15) dX1_third_14 rfl rfl rfl ?_
      obtain ⟨q4, hq4, hf⟩ := Option.bind_eq_some_iff.mp hf
      obtain ⟨h5, hq4⟩ := vK_spec hq4
      refine g_callV (pc' := 18) (mx := mdX1_ofEvent) (as := [.int q2, .int s]) (wX1_ofEvent g _ b0 q2 s hq4) oX1_ofEvent ⟨Nat.le_of_ble_eq_true rfl, Nat.le_of_ble_eq_true rfl⟩ dX1_third_15 rfl (ci := 1) rfl h5 ⟨by decide +kernel, by decide +kernel⟩ oX1_ofEvent.2.2.2 rfl q658 q660 qs8 qs8 q660 (Nat.le_of_ble_eq_true rfl) (Nat.le_of_ble_eq_true rfl) (g_rI ?_) g_nt rfl
      refine g_istore_n (pc' := 19) (L' := [some (.ref b0), some (.int y1), some (.int s), some (.int q4)]) dX1_third_18 rfl rfl (Nat.le_of_ble_eq_true rfl) rfl rfl ?_
      refine g_iload_n (pc' := 20) dX1_third_19 rfl rfl rfl ?_
      obtain ⟨q6, hq6, hf⟩ := Option.bind_eq_some_iff.mp hf
      refine g_callS (pc' := 23) (as := [.int q4]) (wJ3_bitCount g _ q4 hq6) oJ3_bitCount ⟨Nat.le_of_ble_eq_true rfl, Nat.le_of_ble_eq_true rfl⟩ dX1_third_20 rfl q558 q559 q98 (Nat.le_of_ble_eq_true rfl) (Nat.le_of_ble_eq_true rfl) (g_rI ?_) g_nt rfl
      refine g_iconst (pc' := 24) (v := 2) dX1_third_23 rfl (by decide) ?_
      refine g_icmp_ge (tgt := 30) (pc' := 27) dX1_third_24 (by decide) rfl (fun h7 => ?_) (fun h7 => ?_)
      · replace hf := (if_pos h7).symm.trans hf
        refine g_aload_n (pc' := 31) dX1_third_30 rfl rfl rfl ?_
        refine g_aload_n (pc' := 32) dX1_third_31 rfl rfl rfl ?_
        refine g_iconst (pc' := 33) (v := (-1)) dX1_third_32 rfl (by decide) ?_
        obtain ⟨q8, hq8, hf⟩ := Option.bind_eq_some_iff.mp hf
        obtain ⟨h9, hq8⟩ := vK_spec hq8
        refine g_callV (pc' := 36) (mx := mdX1_inside) (as := [.int (-1)]) (wX1_inside g _ b0 (-1) hq8) oX1_inside ⟨Nat.le_of_ble_eq_true rfl, Nat.le_of_ble_eq_true rfl⟩ dX1_third_33 rfl (ci := 1) rfl h9 ⟨by decide +kernel, by decide +kernel⟩ oX1_inside.2.2.2 rfl q557 q304 q305 q305 q304 (Nat.le_of_ble_eq_true rfl) (Nat.le_of_ble_eq_true rfl) (g_rI ?_) g_nt rfl
        refine g_iload_n (pc' := 37) dX1_third_36 rfl rfl rfl ?_
        obtain ⟨q10, hq10, hf⟩ := Option.bind_eq_some_iff.mp hf
        obtain ⟨h11, hq10⟩ := vK_spec hq10
        refine g_callV (pc' := 40) (mx := mdX1_ofEvent) (as := [.int q8, .int s]) (wX1_ofEvent g _ b0 q8 s hq10) oX1_ofEvent ⟨Nat.le_of_ble_eq_true rfl, Nat.le_of_ble_eq_true rfl⟩ dX1_third_37 rfl (ci := 1) rfl h11 ⟨by decide +kernel, by decide +kernel⟩ oX1_ofEvent.2.2.2 rfl q658 q660 qs8 qs8 q660 (Nat.le_of_ble_eq_true rfl) (Nat.le_of_ble_eq_true rfl) (g_rI ?_) g_nt rfl
        refine g_if_ne (tgt := 64) (pc' := 43) dX1_third_40 (by decide) rfl (fun h12 => ?_) (fun h12 => ?_)
        · replace hf := (if_neg h12).symm.trans hf
          obtain rfl := Option.some.inj hf
          exact g_vret dX1_third_64 rfl (kr _ rfl)
        · replace hf := (if_pos h12).symm.trans hf
          refine g_aload_n (pc' := 44) dX1_third_43 rfl rfl rfl ?_
          obtain ⟨v13, hv13, hf⟩ := Option.bind_eq_some_iff.mp hf
          refine g_get (pc' := 47) (fok_1 2 (by decide)) (Or.inl rfl) dX1_third_44 rfl q139 (hI_spec hv13) ?_
          refine g_bipush (pc' := 49) (v := 10) dX1_third_47 rfl (by decide) ?_
          refine g_icmp_ge (tgt := 64) (pc' := 52) dX1_third_49 (by decide) rfl (fun h14 => ?_) (fun h14 => ?_)
          · replace hf := (if_pos h14).symm.trans hf
            obtain rfl := Option.some.inj hf
            exact g_vret dX1_third_64 rfl (kr _ rfl)
          · replace hf := (if_neg h14).symm.trans hf
            refine g_aload_n (pc' := 53) dX1_third_52 rfl rfl rfl ?_
            refine g_iconst (pc' := 54) (v := 0) dX1_third_53 rfl (by decide) ?_
            refine g_iload_n (pc' := 55) dX1_third_54 rfl rfl rfl ?_
            refine g_aload_n (pc' := 56) dX1_third_55 rfl rfl rfl ?_
            refine g_iload_n (pc' := 57) dX1_third_56 rfl rfl rfl ?_
            obtain ⟨q15, hq15, hf⟩ := Option.bind_eq_some_iff.mp hf
            obtain ⟨h16, hq15⟩ := vK_spec hq15
            refine g_callV (pc' := 60) (mx := mdX1_half) (as := [.int q4]) (wX1_half g _ b0 q4 hq15) oX1_half ⟨Nat.le_of_ble_eq_true rfl, Nat.le_of_ble_eq_true rfl⟩ dX1_third_57 rfl (ci := 1) rfl h16 ⟨by decide +kernel, by decide +kernel⟩ oX1_half.2.2.2 rfl q662 q664 qs9 qs9 q664 (Nat.le_of_ble_eq_true rfl) (Nat.le_of_ble_eq_true rfl) (g_rI ?_) g_nt rfl
            obtain ⟨q17, hq17, hf⟩ := Option.bind_eq_some_iff.mp hf
            obtain ⟨h18, hq17⟩ := vK_spec hq17
            refine g_callV (pc' := 63) (mx := mdX1_comes) (as := [.int 0, .int s, .int q15]) (wX1_comes g _ b0 0 s q15 hq17) oX1_comes ⟨Nat.le_of_ble_eq_true rfl, Nat.le_of_ble_eq_true rfl⟩ dX1_third_60 rfl (ci := 1) rfl h18 ⟨by decide +kernel, by decide +kernel⟩ oX1_comes.2.2.2 rfl q670 q361 q362 q362 q361 (Nat.le_of_ble_eq_true rfl) (Nat.le_of_ble_eq_true rfl) (g_rA ?_) g_nt rfl
            refine g_pop (pc' := 64) dX1_third_63 rfl rfl ?_
            obtain rfl := Option.some.inj hf
            exact g_vret dX1_third_64 rfl (kr _ rfl)
      · replace hf := (if_neg h7).symm.trans hf
        refine g_goto (tgt := 65) dX1_third_27 (by decide) ?_
        refine g_iinc (pc' := 68) (v := s + 1) (L' := [some (.ref b0), some (.int y1), some (.int (s + 1)), some (.int q4)]) dX1_third_65 rfl rfl rfl (Nat.le_of_ble_eq_true rfl) rfl rfl ?_
        refine g_goto (tgt := 2) dX1_third_68 (by decide) ?_
        refine g_drop [3] (L' := [some (.ref b0), some (.int y1), some (.int (s + 1)), none]) rfl ?_
        refine g_cut (L := [some (.ref b0), some (.int y1), some (.int (s + 1))]) 1 rfl ?_
        exact ih _ r hf kx kr
set_option maxHeartbeats 4000000 in
theorem wX1_third (g : bGh) (w : bWl) (a0 : Nat) (x1 : Int32) {r : bWl} (hf : fX1_third w a0 x1 = some r) : bM g mdX1_third w [.ref a0, .int x1] (q_ none r) := by
  unfold fX1_third at hf
  change bG _ _ 0 [some (.ref a0), some (.int x1)] []
  refine g_iconst (pc' := 1) (v := 0) dX1_third_0 rfl (by decide) ?_
  refine g_istore_n (pc' := 2) (L' := [some (.ref a0), some (.int x1), some (.int 0)]) dX1_third_1 rfl rfl (Nat.le_of_ble_eq_true rfl) rfl rfl ?_
  obtain ⟨q19, hq19, hf⟩ := Option.bind_eq_some_iff.mp hf
  cases q19 with
  | inl e20 =>
    replace hf : _ = some _ := hf
    refine wX1_third_l2 a0 x1 FU _ (Sum.inl e20) hq19 (fun e' he => ?_) (fun e' he => by cases he)
    cases he
    obtain rfl := Option.some.inj hf
    exact g_vret dX1_third_71 rfl ⟨rfl, rfl⟩
  | inr e20 =>
    refine wX1_third_l2 a0 x1 FU _ (Sum.inr e20) hq19 (fun e' he => by cases he) (fun e' he => ?_)
    cases he
    obtain rfl := Option.some.inj hf
    exact ⟨rfl, rfl⟩
def mdX1_aDay : bMD := (yX1_aDay, cX1_aDay, 3, none, [], 9, 211)
theorem oX1_aDay : bOkc mdX1_aDay 0 := ⟨by decide +kernel, ⟨by decide +kernel, by decide +kernel⟩, by decide +kernel, q646⟩
def fX1_aDay_l2 (b0 : Nat) (rec : (Int32 × bWl) → Option (Int32 × bWl)) (s : Int32 × bWl) : Option (Int32 × bWl) :=
  Option.bind (hI s.2 (okc 1) b0 2) fun v1 =>
  (if v1 ≤ s.1 then
  some (s.1, s.2)
else
  Option.bind (vK 1 s.2 b0 (fX1_rumour s.2 b0 s.1)) fun q3 =>
  Option.bind (vR s.2 q3 (fX5_isIn s.2 q3)) fun q5 =>
  Option.bind (α := bWl) ((if q5 = 0 then
  some s.2
else
  Option.bind (vK 1 s.2 b0 (fX1_lodges s.2 b0 q3)) fun q9 =>
  some q9)) fun q7 =>
  Option.bind (hR q7 okRu q3 0) fun v11 =>
  Option.bind (hR q7 okRu q3 0) fun v12 =>
  Option.bind (aI q7 0 v12 2) fun v13 =>
  Option.bind (fJ2_min 999 (v13 + 1)) fun q14 =>
  Option.bind (sI q7 0 v11 2 q14) fun w15 =>
  rec ((s.1 + 1), w15))
def fX1_aDay_l56 (b0 : Nat) (rec : (Int32 × bWl) → Option (Int32 × bWl)) (s : Int32 × bWl) : Option (Int32 × bWl) :=
  (if 8 ≤ s.1 then
  some (s.1, s.2)
else
  Option.bind (vK 1 s.2 b0 (fX1_third s.2 b0 s.1)) fun q18 =>
  rec ((s.1 + 1), q18))
def fX1_aDay_l75 (b0 : Nat) (rec : (Int32 × bWl) → Option (Int32 × bWl)) (s : Int32 × bWl) : Option (Int32 × bWl) :=
  Option.bind (hI s.2 (okc 1) b0 2) fun v21 =>
  (if v21 ≤ s.1 then
  some (s.1, s.2)
else
  Option.bind (vK 1 s.2 b0 (fX1_rumour s.2 b0 s.1)) fun q23 =>
  Option.bind (vR s.2 q23 (fX5_isIn s.2 q23)) fun q25 =>
  Option.bind (α := bWl) ((if q25 = 0 then
  Option.bind (vK 1 s.2 b0 (fX1_rumour s.2 b0 s.1)) fun q29 =>
  Option.bind (vK 1 s.2 b0 (fX1_comesIn s.2 b0 q29)) fun q31 =>
  some q31
else
  some s.2)) fun q27 =>
  rec ((s.1 + 1), q27))
def fX1_aDay (w : bWl) (a0 : Nat) : Option bWl :=
  Option.bind (lpF (fX1_aDay_l2 a0) FU (0, w)) fun q16 =>
  Option.bind (lpF (fX1_aDay_l56 a0) FU (0, q16.2)) fun q20 =>
  Option.bind (lpF (fX1_aDay_l75 a0) FU (0, q20.2)) fun q33 =>
  Option.bind (hI q33.2 (okc 1) a0 0) fun v34 =>
  Option.bind (hP q33.2 (okc 1) a0 0 (.int (v34 + 1))) fun w35 =>
  some w35
set_option maxHeartbeats 4000000 in
theorem wX1_aDay_l2 {g : bGh} {n0 u0 : Nat} {Q : Outcome → bWl → Prop} (b0 : Nat) : ∀ (n : Nat) (s : Int32 × bWl) (r : (Int32 × bWl)), lpF (fX1_aDay_l2 b0) n s = some r → bG (g, mdX1_aDay, n0, u0, Q) r.2 54 [some (.ref b0), some (.int r.1)] [] → bG (g, mdX1_aDay, n0, u0, Q) s.2 2 [some (.ref b0), some (.int s.1)] [] := by
  intro n
  induction n with
  | zero => intro s r hf; cases hf
  | succ n ih =>
    intro s r hf kx
    rw [lpF_s] at hf
    unfold fX1_aDay_l2 at hf
    refine g_iload_n (pc' := 3) dX1_aDay_2 rfl rfl rfl ?_
    refine g_aload_n (pc' := 4) dX1_aDay_3 rfl rfl rfl ?_
    obtain ⟨v1, hv1, hf⟩ := Option.bind_eq_some_iff.mp hf
    refine g_get (pc' := 7) (fok_1 2 (by decide)) (Or.inl rfl) dX1_aDay_4 rfl q139 (hI_spec hv1) ?_
    refine g_icmp_ge (tgt := 54) (pc' := 10) dX1_aDay_7 (by decide) rfl (fun h2 => ?_) (fun h2 => ?_)
    · replace hf := (if_pos h2).symm.trans hf
      obtain rfl := Option.some.inj hf
      exact kx
    · replace hf := (if_neg h2).symm.trans hf
      refine g_aload_n (pc' := 11) dX1_aDay_10 rfl rfl rfl ?_
      refine g_iload_n (pc' := 12) dX1_aDay_11 rfl rfl rfl ?_
      obtain ⟨q3, hq3, hf⟩ := Option.bind_eq_some_iff.mp hf
      obtain ⟨h4, hq3⟩ := vK_spec hq3
      refine g_callV (pc' := 15) (mx := mdX1_rumour) (as := [.int s.1]) (wX1_rumour g _ b0 s.1 hq3) oX1_rumour ⟨Nat.le_of_ble_eq_true rfl, Nat.le_of_ble_eq_true rfl⟩ dX1_aDay_12 rfl (ci := 1) rfl h4 ⟨by decide +kernel, by decide +kernel⟩ oX1_rumour.2.2.2 rfl q307 q308 q309 q309 q308 (Nat.le_of_ble_eq_true rfl) (Nat.le_of_ble_eq_true rfl) (g_rA ?_) g_nt rfl
      refine g_astore_n (pc' := 16) (L' := [some (.ref b0), some (.int s.1), some (.ref q3)]) dX1_aDay_15 rfl rfl (Nat.le_of_ble_eq_true rfl) rfl rfl ?_
      refine g_aload_n (pc' := 17) dX1_aDay_16 rfl rfl rfl ?_
      obtain ⟨q5, hq5, hf⟩ := Option.bind_eq_some_iff.mp hf
      obtain ⟨h6, hq5⟩ := vR_spec hq5
      refine g_callVR (pc' := 20) (as := []) (wX5_isIn g _ q3 hq5) oX5_isIn ⟨Nat.le_of_ble_eq_true rfl, Nat.le_of_ble_eq_true rfl⟩ dX1_aDay_17 rfl h6 ⟨by decide +kernel, by decide +kernel⟩ q629 q569 q570 q572 q573 q575 q574 q576 (Nat.le_of_ble_eq_true rfl) (Nat.le_of_ble_eq_true rfl) (g_rI ?_) g_nt rfl
      obtain ⟨q7, hqq7, hf⟩ := Option.bind_eq_some_iff.mp hf
      have hJq7 : bG (g, mdX1_aDay, n0, u0, Q) q7 28 [some (.ref b0), some (.int s.1), some (.ref q3)] [] := by
        refine g_aload_n (pc' := 29) dX1_aDay_28 rfl rfl rfl ?_
        obtain ⟨v11, hv11, hf⟩ := Option.bind_eq_some_iff.mp hf
        refine g_get (pc' := 32) fok_Ru (Or.inl rfl) dX1_aDay_29 rfl q382 (hR_spec hv11) ?_
        refine g_iconst (pc' := 33) (v := 2) dX1_aDay_32 rfl (by decide) ?_
        refine g_sipush (pc' := 36) (v := 999) dX1_aDay_33 rfl (by decide) ?_
        refine g_aload_n (pc' := 37) dX1_aDay_36 rfl rfl rfl ?_
        obtain ⟨v12, hv12, hf⟩ := Option.bind_eq_some_iff.mp hf
        refine g_get (pc' := 40) fok_Ru (Or.inl rfl) dX1_aDay_37 rfl q382 (hR_spec hv12) ?_
        refine g_iconst (pc' := 41) (v := 2) dX1_aDay_40 rfl (by decide) ?_
        obtain ⟨v13, hv13, hf⟩ := Option.bind_eq_some_iff.mp hf
        refine g_iald (pc' := 42) dX1_aDay_41 rfl hv13 ?_
        refine g_iconst (pc' := 43) (v := 1) dX1_aDay_42 rfl (by decide) ?_
        refine g_iadd (pc' := 44) dX1_aDay_43 rfl ?_
        obtain ⟨q14, hq14, hf⟩ := Option.bind_eq_some_iff.mp hf
        refine g_callS (pc' := 47) (as := [.int 999, .int (v13 + 1)]) (wJ2_min g _ 999 (v13 + 1) hq14) oJ2_min ⟨Nat.le_of_ble_eq_true rfl, Nat.le_of_ble_eq_true rfl⟩ dX1_aDay_44 rfl q653 q619 q90 (Nat.le_of_ble_eq_true rfl) (Nat.le_of_ble_eq_true rfl) (g_rI ?_) g_nt rfl
        obtain ⟨w15, hw15, hf⟩ := Option.bind_eq_some_iff.mp hf
        refine g_iast (pc' := 48) dX1_aDay_47 rfl hw15 ?_
        refine g_iinc (pc' := 51) (v := s.1 + 1) (L' := [some (.ref b0), some (.int (s.1 + 1)), some (.ref q3)]) dX1_aDay_48 rfl rfl rfl (Nat.le_of_ble_eq_true rfl) rfl rfl ?_
        refine g_goto (tgt := 2) dX1_aDay_51 (by decide) ?_
        refine g_drop [2] (L' := [some (.ref b0), some (.int (s.1 + 1)), none]) rfl ?_
        refine g_cut (L := [some (.ref b0), some (.int (s.1 + 1))]) 1 rfl ?_
        exact ih _ r hf kx
      replace hf := hqq7
      refine g_if_eq (tgt := 28) (pc' := 23) dX1_aDay_20 (by decide) rfl (fun h8 => ?_) (fun h8 => ?_)
      · replace hf := (if_pos h8).symm.trans hf
        obtain rfl := Option.some.inj hf
        exact hJq7
      · replace hf := (if_neg h8).symm.trans hf
        refine g_aload_n (pc' := 24) dX1_aDay_23 rfl rfl rfl ?_
        refine g_aload_n (pc' := 25) dX1_aDay_24 rfl rfl rfl ?_
        obtain ⟨q9, hq9, hf⟩ := Option.bind_eq_some_iff.mp hf
        obtain ⟨h10, hq9⟩ := vK_spec hq9
        refine g_callV (pc' := 28) (mx := mdX1_lodges) (as := [.ref q3]) (wX1_lodges g _ b0 q3 hq9) oX1_lodges ⟨Nat.le_of_ble_eq_true rfl, Nat.le_of_ble_eq_true rfl⟩ dX1_aDay_25 rfl (ci := 1) rfl h10 ⟨by decide +kernel, by decide +kernel⟩ oX1_lodges.2.2.2 rfl q647 q649 qs6 qs6 q649 (Nat.le_of_ble_eq_true rfl) (Nat.le_of_ble_eq_true rfl) (g_rV ?_) g_nt rfl
        obtain rfl := Option.some.inj hf
        exact hJq7
set_option maxHeartbeats 4000000 in
theorem wX1_aDay_l56 {g : bGh} {n0 u0 : Nat} {Q : Outcome → bWl → Prop} (b0 : Nat) : ∀ (n : Nat) (s : Int32 × bWl) (r : (Int32 × bWl)), lpF (fX1_aDay_l56 b0) n s = some r → bG (g, mdX1_aDay, n0, u0, Q) r.2 73 [some (.ref b0), some (.int r.1)] [] → bG (g, mdX1_aDay, n0, u0, Q) s.2 56 [some (.ref b0), some (.int s.1)] [] := by
  intro n
  induction n with
  | zero => intro s r hf; cases hf
  | succ n ih =>
    intro s r hf kx
    rw [lpF_s] at hf
    unfold fX1_aDay_l56 at hf
    refine g_iload_n (pc' := 57) dX1_aDay_56 rfl rfl rfl ?_
    refine g_bipush (pc' := 59) (v := 8) dX1_aDay_57 rfl (by decide) ?_
    refine g_icmp_ge (tgt := 73) (pc' := 62) dX1_aDay_59 (by decide) rfl (fun h17 => ?_) (fun h17 => ?_)
    · replace hf := (if_pos h17).symm.trans hf
      obtain rfl := Option.some.inj hf
      exact kx
    · replace hf := (if_neg h17).symm.trans hf
      refine g_aload_n (pc' := 63) dX1_aDay_62 rfl rfl rfl ?_
      refine g_iload_n (pc' := 64) dX1_aDay_63 rfl rfl rfl ?_
      obtain ⟨q18, hq18, hf⟩ := Option.bind_eq_some_iff.mp hf
      obtain ⟨h19, hq18⟩ := vK_spec hq18
      refine g_callV (pc' := 67) (mx := mdX1_third) (as := [.int s.1]) (wX1_third g _ b0 s.1 hq18) oX1_third ⟨Nat.le_of_ble_eq_true rfl, Nat.le_of_ble_eq_true rfl⟩ dX1_aDay_64 rfl (ci := 1) rfl h19 ⟨by decide +kernel, by decide +kernel⟩ oX1_third.2.2.2 rfl q654 q656 qs7 qs7 q656 (Nat.le_of_ble_eq_true rfl) (Nat.le_of_ble_eq_true rfl) (g_rV ?_) g_nt rfl
      refine g_iinc (pc' := 70) (v := s.1 + 1) (L' := [some (.ref b0), some (.int (s.1 + 1))]) dX1_aDay_67 rfl rfl rfl (Nat.le_of_ble_eq_true rfl) rfl rfl ?_
      refine g_goto (tgt := 56) dX1_aDay_70 (by decide) ?_
      exact ih _ r hf kx
set_option maxHeartbeats 4000000 in
theorem wX1_aDay_l75 {g : bGh} {n0 u0 : Nat} {Q : Outcome → bWl → Prop} (b0 : Nat) : ∀ (n : Nat) (s : Int32 × bWl) (r : (Int32 × bWl)), lpF (fX1_aDay_l75 b0) n s = some r → bG (g, mdX1_aDay, n0, u0, Q) r.2 109 [some (.ref b0), some (.int r.1)] [] → bG (g, mdX1_aDay, n0, u0, Q) s.2 75 [some (.ref b0), some (.int s.1)] [] := by
  intro n
  induction n with
  | zero => intro s r hf; cases hf
  | succ n ih =>
    intro s r hf kx
    rw [lpF_s] at hf
    unfold fX1_aDay_l75 at hf
    refine g_iload_n (pc' := 76) dX1_aDay_75 rfl rfl rfl ?_
    refine g_aload_n (pc' := 77) dX1_aDay_76 rfl rfl rfl ?_
    obtain ⟨v21, hv21, hf⟩ := Option.bind_eq_some_iff.mp hf
    refine g_get (pc' := 80) (fok_1 2 (by decide)) (Or.inl rfl) dX1_aDay_77 rfl q139 (hI_spec hv21) ?_
    refine g_icmp_ge (tgt := 109) (pc' := 83) dX1_aDay_80 (by decide) rfl (fun h22 => ?_) (fun h22 => ?_)
    · replace hf := (if_pos h22).symm.trans hf
      obtain rfl := Option.some.inj hf
      exact kx
    · replace hf := (if_neg h22).symm.trans hf
      refine g_aload_n (pc' := 84) dX1_aDay_83 rfl rfl rfl ?_
      refine g_iload_n (pc' := 85) dX1_aDay_84 rfl rfl rfl ?_
      obtain ⟨q23, hq23, hf⟩ := Option.bind_eq_some_iff.mp hf
      obtain ⟨h24, hq23⟩ := vK_spec hq23
      refine g_callV (pc' := 88) (mx := mdX1_rumour) (as := [.int s.1]) (wX1_rumour g _ b0 s.1 hq23) oX1_rumour ⟨Nat.le_of_ble_eq_true rfl, Nat.le_of_ble_eq_true rfl⟩ dX1_aDay_85 rfl (ci := 1) rfl h24 ⟨by decide +kernel, by decide +kernel⟩ oX1_rumour.2.2.2 rfl q307 q308 q309 q309 q308 (Nat.le_of_ble_eq_true rfl) (Nat.le_of_ble_eq_true rfl) (g_rA ?_) g_nt rfl
      obtain ⟨q25, hq25, hf⟩ := Option.bind_eq_some_iff.mp hf
      obtain ⟨h26, hq25⟩ := vR_spec hq25
      refine g_callVR (pc' := 91) (as := []) (wX5_isIn g _ q23 hq25) oX5_isIn ⟨Nat.le_of_ble_eq_true rfl, Nat.le_of_ble_eq_true rfl⟩ dX1_aDay_88 rfl h26 ⟨by decide +kernel, by decide +kernel⟩ q629 q569 q570 q572 q573 q575 q574 q576 (Nat.le_of_ble_eq_true rfl) (Nat.le_of_ble_eq_true rfl) (g_rI ?_) g_nt rfl
      obtain ⟨q27, hqq27, hf⟩ := Option.bind_eq_some_iff.mp hf
      have hJq27 : bG (g, mdX1_aDay, n0, u0, Q) q27 103 [some (.ref b0), some (.int s.1)] [] := by
        refine g_iinc (pc' := 106) (v := s.1 + 1) (L' := [some (.ref b0), some (.int (s.1 + 1))]) dX1_aDay_103 rfl rfl rfl (Nat.le_of_ble_eq_true rfl) rfl rfl ?_
        refine g_goto (tgt := 75) dX1_aDay_106 (by decide) ?_
        exact ih _ r hf kx
      replace hf := hqq27
      refine g_if_ne (tgt := 103) (pc' := 94) dX1_aDay_91 (by decide) rfl (fun h28 => ?_) (fun h28 => ?_)
      · replace hf := (if_neg h28).symm.trans hf
        obtain rfl := Option.some.inj hf
        exact hJq27
      · replace hf := (if_pos h28).symm.trans hf
        refine g_aload_n (pc' := 95) dX1_aDay_94 rfl rfl rfl ?_
        refine g_aload_n (pc' := 96) dX1_aDay_95 rfl rfl rfl ?_
        refine g_iload_n (pc' := 97) dX1_aDay_96 rfl rfl rfl ?_
        obtain ⟨q29, hq29, hf⟩ := Option.bind_eq_some_iff.mp hf
        obtain ⟨h30, hq29⟩ := vK_spec hq29
        refine g_callV (pc' := 100) (mx := mdX1_rumour) (as := [.int s.1]) (wX1_rumour g _ b0 s.1 hq29) oX1_rumour ⟨Nat.le_of_ble_eq_true rfl, Nat.le_of_ble_eq_true rfl⟩ dX1_aDay_97 rfl (ci := 1) rfl h30 ⟨by decide +kernel, by decide +kernel⟩ oX1_rumour.2.2.2 rfl q307 q308 q309 q309 q308 (Nat.le_of_ble_eq_true rfl) (Nat.le_of_ble_eq_true rfl) (g_rA ?_) g_nt rfl
        obtain ⟨q31, hq31, hf⟩ := Option.bind_eq_some_iff.mp hf
        obtain ⟨h32, hq31⟩ := vK_spec hq31
        refine g_callV (pc' := 103) (mx := mdX1_comesIn) (as := [.ref q29]) (wX1_comesIn g _ b0 q29 hq31) oX1_comesIn ⟨Nat.le_of_ble_eq_true rfl, Nat.le_of_ble_eq_true rfl⟩ dX1_aDay_100 rfl (ci := 1) rfl h32 ⟨by decide +kernel, by decide +kernel⟩ oX1_comesIn.2.2.2 rfl q671 q586 q587 q587 q586 (Nat.le_of_ble_eq_true rfl) (Nat.le_of_ble_eq_true rfl) (g_rV ?_) g_nt rfl
        obtain rfl := Option.some.inj hf
        exact hJq27
set_option maxHeartbeats 4000000 in
theorem wX1_aDay (g : bGh) (w : bWl) (a0 : Nat) {r : bWl} (hf : fX1_aDay w a0 = some r) : bM g mdX1_aDay w [.ref a0] (q_ none r) := by
  unfold fX1_aDay at hf
  change bG _ _ 0 [some (.ref a0)] []
  refine g_iconst (pc' := 1) (v := 0) dX1_aDay_0 rfl (by decide) ?_
  refine g_istore_n (pc' := 2) (L' := [some (.ref a0), some (.int 0)]) dX1_aDay_1 rfl rfl (Nat.le_of_ble_eq_true rfl) rfl rfl ?_
  obtain ⟨q16, hq16, hf⟩ := Option.bind_eq_some_iff.mp hf
  refine wX1_aDay_l2 a0 FU (0, w) q16 hq16 ?_
  refine g_iconst (pc' := 55) (v := 0) dX1_aDay_54 rfl (by decide) ?_
  refine g_istore_n (pc' := 56) (L' := [some (.ref a0), some (.int 0)]) dX1_aDay_55 rfl rfl (Nat.le_of_ble_eq_true rfl) rfl rfl ?_
  obtain ⟨q20, hq20, hf⟩ := Option.bind_eq_some_iff.mp hf
  refine wX1_aDay_l56 a0 FU (0, q16.2) q20 hq20 ?_
  refine g_iconst (pc' := 74) (v := 0) dX1_aDay_73 rfl (by decide) ?_
  refine g_istore_n (pc' := 75) (L' := [some (.ref a0), some (.int 0)]) dX1_aDay_74 rfl rfl (Nat.le_of_ble_eq_true rfl) rfl rfl ?_
  obtain ⟨q33, hq33, hf⟩ := Option.bind_eq_some_iff.mp hf
  refine wX1_aDay_l75 a0 FU (0, q20.2) q33 hq33 ?_
  refine g_aload_n (pc' := 110) dX1_aDay_109 rfl rfl rfl ?_
  refine g_dup (pc' := 111) dX1_aDay_110 rfl rfl ?_
  obtain ⟨v34, hv34, hf⟩ := Option.bind_eq_some_iff.mp hf
  refine g_get (pc' := 114) (fok_1 0 (by decide)) (Or.inl rfl) dX1_aDay_111 rfl q135 (hI_spec hv34) ?_
  refine g_iconst (pc' := 115) (v := 1) dX1_aDay_114 rfl (by decide) ?_
  refine g_iadd (pc' := 116) dX1_aDay_115 rfl ?_
  obtain ⟨w35, hw35, hf⟩ := Option.bind_eq_some_iff.mp hf
  refine g_put (ty := .int) (pc' := 119) (fok_1 0 (by decide)) (Or.inl rfl) dX1_aDay_116 rfl q135 (by decide +kernel) rfl rfl hw35 ?_
  obtain rfl := Option.some.inj hf
  exact g_vret dX1_aDay_119 rfl ⟨rfl, rfl⟩
def mdX1_days : bMD := (yX1_days, cX1_days, 3, none, [], 10, 233)
theorem oX1_days : bOkc mdX1_days 1 := ⟨by decide +kernel, ⟨by decide +kernel, by decide +kernel⟩, by decide +kernel, q642⟩
def fX1_days_l2 (b0 : Nat) (y1 : Int32) (rec : (Int32 × bWl) → Option (Int32 × bWl)) (s : Int32 × bWl) : Option (Int32 × bWl) :=
  (if y1 ≤ s.1 then
  some (s.1, s.2)
else
  Option.bind (vK 1 s.2 b0 (fX1_aDay s.2 b0)) fun q2 =>
  rec ((s.1 + 1), q2))
def fX1_days (w : bWl) (a0 : Nat) (x1 : Int32) : Option bWl :=
  Option.bind (lpF (fX1_days_l2 a0 x1) FU (0, w)) fun q4 =>
  some q4.2
set_option maxHeartbeats 4000000 in
theorem wX1_days_l2 {g : bGh} {n0 u0 : Nat} {Q : Outcome → bWl → Prop} (b0 : Nat) (y1 : Int32) : ∀ (n : Nat) (s : Int32 × bWl) (r : (Int32 × bWl)), lpF (fX1_days_l2 b0 y1) n s = some r → bG (g, mdX1_days, n0, u0, Q) r.2 17 [some (.ref b0), some (.int y1), some (.int r.1)] [] → bG (g, mdX1_days, n0, u0, Q) s.2 2 [some (.ref b0), some (.int y1), some (.int s.1)] [] := by
  intro n
  induction n with
  | zero => intro s r hf; cases hf
  | succ n ih =>
    intro s r hf kx
    rw [lpF_s] at hf
    unfold fX1_days_l2 at hf
    refine g_iload_n (pc' := 3) dX1_days_2 rfl rfl rfl ?_
    refine g_iload_n (pc' := 4) dX1_days_3 rfl rfl rfl ?_
    refine g_icmp_ge (tgt := 17) (pc' := 7) dX1_days_4 (by decide) rfl (fun h1 => ?_) (fun h1 => ?_)
    · replace hf := (if_pos h1).symm.trans hf
      obtain rfl := Option.some.inj hf
      exact kx
    · replace hf := (if_neg h1).symm.trans hf
      refine g_aload_n (pc' := 8) dX1_days_7 rfl rfl rfl ?_
      obtain ⟨q2, hq2, hf⟩ := Option.bind_eq_some_iff.mp hf
      obtain ⟨h3, hq2⟩ := vK_spec hq2
      refine g_callV (pc' := 11) (mx := mdX1_aDay) (as := []) (wX1_aDay g _ b0 hq2) oX1_aDay ⟨Nat.le_of_ble_eq_true rfl, Nat.le_of_ble_eq_true rfl⟩ dX1_days_8 rfl (ci := 1) rfl h3 ⟨by decide +kernel, by decide +kernel⟩ oX1_aDay.2.2.2 rfl q643 q644 q645 q645 q644 (Nat.le_of_ble_eq_true rfl) (Nat.le_of_ble_eq_true rfl) (g_rV ?_) g_nt rfl
      refine g_iinc (pc' := 14) (v := s.1 + 1) (L' := [some (.ref b0), some (.int y1), some (.int (s.1 + 1))]) dX1_days_11 rfl rfl rfl (Nat.le_of_ble_eq_true rfl) rfl rfl ?_
      refine g_goto (tgt := 2) dX1_days_14 (by decide) ?_
      exact ih _ r hf kx
set_option maxHeartbeats 4000000 in
theorem wX1_days (g : bGh) (w : bWl) (a0 : Nat) (x1 : Int32) {r : bWl} (hf : fX1_days w a0 x1 = some r) : bM g mdX1_days w [.ref a0, .int x1] (q_ none r) := by
  unfold fX1_days at hf
  change bG _ _ 0 [some (.ref a0), some (.int x1)] []
  refine g_iconst (pc' := 1) (v := 0) dX1_days_0 rfl (by decide) ?_
  refine g_istore_n (pc' := 2) (L' := [some (.ref a0), some (.int x1), some (.int 0)]) dX1_days_1 rfl rfl (Nat.le_of_ble_eq_true rfl) rfl rfl ?_
  obtain ⟨q4, hq4, hf⟩ := Option.bind_eq_some_iff.mp hf
  refine wX1_days_l2 a0 x1 FU (0, w) q4 hq4 ?_
  obtain rfl := Option.some.inj hf
  exact g_vret dX1_days_17 rfl ⟨rfl, rfl⟩
def mdX1_larders : bMD := (yX1_larders, cX1_larders, 3, (some FieldType.int), [], 1, 12)
theorem oX1_larders : bOkc mdX1_larders 0 := ⟨by decide +kernel, ⟨by decide +kernel, by decide +kernel⟩, by decide +kernel, q684⟩
def fX1_larders_l4 (w : bWl) (b0 : Nat) (rec : (Int32 × Int32) → Option (Int32 × Int32)) (s : Int32 × Int32) : Option (Int32 × Int32) :=
  (if 8 ≤ s.2 then
  some (s.1, s.2)
else
  Option.bind (hR w (okc 1) b0 4) fun v2 =>
  Option.bind (aI w 0 v2 s.2) fun v3 =>
  rec ((s.1 + v3), (s.2 + 1)))
def fX1_larders (w : bWl) (a0 : Nat) : Option Int32 :=
  Option.bind (lpF (fX1_larders_l4 w a0) FU (0, 0)) fun q4 =>
  some q4.1
set_option maxHeartbeats 4000000 in
theorem wX1_larders_l4 {g : bGh} {w : bWl} {n0 u0 : Nat} {Q : Outcome → bWl → Prop} (b0 : Nat) : ∀ (n : Nat) (s : Int32 × Int32) (r : (Int32 × Int32)), lpF (fX1_larders_l4 w b0) n s = some r → bG (g, mdX1_larders, n0, u0, Q) w 25 [some (.ref b0), some (.int r.1), some (.int r.2)] [] → bG (g, mdX1_larders, n0, u0, Q) w 4 [some (.ref b0), some (.int s.1), some (.int s.2)] [] := by
  intro n
  induction n with
  | zero => intro s r hf; cases hf
  | succ n ih =>
    intro s r hf kx
    rw [lpF_s] at hf
    unfold fX1_larders_l4 at hf
    refine g_iload_n (pc' := 5) dX1_larders_4 rfl rfl rfl ?_
    refine g_bipush (pc' := 7) (v := 8) dX1_larders_5 rfl (by decide) ?_
    refine g_icmp_ge (tgt := 25) (pc' := 10) dX1_larders_7 (by decide) rfl (fun h1 => ?_) (fun h1 => ?_)
    · replace hf := (if_pos h1).symm.trans hf
      obtain rfl := Option.some.inj hf
      exact kx
    · replace hf := (if_neg h1).symm.trans hf
      refine g_iload_n (pc' := 11) dX1_larders_10 rfl rfl rfl ?_
      refine g_aload_n (pc' := 12) dX1_larders_11 rfl rfl rfl ?_
      obtain ⟨v2, hv2, hf⟩ := Option.bind_eq_some_iff.mp hf
      refine g_get (pc' := 15) (fok_1 4 (by decide)) (Or.inl rfl) dX1_larders_12 rfl q145 (hR_spec hv2) ?_
      refine g_iload_n (pc' := 16) dX1_larders_15 rfl rfl rfl ?_
      obtain ⟨v3, hv3, hf⟩ := Option.bind_eq_some_iff.mp hf
      refine g_iald (pc' := 17) dX1_larders_16 rfl hv3 ?_
      refine g_iadd (pc' := 18) dX1_larders_17 rfl ?_
      refine g_istore_n (pc' := 19) (L' := [some (.ref b0), some (.int (s.1 + v3)), some (.int s.2)]) dX1_larders_18 rfl rfl (Nat.le_of_ble_eq_true rfl) rfl rfl ?_
      refine g_iinc (pc' := 22) (v := s.2 + 1) (L' := [some (.ref b0), some (.int (s.1 + v3)), some (.int (s.2 + 1))]) dX1_larders_19 rfl rfl rfl (Nat.le_of_ble_eq_true rfl) rfl rfl ?_
      refine g_goto (tgt := 4) dX1_larders_22 (by decide) ?_
      exact ih _ r hf kx
set_option maxHeartbeats 4000000 in
theorem wX1_larders (g : bGh) (w : bWl) (a0 : Nat) {r : Int32} (hf : fX1_larders w a0 = some r) : bM g mdX1_larders w [.ref a0] (q_ (eI r) w) := by
  unfold fX1_larders at hf
  change bG _ _ 0 [some (.ref a0)] []
  refine g_iconst (pc' := 1) (v := 0) dX1_larders_0 rfl (by decide) ?_
  refine g_istore_n (pc' := 2) (L' := [some (.ref a0), some (.int 0)]) dX1_larders_1 rfl rfl (Nat.le_of_ble_eq_true rfl) rfl rfl ?_
  refine g_iconst (pc' := 3) (v := 0) dX1_larders_2 rfl (by decide) ?_
  refine g_istore_n (pc' := 4) (L' := [some (.ref a0), some (.int 0), some (.int 0)]) dX1_larders_3 rfl rfl (Nat.le_of_ble_eq_true rfl) rfl rfl ?_
  obtain ⟨q4, hq4, hf⟩ := Option.bind_eq_some_iff.mp hf
  refine wX1_larders_l4 a0 FU (0, 0) q4 hq4 ?_
  refine g_iload_n (pc' := 26) dX1_larders_25 rfl rfl rfl ?_
  obtain rfl := Option.some.inj hf
  exact g_iret dX1_larders_26 rfl rfl ⟨rfl, rfl⟩
def mdX1_become : bMD := (yX1_become, cX1_become, 4, none, [], 7, 163)
theorem oX1_become : bOkc mdX1_become 1 := ⟨by decide +kernel, ⟨by decide +kernel, by decide +kernel⟩, by decide +kernel, q709⟩
def fX1_become_l71 (b0 : Nat) (b1 : Nat) (rec : (Int32 × bWl) → Option (Int32 × bWl)) (s : Int32 × bWl) : Option (Int32 × bWl) :=
  Option.bind (hI s.2 (okc 1) b0 2) fun v16 =>
  (if v16 ≤ s.1 then
  some (s.1, s.2)
else
  Option.bind (vK 1 s.2 b1 (fX1_rumour s.2 b1 s.1)) fun q18 =>
  Option.bind (fv_kind s.2 q18) fun v20 =>
  Option.bind (vK 1 s.2 b0 (fX1_pooled s.2 b0 s.1 v20)) fun q22 =>
  Option.bind (vK 1 q22.2 b1 (fX1_rumour q22.2 b1 s.1)) fun q24 =>
  Option.bind (vR q22.2 q22.1 (fX5_like q22.2 q22.1 q24)) fun q26 =>
  Option.bind (hR q26 (okc 1) b0 6) fun v28 =>
  Option.bind (aR q26 v28 s.1) fun v29 =>
  Option.bind (hP q26 (okc 2) v29 0 (.ref q22.1)) fun w30 =>
  rec ((s.1 + 1), w30))
def fX1_become (w : bWl) (a0 : Nat) (a1 : Nat) : Option bWl :=
  Option.bind (hI w (okc 1) a1 0) fun v1 =>
  Option.bind (hP w (okc 1) a0 0 (.int v1)) fun w2 =>
  Option.bind (hI w2 (okc 1) a1 1) fun v3 =>
  Option.bind (hP w2 (okc 1) a0 1 (.int v3)) fun w4 =>
  Option.bind (hI w4 (okc 1) a1 2) fun v5 =>
  Option.bind (hP w4 (okc 1) a0 2 (.int v5)) fun w6 =>
  Option.bind (hR w6 (okc 1) a1 3) fun v7 =>
  Option.bind (hR w6 (okc 1) a0 3) fun v8 =>
  Option.bind (cpy w6 v7 0 v8 0 8) fun w9 =>
  Option.bind (hR w9 (okc 1) a1 4) fun v10 =>
  Option.bind (hR w9 (okc 1) a0 4) fun v11 =>
  Option.bind (cpy w9 v10 0 v11 0 8) fun w12 =>
  Option.bind (hR w12 (okc 1) a1 5) fun v13 =>
  Option.bind (hR w12 (okc 1) a0 5) fun v14 =>
  Option.bind (cpy w12 v13 0 v14 0 8) fun w15 =>
  Option.bind (lpF (fX1_become_l71 a0 a1) FU (0, w15)) fun q31 =>
  some q31.2
set_option maxHeartbeats 4000000 in
theorem wX1_become_l71 {g : bGh} {n0 u0 : Nat} {Q : Outcome → bWl → Prop} (b0 : Nat) (b1 : Nat) : ∀ (n : Nat) (s : Int32 × bWl) (r : (Int32 × bWl)), lpF (fX1_become_l71 b0 b1) n s = some r → bG (g, mdX1_become, n0, u0, Q) r.2 118 [some (.ref b0), some (.ref b1), some (.int r.1)] [] → bG (g, mdX1_become, n0, u0, Q) s.2 71 [some (.ref b0), some (.ref b1), some (.int s.1)] [] := by
  intro n
  induction n with
  | zero => intro s r hf; cases hf
  | succ n ih =>
    intro s r hf kx
    rw [lpF_s] at hf
    unfold fX1_become_l71 at hf
    refine g_iload_n (pc' := 72) dX1_become_71 rfl rfl rfl ?_
    refine g_aload_n (pc' := 73) dX1_become_72 rfl rfl rfl ?_
    obtain ⟨v16, hv16, hf⟩ := Option.bind_eq_some_iff.mp hf
    refine g_get (pc' := 76) (fok_1 2 (by decide)) (Or.inl rfl) dX1_become_73 rfl q139 (hI_spec hv16) ?_
    refine g_icmp_ge (tgt := 118) (pc' := 79) dX1_become_76 (by decide) rfl (fun h17 => ?_) (fun h17 => ?_)
    · replace hf := (if_pos h17).symm.trans hf
      obtain rfl := Option.some.inj hf
      exact kx
    · replace hf := (if_neg h17).symm.trans hf
      refine g_aload_n (pc' := 80) dX1_become_79 rfl rfl rfl ?_
      refine g_iload_n (pc' := 81) dX1_become_80 rfl rfl rfl ?_
      refine g_aload_n (pc' := 82) dX1_become_81 rfl rfl rfl ?_
      refine g_iload_n (pc' := 83) dX1_become_82 rfl rfl rfl ?_
      obtain ⟨q18, hq18, hf⟩ := Option.bind_eq_some_iff.mp hf
      obtain ⟨h19, hq18⟩ := vK_spec hq18
      refine g_callV (pc' := 86) (mx := mdX1_rumour) (as := [.int s.1]) (wX1_rumour g _ b1 s.1 hq18) oX1_rumour ⟨Nat.le_of_ble_eq_true rfl, Nat.le_of_ble_eq_true rfl⟩ dX1_become_83 rfl (ci := 1) rfl h19 ⟨by decide +kernel, by decide +kernel⟩ oX1_rumour.2.2.2 rfl q307 q308 q309 q309 q308 (Nat.le_of_ble_eq_true rfl) (Nat.le_of_ble_eq_true rfl) (g_rA ?_) g_nt rfl
      obtain ⟨v20, hv20, hf⟩ := Option.bind_eq_some_iff.mp hf
      refine gv_kind (pc' := 89) dX1_become_86 rfl q711 ⟨Nat.le_of_ble_eq_true rfl, Nat.le_of_ble_eq_true rfl⟩ hv20 (Nat.le_of_ble_eq_true rfl) ?_
      obtain ⟨q22, hq22, hf⟩ := Option.bind_eq_some_iff.mp hf
      obtain ⟨h23, hq22⟩ := vK_spec hq22
      refine g_callV (pc' := 92) (mx := mdX1_pooled) (as := [.int s.1, .int v20]) (wX1_pooled g _ b0 s.1 v20 hq22) oX1_pooled ⟨Nat.le_of_ble_eq_true rfl, Nat.le_of_ble_eq_true rfl⟩ dX1_become_89 rfl (ci := 1) rfl h23 ⟨by decide +kernel, by decide +kernel⟩ oX1_pooled.2.2.2 rfl q364 q366 qs3 qs3 q366 (Nat.le_of_ble_eq_true rfl) (Nat.le_of_ble_eq_true rfl) (g_rA ?_) g_nt rfl
      refine g_astore_n (pc' := 93) (L' := [some (.ref b0), some (.ref b1), some (.int s.1), some (.ref q22.1)]) dX1_become_92 rfl rfl (Nat.le_of_ble_eq_true rfl) rfl rfl ?_
      refine g_aload_n (pc' := 94) dX1_become_93 rfl rfl rfl ?_
      refine g_aload_n (pc' := 95) dX1_become_94 rfl rfl rfl ?_
      refine g_iload_n (pc' := 96) dX1_become_95 rfl rfl rfl ?_
      obtain ⟨q24, hq24, hf⟩ := Option.bind_eq_some_iff.mp hf
      obtain ⟨h25, hq24⟩ := vK_spec hq24
      refine g_callV (pc' := 99) (mx := mdX1_rumour) (as := [.int s.1]) (wX1_rumour g _ b1 s.1 hq24) oX1_rumour ⟨Nat.le_of_ble_eq_true rfl, Nat.le_of_ble_eq_true rfl⟩ dX1_become_96 rfl (ci := 1) rfl h25 ⟨by decide +kernel, by decide +kernel⟩ oX1_rumour.2.2.2 rfl q307 q308 q309 q309 q308 (Nat.le_of_ble_eq_true rfl) (Nat.le_of_ble_eq_true rfl) (g_rA ?_) g_nt rfl
      obtain ⟨q26, hq26, hf⟩ := Option.bind_eq_some_iff.mp hf
      obtain ⟨h27, hq26⟩ := vR_spec hq26
      refine g_callVR (pc' := 102) (as := [.ref q24]) (wX5_like g _ q22.1 q24 hq26) oX5_like ⟨Nat.le_of_ble_eq_true rfl, Nat.le_of_ble_eq_true rfl⟩ dX1_become_99 rfl h27 ⟨by decide +kernel, by decide +kernel⟩ q511 q512 q513 q515 q516 q518 q517 q519 (Nat.le_of_ble_eq_true rfl) (Nat.le_of_ble_eq_true rfl) (g_rV ?_) g_nt rfl
      refine g_aload_n (pc' := 103) dX1_become_102 rfl rfl rfl ?_
      obtain ⟨v28, hv28, hf⟩ := Option.bind_eq_some_iff.mp hf
      refine g_get (pc' := 106) (fok_1 6 (by decide)) (Or.inl rfl) dX1_become_103 rfl q151 (hR_spec hv28) ?_
      refine g_iload_n (pc' := 107) dX1_become_106 rfl rfl rfl ?_
      obtain ⟨v29, hv29, hf⟩ := Option.bind_eq_some_iff.mp hf
      refine g_aald (pc' := 108) dX1_become_107 rfl hv29 ?_
      refine g_aload_n (pc' := 109) dX1_become_108 rfl rfl rfl ?_
      obtain ⟨w30, hw30, hf⟩ := Option.bind_eq_some_iff.mp hf
      refine g_put (ty := (.object "java/lang/Object")) (pc' := 112) (fok_2 0 (by decide)) (Or.inl rfl) dX1_become_109 rfl q129 (by decide +kernel) rfl rfl hw30 ?_
      refine g_iinc (pc' := 115) (v := s.1 + 1) (L' := [some (.ref b0), some (.ref b1), some (.int (s.1 + 1)), some (.ref q22.1)]) dX1_become_112 rfl rfl rfl (Nat.le_of_ble_eq_true rfl) rfl rfl ?_
      refine g_goto (tgt := 71) dX1_become_115 (by decide) ?_
      refine g_drop [3] (L' := [some (.ref b0), some (.ref b1), some (.int (s.1 + 1)), none]) rfl ?_
      refine g_cut (L := [some (.ref b0), some (.ref b1), some (.int (s.1 + 1))]) 1 rfl ?_
      exact ih _ r hf kx
set_option maxHeartbeats 4000000 in
theorem wX1_become (g : bGh) (w : bWl) (a0 : Nat) (a1 : Nat) {r : bWl} (hf : fX1_become w a0 a1 = some r) : bM g mdX1_become w [.ref a0, .ref a1] (q_ none r) := by
  unfold fX1_become at hf
  change bG _ _ 0 [some (.ref a0), some (.ref a1)] []
  refine g_aload_n (pc' := 1) dX1_become_0 rfl rfl rfl ?_
  refine g_aload_n (pc' := 2) dX1_become_1 rfl rfl rfl ?_
  obtain ⟨v1, hv1, hf⟩ := Option.bind_eq_some_iff.mp hf
  refine g_get (pc' := 5) (fok_1 0 (by decide)) (Or.inl rfl) dX1_become_2 rfl q135 (hI_spec hv1) ?_
  obtain ⟨w2, hw2, hf⟩ := Option.bind_eq_some_iff.mp hf
  refine g_put (ty := .int) (pc' := 8) (fok_1 0 (by decide)) (Or.inl rfl) dX1_become_5 rfl q135 (by decide +kernel) rfl rfl hw2 ?_
  refine g_aload_n (pc' := 9) dX1_become_8 rfl rfl rfl ?_
  refine g_aload_n (pc' := 10) dX1_become_9 rfl rfl rfl ?_
  obtain ⟨v3, hv3, hf⟩ := Option.bind_eq_some_iff.mp hf
  refine g_get (pc' := 13) (fok_1 1 (by decide)) (Or.inl rfl) dX1_become_10 rfl q137 (hI_spec hv3) ?_
  obtain ⟨w4, hw4, hf⟩ := Option.bind_eq_some_iff.mp hf
  refine g_put (ty := .int) (pc' := 16) (fok_1 1 (by decide)) (Or.inl rfl) dX1_become_13 rfl q137 (by decide +kernel) rfl rfl hw4 ?_
  refine g_aload_n (pc' := 17) dX1_become_16 rfl rfl rfl ?_
  refine g_aload_n (pc' := 18) dX1_become_17 rfl rfl rfl ?_
  obtain ⟨v5, hv5, hf⟩ := Option.bind_eq_some_iff.mp hf
  refine g_get (pc' := 21) (fok_1 2 (by decide)) (Or.inl rfl) dX1_become_18 rfl q139 (hI_spec hv5) ?_
  obtain ⟨w6, hw6, hf⟩ := Option.bind_eq_some_iff.mp hf
  refine g_put (ty := .int) (pc' := 24) (fok_1 2 (by decide)) (Or.inl rfl) dX1_become_21 rfl q139 (by decide +kernel) rfl rfl hw6 ?_
  refine g_aload_n (pc' := 25) dX1_become_24 rfl rfl rfl ?_
  obtain ⟨v7, hv7, hf⟩ := Option.bind_eq_some_iff.mp hf
  refine g_get (pc' := 28) (fok_1 3 (by decide)) (Or.inl rfl) dX1_become_25 rfl q142 (hR_spec hv7) ?_
  refine g_iconst (pc' := 29) (v := 0) dX1_become_28 rfl (by decide) ?_
  refine g_aload_n (pc' := 30) dX1_become_29 rfl rfl rfl ?_
  obtain ⟨v8, hv8, hf⟩ := Option.bind_eq_some_iff.mp hf
  refine g_get (pc' := 33) (fok_1 3 (by decide)) (Or.inl rfl) dX1_become_30 rfl q142 (hR_spec hv8) ?_
  refine g_iconst (pc' := 34) (v := 0) dX1_become_33 rfl (by decide) ?_
  refine g_bipush (pc' := 36) (v := 8) dX1_become_34 rfl (by decide) ?_
  obtain ⟨w9, hw9, hf⟩ := Option.bind_eq_some_iff.mp hf
  refine g_copy (pc' := 39) dX1_become_36 rfl q710 q523 q522 q97 ⟨Nat.le_of_ble_eq_true rfl, Nat.le_of_ble_eq_true rfl⟩ (Nat.le_of_ble_eq_true rfl) hw9 ?_
  refine g_aload_n (pc' := 40) dX1_become_39 rfl rfl rfl ?_
  obtain ⟨v10, hv10, hf⟩ := Option.bind_eq_some_iff.mp hf
  refine g_get (pc' := 43) (fok_1 4 (by decide)) (Or.inl rfl) dX1_become_40 rfl q145 (hR_spec hv10) ?_
  refine g_iconst (pc' := 44) (v := 0) dX1_become_43 rfl (by decide) ?_
  refine g_aload_n (pc' := 45) dX1_become_44 rfl rfl rfl ?_
  obtain ⟨v11, hv11, hf⟩ := Option.bind_eq_some_iff.mp hf
  refine g_get (pc' := 48) (fok_1 4 (by decide)) (Or.inl rfl) dX1_become_45 rfl q145 (hR_spec hv11) ?_
  refine g_iconst (pc' := 49) (v := 0) dX1_become_48 rfl (by decide) ?_
  refine g_bipush (pc' := 51) (v := 8) dX1_become_49 rfl (by decide) ?_
  obtain ⟨w12, hw12, hf⟩ := Option.bind_eq_some_iff.mp hf
  refine g_copy (pc' := 54) dX1_become_51 rfl q710 q523 q522 q97 ⟨Nat.le_of_ble_eq_true rfl, Nat.le_of_ble_eq_true rfl⟩ (Nat.le_of_ble_eq_true rfl) hw12 ?_
  refine g_aload_n (pc' := 55) dX1_become_54 rfl rfl rfl ?_
  obtain ⟨v13, hv13, hf⟩ := Option.bind_eq_some_iff.mp hf
  refine g_get (pc' := 58) (fok_1 5 (by decide)) (Or.inl rfl) dX1_become_55 rfl q148 (hR_spec hv13) ?_
  refine g_iconst (pc' := 59) (v := 0) dX1_become_58 rfl (by decide) ?_
  refine g_aload_n (pc' := 60) dX1_become_59 rfl rfl rfl ?_
  obtain ⟨v14, hv14, hf⟩ := Option.bind_eq_some_iff.mp hf
  refine g_get (pc' := 63) (fok_1 5 (by decide)) (Or.inl rfl) dX1_become_60 rfl q148 (hR_spec hv14) ?_
  refine g_iconst (pc' := 64) (v := 0) dX1_become_63 rfl (by decide) ?_
  refine g_bipush (pc' := 66) (v := 8) dX1_become_64 rfl (by decide) ?_
  obtain ⟨w15, hw15, hf⟩ := Option.bind_eq_some_iff.mp hf
  refine g_copy (pc' := 69) dX1_become_66 rfl q710 q523 q522 q97 ⟨Nat.le_of_ble_eq_true rfl, Nat.le_of_ble_eq_true rfl⟩ (Nat.le_of_ble_eq_true rfl) hw15 ?_
  refine g_iconst (pc' := 70) (v := 0) dX1_become_69 rfl (by decide) ?_
  refine g_istore_n (pc' := 71) (L' := [some (.ref a0), some (.ref a1), some (.int 0)]) dX1_become_70 rfl rfl (Nat.le_of_ble_eq_true rfl) rfl rfl ?_
  obtain ⟨q31, hq31, hf⟩ := Option.bind_eq_some_iff.mp hf
  refine wX1_become_l71 a0 a1 FU (0, w15) q31 hq31 ?_
  obtain rfl := Option.some.inj hf
  exact g_vret dX1_become_118 rfl ⟨rfl, rfl⟩
