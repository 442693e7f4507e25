/-! printed by tools/gen.py: 45.desk1 -/
set_option maxRecDepth 100000
def mdX0_best : bMD := (yX0_best, cX0_best, 5, (some FieldType.int), [(0, 71, 72, 1)], 11, 255)
theorem oX0_best : bOkc mdX0_best 1 := ⟨by decide +kernel, ⟨by decide +kernel, by decide +kernel⟩, by decide +kernel, q740⟩
def fX0_best_l14 (b0 : Nat) (y1 : Int32) (rec : (Int32 × Int32 × Int32 × bWl) → Option (Int32 × Int32 × Int32 × bWl)) (s : Int32 × Int32 × Int32 × bWl) : Option (Int32 × Int32 × Int32 × bWl) :=
  (if 16 ≤ s.2.2.1 then
  some (s.1, s.2.1, s.2.2.1, s.2.2.2)
else
  Option.bind (vK 0 s.2.2.2 b0 (fX0_tried s.2.2.2 b0)) fun q6 =>
  Option.bind (vK 1 q6.2 q6.1 (fX1_comesTrue q6.2 q6.1 s.2.2.1)) fun q8 =>
  Option.bind (hR q8.2 (okc 0) b0 3) fun v10 =>
  Option.bind (vK 1 q8.2 v10 (fX1_days q8.2 v10 y1)) fun q11 =>
  Option.bind (hR q11 (okc 0) b0 3) fun v13 =>
  Option.bind (vK 1 q11 v13 (fX1_larders q11 v13)) fun q14 =>
  Option.bind (α := Int32 × Int32) ((if s.2.1 < q14 then
  Option.bind (hR q11 (okc 0) b0 3) fun v18 =>
  Option.bind (vK 1 q11 v18 (fX1_larders q11 v18)) fun q19 =>
  some (s.2.2.1, q19)
else
  some (s.1, s.2.1))) fun q16 =>
  rec (q16.1, q16.2, (s.2.2.1 + 1), q11))
def fX0_best (w : bWl) (a0 : Nat) (x1 : Int32) : Option (Int32 × bWl) :=
  Option.bind (fX0_isSoon x1) fun q1 =>
  Option.bind (fX0_isTold w q1) fun q2 => sm q2.1 (fun v3 =>
  Option.bind (lpF (fX0_best_l14 a0 x1) FU (0, (-1), 0, q2.2)) fun q21 =>
  some (q21.1, q21.2.2.2)) (fun a4 => vK 4 q2.2 a4 (Option.bind (vK 0 q2.2 a0 (fX0_finds q2.2 a0 a4)) fun q23 =>
  some (q23.1, q23.2)))
set_option maxHeartbeats 4000000 in
theorem wX0_best_l14 {g : bGh} {n0 u0 : Nat} {Q : Outcome → bWl → Prop} (b0 : Nat) (y1 : Int32) : ∀ (n : Nat) (s : Int32 × Int32 × Int32 × bWl) (r : (Int32 × Int32 × Int32 × bWl)), lpF (fX0_best_l14 b0 y1) n s = some r → bG (g, mdX0_best, n0, u0, Q) r.2.2.2 70 [some (.ref b0), some (.int y1), some (.int r.1), some (.int r.2.1), some (.int r.2.2.1)] [] → bG (g, mdX0_best, n0, u0, Q) s.2.2.2 14 [some (.ref b0), some (.int y1), some (.int s.1), some (.int s.2.1), some (.int s.2.2.1)] [] := by
  intro n
  induction n with
  | zero => intro s r hf; cases hf
  | succ n ih =>
    intro s r hf kx
    rw [lpF_s] at hf
    unfold fX0_best_l14 at hf
    refine g_iload (pc' := 16) dX0_best_14 rfl rfl ?_
    refine g_bipush (pc' := 18) (v := 16) dX0_best_16 rfl (by decide) ?_
    refine g_icmp_ge (tgt := 70) (pc' := 21) dX0_best_18 (by decide) rfl (fun h5 => ?_) (fun h5 => ?_)
    · replace hf := (if_pos h5).symm.trans hf
      obtain rfl := Option.some.inj hf
      exact kx
    · replace hf := (if_neg h5).symm.trans hf
      refine g_aload_n (pc' := 22) dX0_best_21 rfl rfl rfl ?_
      obtain ⟨q6, hq6, hf⟩ := Option.bind_eq_some_iff.mp hf
      obtain ⟨h7, hq6⟩ := vK_spec hq6
      refine g_callV (pc' := 25) (mx := mdX0_tried) (as := []) (wX0_tried g _ b0 hq6) oX0_tried ⟨Nat.le_of_ble_eq_true rfl, Nat.le_of_ble_eq_true rfl⟩ dX0_best_22 rfl (ci := 0) rfl h7 ⟨by decide +kernel, by decide +kernel⟩ oX0_tried.2.2.2 rfl q702 q704 qs13 qs13 q704 (Nat.le_of_ble_eq_true rfl) (Nat.le_of_ble_eq_true rfl) (g_rA ?_) g_nt rfl
      refine g_iload (pc' := 27) dX0_best_25 rfl rfl ?_
      obtain ⟨q8, hq8, hf⟩ := Option.bind_eq_some_iff.mp hf
      obtain ⟨h9, hq8⟩ := vK_spec hq8
      refine g_callV (pc' := 30) (mx := mdX1_comesTrue) (as := [.int s.2.2.1]) (wX1_comesTrue g _ q6.1 s.2.2.1 hq8) oX1_comesTrue ⟨Nat.le_of_ble_eq_true rfl, Nat.le_of_ble_eq_true rfl⟩ dX0_best_27 rfl (ci := 1) rfl h9 ⟨by decide +kernel, by decide +kernel⟩ oX1_comesTrue.2.2.2 rfl q625 q626 q627 q627 q626 (Nat.le_of_ble_eq_true rfl) (Nat.le_of_ble_eq_true rfl) (g_rI ?_) g_nt rfl
      refine g_pop (pc' := 31) dX0_best_30 rfl rfl ?_
      refine g_aload_n (pc' := 32) dX0_best_31 rfl rfl rfl ?_
      obtain ⟨v10, hv10, hf⟩ := Option.bind_eq_some_iff.mp hf
      refine g_get (pc' := 35) (fok_0 3 (by decide)) (Or.inl rfl) dX0_best_32 rfl q174 (hR_spec hv10) ?_
      refine g_iload_n (pc' := 36) dX0_best_35 rfl rfl rfl ?_
      obtain ⟨q11, hq11, hf⟩ := Option.bind_eq_some_iff.mp hf
      obtain ⟨h12, hq11⟩ := vK_spec hq11
      refine g_callV (pc' := 39) (mx := mdX1_days) (as := [.int y1]) (wX1_days g _ v10 y1 hq11) oX1_days ⟨Nat.le_of_ble_eq_true rfl, Nat.le_of_ble_eq_true rfl⟩ dX0_best_36 rfl (ci := 1) rfl h12 ⟨by decide +kernel, by decide +kernel⟩ oX1_days.2.2.2 rfl q639 q640 q641 q641 q640 (Nat.le_of_ble_eq_true rfl) (Nat.le_of_ble_eq_true rfl) (g_rV ?_) g_nt rfl
      refine g_aload_n (pc' := 40) dX0_best_39 rfl rfl rfl ?_
      obtain ⟨v13, hv13, hf⟩ := Option.bind_eq_some_iff.mp hf
      refine g_get (pc' := 43) (fok_0 3 (by decide)) (Or.inl rfl) dX0_best_40 rfl q174 (hR_spec hv13) ?_
      obtain ⟨q14, hq14, hf⟩ := Option.bind_eq_some_iff.mp hf
      obtain ⟨h15, hq14⟩ := vK_spec hq14
      refine g_callV (pc' := 46) (mx := mdX1_larders) (as := []) (wX1_larders g _ v13 hq14) oX1_larders ⟨Nat.le_of_ble_eq_true rfl, Nat.le_of_ble_eq_true rfl⟩ dX0_best_43 rfl (ci := 1) rfl h15 ⟨by decide +kernel, by decide +kernel⟩ oX1_larders.2.2.2 rfl q681 q682 q683 q683 q682 (Nat.le_of_ble_eq_true rfl) (Nat.le_of_ble_eq_true rfl) (g_rI ?_) g_nt rfl
      refine g_iload_n (pc' := 47) dX0_best_46 rfl rfl rfl ?_
      obtain ⟨q16, hqq16, hf⟩ := Option.bind_eq_some_iff.mp hf
      have hJq16 : bG (g, mdX0_best, n0, u0, Q) q11 64 [some (.ref b0), some (.int y1), some (.int q16.1), some (.int q16.2), some (.int s.2.2.1)] [] := by
        refine g_iinc (pc' := 67) (v := s.2.2.1 + 1) (L' := [some (.ref b0), some (.int y1), some (.int q16.1), some (.int q16.2), some (.int (s.2.2.1 + 1))]) dX0_best_64 rfl rfl rfl (Nat.le_of_ble_eq_true rfl) rfl rfl ?_
        refine g_goto (tgt := 14) dX0_best_67 (by decide) ?_
        exact ih _ r hf kx
      replace hf := hqq16
      refine g_icmp_gt (tgt := 53) (pc' := 50) dX0_best_47 (by decide) rfl (fun h17 => ?_) (fun h17 => ?_)
      · replace hf := (if_pos h17).symm.trans hf
        refine g_iload (pc' := 55) dX0_best_53 rfl rfl ?_
        refine g_istore_n (pc' := 56) (L' := [some (.ref b0), some (.int y1), some (.int s.2.2.1), some (.int s.2.1), some (.int s.2.2.1)]) dX0_best_55 rfl rfl (Nat.le_of_ble_eq_true rfl) rfl rfl ?_
        refine g_aload_n (pc' := 57) dX0_best_56 rfl rfl rfl ?_
        obtain ⟨v18, hv18, hf⟩ := Option.bind_eq_some_iff.mp hf
        refine g_get (pc' := 60) (fok_0 3 (by decide)) (Or.inl rfl) dX0_best_57 rfl q174 (hR_spec hv18) ?_
        obtain ⟨q19, hq19, hf⟩ := Option.bind_eq_some_iff.mp hf
        obtain ⟨h20, hq19⟩ := vK_spec hq19
        refine g_callV (pc' := 63) (mx := mdX1_larders) (as := []) (wX1_larders g _ v18 hq19) oX1_larders ⟨Nat.le_of_ble_eq_true rfl, Nat.le_of_ble_eq_true rfl⟩ dX0_best_60 rfl (ci := 1) rfl h20 ⟨by decide +kernel, by decide +kernel⟩ oX1_larders.2.2.2 rfl q681 q682 q683 q683 q682 (Nat.le_of_ble_eq_true rfl) (Nat.le_of_ble_eq_true rfl) (g_rI ?_) g_nt rfl
        refine g_istore_n (pc' := 64) (L' := [some (.ref b0), some (.int y1), some (.int s.2.2.1), some (.int q19), some (.int s.2.2.1)]) dX0_best_63 rfl rfl (Nat.le_of_ble_eq_true rfl) rfl rfl ?_
        obtain rfl := Option.some.inj hf
        exact hJq16
      · replace hf := (if_neg h17).symm.trans hf
        refine g_goto (tgt := 64) dX0_best_50 (by decide) ?_
        obtain rfl := Option.some.inj hf
        exact hJq16
set_option maxHeartbeats 4000000 in
theorem wX0_best (g : bGh) (w : bWl) (a0 : Nat) (x1 : Int32) {r : (Int32 × bWl)} (hf : fX0_best w a0 x1 = some r) : bM g mdX0_best w [.ref a0, .int x1] (q_ (eI r.1) r.2) := by
  unfold fX0_best at hf
  change bG _ _ 0 [some (.ref a0), some (.int x1)] []
  refine g_iload_n (pc' := 1) dX0_best_0 rfl rfl rfl ?_
  obtain ⟨q1, hq1, hf⟩ := Option.bind_eq_some_iff.mp hf
  refine g_callS (pc' := 4) (as := [.int x1]) (wX0_isSoon g _ x1 hq1) oX0_isSoon ⟨Nat.le_of_ble_eq_true rfl, Nat.le_of_ble_eq_true rfl⟩ dX0_best_1 rfl q741 q742 q83 (Nat.le_of_ble_eq_true rfl) (Nat.le_of_ble_eq_true rfl) (g_rI ?_) g_nt rfl
  obtain ⟨q2, hq2, hf⟩ := Option.bind_eq_some_iff.mp hf
  obtain ⟨zq2, wq2⟩ := q2
  cases zq2 with
  | inl v3 =>
    replace hf : _ = some _ := hf
    refine g_callS (pc' := 7) (as := [.int q1]) (wX0_isTold g _ q1 hq2) oX0_isTold ⟨Nat.le_of_ble_eq_true rfl, Nat.le_of_ble_eq_true rfl⟩ dX0_best_4 rfl q216 q217 q83 (Nat.le_of_ble_eq_true rfl) (Nat.le_of_ble_eq_true rfl) (g_rV ?_) g_nt rfl
    refine g_iconst (pc' := 8) (v := 0) dX0_best_7 rfl (by decide) ?_
    refine g_istore_n (pc' := 9) (L' := [some (.ref a0), some (.int x1), some (.int 0)]) dX0_best_8 rfl rfl (Nat.le_of_ble_eq_true rfl) rfl rfl ?_
    refine g_iconst (pc' := 10) (v := (-1)) dX0_best_9 rfl (by decide) ?_
    refine g_istore_n (pc' := 11) (L' := [some (.ref a0), some (.int x1), some (.int 0), some (.int (-1))]) dX0_best_10 rfl rfl (Nat.le_of_ble_eq_true rfl) rfl rfl ?_
    refine g_iconst (pc' := 12) (v := 0) dX0_best_11 rfl (by decide) ?_
    refine g_istore (pc' := 14) (L' := [some (.ref a0), some (.int x1), some (.int 0), some (.int (-1)), some (.int 0)]) dX0_best_12 rfl (Nat.le_of_ble_eq_true rfl) rfl rfl ?_
    obtain ⟨q21, hq21, hf⟩ := Option.bind_eq_some_iff.mp hf
    refine wX0_best_l14 a0 x1 FU (0, (-1), 0, wq2) q21 hq21 ?_
    refine g_iload_n (pc' := 71) dX0_best_70 rfl rfl rfl ?_
    obtain rfl := Option.some.inj hf
    exact g_iret dX0_best_71 rfl rfl ⟨rfl, rfl⟩
  | inr a4 =>
    replace hf : _ = some _ := hf
    refine g_callS (pc' := 7) (as := [.int q1]) (wX0_isTold g _ q1 hq2) oX0_isTold ⟨Nat.le_of_ble_eq_true rfl, Nat.le_of_ble_eq_true rfl⟩ dX0_best_4 rfl q216 q217 q83 (Nat.le_of_ble_eq_true rfl) (Nat.le_of_ble_eq_true rfl) g_nr (g_tt ?_) rfl
    obtain ⟨h22, hf⟩ := vK_spec hf
    refine t_catch (ci := 4) rfl (by decide) q204 rfl h22 ?_
    refine g_astore_n (pc' := 73) (L' := [some (.ref a0), some (.int x1), some (.ref a4)]) dX0_best_72 rfl rfl (Nat.le_of_ble_eq_true rfl) rfl rfl ?_
    refine g_aload_n (pc' := 74) dX0_best_73 rfl rfl rfl ?_
    refine g_aload_n (pc' := 75) dX0_best_74 rfl rfl rfl ?_
    obtain ⟨q23, hq23, hf⟩ := Option.bind_eq_some_iff.mp hf
    obtain ⟨h24, hq23⟩ := vK_spec hq23
    refine g_callV (pc' := 78) (mx := mdX0_finds) (as := [.ref a4]) (wX0_finds g _ a0 a4 hq23) oX0_finds ⟨Nat.le_of_ble_eq_true rfl, Nat.le_of_ble_eq_true rfl⟩ dX0_best_75 rfl (ci := 0) rfl h24 ⟨by decide +kernel, by decide +kernel⟩ oX0_finds.2.2.2 rfl q289 q291 qs1 qs1 q291 (Nat.le_of_ble_eq_true rfl) (Nat.le_of_ble_eq_true rfl) (g_rI ?_) g_nt rfl
    obtain rfl := Option.some.inj hf
    exact g_iret dX0_best_78 rfl rfl ⟨rfl, rfl⟩
def mdX0_lean : bMD := (yX0_lean, cX0_lean, 4, (some FieldType.int), [(0, 50, 51, 1)], 7, 158)
theorem oX0_lean : bOkc mdX0_lean 2 := ⟨by decide +kernel, ⟨by decide +kernel, by decide +kernel⟩, by decide +kernel, q747⟩
def fX0_lean (w : bWl) (a0 : Nat) (x1 : Int32) (x2 : Int32) : Option (Int32 × bWl) :=
  Option.bind (fX0_isHouse x1) fun q1 =>
  Option.bind (fX0_isTold w q1) fun q2 => sm q2.1 (fun v3 =>
  Option.bind (vK 0 q2.2 a0 (fX0_rumourAt q2.2 a0 x2)) fun q5 => sm q5.1 (fun v7 =>
  Option.bind (hR q5.2 (okc 0) a0 0) fun v9 =>
  Option.bind (vK 1 q5.2 v9 (fX1_hasBed q5.2 v9 x1)) fun q10 =>
  Option.bind (α := Int32) ((if q10 = 0 then
  some 0
else
  Option.bind (fv_needs q5.2 v7) fun v14 =>
  (if 9 < v14 then
  some 0
else
  some 1))) fun q12 =>
  Option.bind (fX0_need q5.2 q12 3) fun q17 => sm q17.1 (fun v18 =>
  Option.bind (fv_needs q17.2 v7) fun v20 =>
  Option.bind (fJ2_max 0 v20) fun q22 =>
  some (q22, q17.2)) (fun a19 => vK 4 q17.2 a19 (Option.bind (vK 0 q17.2 a0 (fX0_finds q17.2 a0 a19)) fun q24 =>
  some (q24.1, q24.2)))) (fun a8 => vK 4 q5.2 a8 (Option.bind (vK 0 q5.2 a0 (fX0_finds q5.2 a0 a8)) fun q27 =>
  some (q27.1, q27.2)))) (fun a4 => vK 4 q2.2 a4 (Option.bind (vK 0 q2.2 a0 (fX0_finds q2.2 a0 a4)) fun q30 =>
  some (q30.1, q30.2)))
set_option maxHeartbeats 4000000 in
theorem wX0_lean (g : bGh) (w : bWl) (a0 : Nat) (x1 : Int32) (x2 : Int32) {r : (Int32 × bWl)} (hf : fX0_lean w a0 x1 x2 = some r) : bM g mdX0_lean w [.ref a0, .int x1, .int x2] (q_ (eI r.1) r.2) := by
  unfold fX0_lean at hf
  change bG _ _ 0 [some (.ref a0), some (.int x1), some (.int x2)] []
  refine g_iload_n (pc' := 1) dX0_lean_0 rfl rfl rfl ?_
  obtain ⟨q1, hq1, hf⟩ := Option.bind_eq_some_iff.mp hf
  refine g_callS (pc' := 4) (as := [.int x1]) (wX0_isHouse g _ x1 hq1) oX0_isHouse ⟨Nat.le_of_ble_eq_true rfl, Nat.le_of_ble_eq_true rfl⟩ dX0_lean_1 rfl q205 q206 q83 (Nat.le_of_ble_eq_true rfl) (Nat.le_of_ble_eq_true rfl) (g_rI ?_) g_nt rfl
  obtain ⟨q2, hq2, hf⟩ := Option.bind_eq_some_iff.mp hf
  obtain ⟨zq2, wq2⟩ := q2
  cases zq2 with
  | inl v3 =>
    replace hf : _ = some _ := hf
    refine g_callS (pc' := 7) (as := [.int q1]) (wX0_isTold g _ q1 hq2) oX0_isTold ⟨Nat.le_of_ble_eq_true rfl, Nat.le_of_ble_eq_true rfl⟩ dX0_lean_4 rfl q216 q217 q83 (Nat.le_of_ble_eq_true rfl) (Nat.le_of_ble_eq_true rfl) (g_rV ?_) g_nt rfl
    refine g_aload_n (pc' := 8) dX0_lean_7 rfl rfl rfl ?_
    refine g_iload_n (pc' := 9) dX0_lean_8 rfl rfl rfl ?_
    obtain ⟨q5, hq5, hf⟩ := Option.bind_eq_some_iff.mp hf
    obtain ⟨h6, hq5⟩ := vK_spec hq5
    obtain ⟨zq5, wq5⟩ := q5
    cases zq5 with
    | inl v7 =>
      replace hf : _ = some _ := hf
      refine g_callV (pc' := 12) (mx := mdX0_rumourAt) (as := [.int x2]) (wX0_rumourAt g _ a0 x2 hq5) oX0_rumourAt ⟨Nat.le_of_ble_eq_true rfl, Nat.le_of_ble_eq_true rfl⟩ dX0_lean_9 rfl (ci := 0) rfl h6 ⟨by decide +kernel, by decide +kernel⟩ oX0_rumourAt.2.2.2 rfl q428 q430 qs4 qs4 q430 (Nat.le_of_ble_eq_true rfl) (Nat.le_of_ble_eq_true rfl) (g_rA ?_) g_nt rfl
      refine g_astore_n (pc' := 13) (L' := [some (.ref a0), some (.int x1), some (.int x2), some (.ref v7)]) dX0_lean_12 rfl rfl (Nat.le_of_ble_eq_true rfl) rfl rfl ?_
      refine g_aload_n (pc' := 14) dX0_lean_13 rfl rfl rfl ?_
      obtain ⟨v9, hv9, hf⟩ := Option.bind_eq_some_iff.mp hf
      refine g_get (pc' := 17) (fok_0 0 (by decide)) (Or.inl rfl) dX0_lean_14 rfl q171 (hR_spec hv9) ?_
      refine g_iload_n (pc' := 18) dX0_lean_17 rfl rfl rfl ?_
      obtain ⟨q10, hq10, hf⟩ := Option.bind_eq_some_iff.mp hf
      obtain ⟨h11, hq10⟩ := vK_spec hq10
      refine g_callV (pc' := 21) (mx := mdX1_hasBed) (as := [.int x1]) (wX1_hasBed g _ v9 x1 hq10) oX1_hasBed ⟨Nat.le_of_ble_eq_true rfl, Nat.le_of_ble_eq_true rfl⟩ dX0_lean_18 rfl (ci := 1) rfl h11 ⟨by decide +kernel, by decide +kernel⟩ oX1_hasBed.2.2.2 rfl q748 q554 q555 q555 q554 (Nat.le_of_ble_eq_true rfl) (Nat.le_of_ble_eq_true rfl) (g_rI ?_) g_nt rfl
      obtain ⟨q12, hqq12, hf⟩ := Option.bind_eq_some_iff.mp hf
      have hJq12 : bG (g, mdX0_lean, w.2.1, w.2.2.1, (q_ (eI r.1) r.2)) wq5 38 [some (.ref a0), none, none, some (.ref v7)] [.int q12] := by
        refine g_iconst (pc' := 39) (v := 3) dX0_lean_38 rfl (by decide) ?_
        obtain ⟨q17, hq17, hf⟩ := Option.bind_eq_some_iff.mp hf
        obtain ⟨zq17, wq17⟩ := q17
        cases zq17 with
        | inl v18 =>
          replace hf : _ = some _ := hf
          refine g_callS (pc' := 42) (as := [.int q12, .int 3]) (wX0_need g _ q12 3 hq17) oX0_need ⟨Nat.le_of_ble_eq_true rfl, Nat.le_of_ble_eq_true rfl⟩ dX0_lean_39 rfl q219 q220 q83 (Nat.le_of_ble_eq_true rfl) (Nat.le_of_ble_eq_true rfl) (g_rV ?_) g_nt rfl
          refine g_iconst (pc' := 43) (v := 0) dX0_lean_42 rfl (by decide) ?_
          refine g_aload_n (pc' := 44) dX0_lean_43 rfl rfl rfl ?_
          obtain ⟨v20, hv20, hf⟩ := Option.bind_eq_some_iff.mp hf
          refine gv_needs (pc' := 47) dX0_lean_44 rfl (List.mem_of_getElem? (i := 0) rfl) ⟨Nat.le_of_ble_eq_true rfl, Nat.le_of_ble_eq_true rfl⟩ hv20 (Nat.le_of_ble_eq_true rfl) ?_
          obtain ⟨q22, hq22, hf⟩ := Option.bind_eq_some_iff.mp hf
          refine g_callS (pc' := 50) (as := [.int 0, .int v20]) (wJ2_max g _ 0 v20 hq22) oJ2_max ⟨Nat.le_of_ble_eq_true rfl, Nat.le_of_ble_eq_true rfl⟩ dX0_lean_47 rfl q690 q344 q90 (Nat.le_of_ble_eq_true rfl) (Nat.le_of_ble_eq_true rfl) (g_rI ?_) g_nt rfl
          obtain rfl := Option.some.inj hf
          exact g_iret dX0_lean_50 rfl rfl ⟨rfl, rfl⟩
        | inr a19 =>
          replace hf : _ = some _ := hf
          refine g_callS (pc' := 42) (as := [.int q12, .int 3]) (wX0_need g _ q12 3 hq17) oX0_need ⟨Nat.le_of_ble_eq_true rfl, Nat.le_of_ble_eq_true rfl⟩ dX0_lean_39 rfl q219 q220 q83 (Nat.le_of_ble_eq_true rfl) (Nat.le_of_ble_eq_true rfl) g_nr (g_tt ?_) rfl
          obtain ⟨h23, hf⟩ := vK_spec hf
          refine t_catch (ci := 4) rfl (by decide) q204 rfl h23 ?_
          refine g_astore_n (pc' := 52) (L' := [some (.ref a0), none, none, some (.ref a19)]) dX0_lean_51 rfl rfl (Nat.le_of_ble_eq_true rfl) rfl rfl ?_
          refine g_aload_n (pc' := 53) dX0_lean_52 rfl rfl rfl ?_
          refine g_aload_n (pc' := 54) dX0_lean_53 rfl rfl rfl ?_
          obtain ⟨q24, hq24, hf⟩ := Option.bind_eq_some_iff.mp hf
          obtain ⟨h25, hq24⟩ := vK_spec hq24
          refine g_callV (pc' := 57) (mx := mdX0_finds) (as := [.ref a19]) (wX0_finds g _ a0 a19 hq24) oX0_finds ⟨Nat.le_of_ble_eq_true rfl, Nat.le_of_ble_eq_true rfl⟩ dX0_lean_54 rfl (ci := 0) rfl h25 ⟨by decide +kernel, by decide +kernel⟩ oX0_finds.2.2.2 rfl q289 q291 qs1 qs1 q291 (Nat.le_of_ble_eq_true rfl) (Nat.le_of_ble_eq_true rfl) (g_rI ?_) g_nt rfl
          obtain rfl := Option.some.inj hf
          exact g_iret dX0_lean_57 rfl rfl ⟨rfl, rfl⟩
      replace hf := hqq12
      refine g_if_eq (tgt := 37) (pc' := 24) dX0_lean_21 (by decide) rfl (fun h13 => ?_) (fun h13 => ?_)
      · replace hf := (if_pos h13).symm.trans hf
        refine g_iconst (pc' := 38) (v := 0) dX0_lean_37 rfl (by decide) ?_
        obtain rfl := Option.some.inj hf
        refine g_drop [1, 2] (L' := [some (.ref a0), none, none, some (.ref v7)]) rfl ?_
        exact hJq12
      · replace hf := (if_neg h13).symm.trans hf
        refine g_aload_n (pc' := 25) dX0_lean_24 rfl rfl rfl ?_
        obtain ⟨v14, hv14, hf⟩ := Option.bind_eq_some_iff.mp hf
        refine gv_needs (pc' := 28) dX0_lean_25 rfl (List.mem_of_getElem? (i := 0) rfl) ⟨Nat.le_of_ble_eq_true rfl, Nat.le_of_ble_eq_true rfl⟩ hv14 (Nat.le_of_ble_eq_true rfl) ?_
        refine g_bipush (pc' := 30) (v := 9) dX0_lean_28 rfl (by decide) ?_
        refine g_icmp_gt (tgt := 37) (pc' := 33) dX0_lean_30 (by decide) rfl (fun h16 => ?_) (fun h16 => ?_)
        · replace hf := (if_pos h16).symm.trans hf
          refine g_iconst (pc' := 38) (v := 0) dX0_lean_37 rfl (by decide) ?_
          obtain rfl := Option.some.inj hf
          refine g_drop [1, 2] (L' := [some (.ref a0), none, none, some (.ref v7)]) rfl ?_
          exact hJq12
        · replace hf := (if_neg h16).symm.trans hf
          refine g_iconst (pc' := 34) (v := 1) dX0_lean_33 rfl (by decide) ?_
          refine g_goto (tgt := 38) dX0_lean_34 (by decide) ?_
          obtain rfl := Option.some.inj hf
          refine g_drop [1, 2] (L' := [some (.ref a0), none, none, some (.ref v7)]) rfl ?_
          exact hJq12
    | inr a8 =>
      replace hf : _ = some _ := hf
      refine g_callV (pc' := 12) (mx := mdX0_rumourAt) (as := [.int x2]) (wX0_rumourAt g _ a0 x2 hq5) oX0_rumourAt ⟨Nat.le_of_ble_eq_true rfl, Nat.le_of_ble_eq_true rfl⟩ dX0_lean_9 rfl (ci := 0) rfl h6 ⟨by decide +kernel, by decide +kernel⟩ oX0_rumourAt.2.2.2 rfl q428 q430 qs4 qs4 q430 (Nat.le_of_ble_eq_true rfl) (Nat.le_of_ble_eq_true rfl) g_nr (g_tt ?_) rfl
      obtain ⟨h26, hf⟩ := vK_spec hf
      refine t_catch (ci := 4) rfl (by decide) q204 rfl h26 ?_
      refine g_astore_n (pc' := 52) (L' := [some (.ref a0), some (.int x1), some (.int x2), some (.ref a8)]) dX0_lean_51 rfl rfl (Nat.le_of_ble_eq_true rfl) rfl rfl ?_
      refine g_aload_n (pc' := 53) dX0_lean_52 rfl rfl rfl ?_
      refine g_aload_n (pc' := 54) dX0_lean_53 rfl rfl rfl ?_
      obtain ⟨q27, hq27, hf⟩ := Option.bind_eq_some_iff.mp hf
      obtain ⟨h28, hq27⟩ := vK_spec hq27
      refine g_callV (pc' := 57) (mx := mdX0_finds) (as := [.ref a8]) (wX0_finds g _ a0 a8 hq27) oX0_finds ⟨Nat.le_of_ble_eq_true rfl, Nat.le_of_ble_eq_true rfl⟩ dX0_lean_54 rfl (ci := 0) rfl h28 ⟨by decide +kernel, by decide +kernel⟩ oX0_finds.2.2.2 rfl q289 q291 qs1 qs1 q291 (Nat.le_of_ble_eq_true rfl) (Nat.le_of_ble_eq_true rfl) (g_rI ?_) g_nt rfl
      obtain rfl := Option.some.inj hf
      exact g_iret dX0_lean_57 rfl rfl ⟨rfl, rfl⟩
  | inr a4 =>
    replace hf : _ = some _ := hf
    refine g_callS (pc' := 7) (as := [.int q1]) (wX0_isTold g _ q1 hq2) oX0_isTold ⟨Nat.le_of_ble_eq_true rfl, Nat.le_of_ble_eq_true rfl⟩ dX0_lean_4 rfl q216 q217 q83 (Nat.le_of_ble_eq_true rfl) (Nat.le_of_ble_eq_true rfl) g_nr (g_tt ?_) rfl
    obtain ⟨h29, hf⟩ := vK_spec hf
    refine t_catch (ci := 4) rfl (by decide) q204 rfl h29 ?_
    refine g_astore_n (pc' := 52) (L' := [some (.ref a0), some (.int x1), some (.int x2), some (.ref a4)]) dX0_lean_51 rfl rfl (Nat.le_of_ble_eq_true rfl) rfl rfl ?_
    refine g_aload_n (pc' := 53) dX0_lean_52 rfl rfl rfl ?_
    refine g_aload_n (pc' := 54) dX0_lean_53 rfl rfl rfl ?_
    obtain ⟨q30, hq30, hf⟩ := Option.bind_eq_some_iff.mp hf
    obtain ⟨h31, hq30⟩ := vK_spec hq30
    refine g_callV (pc' := 57) (mx := mdX0_finds) (as := [.ref a4]) (wX0_finds g _ a0 a4 hq30) oX0_finds ⟨Nat.le_of_ble_eq_true rfl, Nat.le_of_ble_eq_true rfl⟩ dX0_lean_54 rfl (ci := 0) rfl h31 ⟨by decide +kernel, by decide +kernel⟩ oX0_finds.2.2.2 rfl q289 q291 qs1 qs1 q291 (Nat.le_of_ble_eq_true rfl) (Nat.le_of_ble_eq_true rfl) (g_rI ?_) g_nt rfl
    obtain rfl := Option.some.inj hf
    exact g_iret dX0_lean_57 rfl rfl ⟨rfl, rfl⟩
def mdX0_leanFor : bMD := (yX0_leanFor, cX0_leanFor, 6, (some FieldType.int), [(0, 94, 95, 1)], 11, 255)
theorem oX0_leanFor : bOkc mdX0_leanFor 2 := ⟨by decide +kernel, ⟨by decide +kernel, by decide +kernel⟩, by decide +kernel, q752⟩
def fX0_leanFor_l30 (b0 : Nat) (y1 : Int32) (y2 : Int32) (rec : (Int32 × Int32 × Int32 × bWl) → Option (Int32 × Int32 × Int32 × bWl)) (s : Int32 × Int32 × Int32 × bWl) : Option (Int32 × Int32 × Int32 × bWl) :=
  (if 9 < s.2.2.1 then
  some (s.1, s.2.1, s.2.2.1, s.2.2.2)
else
  Option.bind (vK 0 s.2.2.2 b0 (fX0_tried s.2.2.2 b0)) fun q10 =>
  Option.bind (hR q10.2 (okc 1) q10.1 5) fun v12 =>
  Option.bind (sI q10.2 0 v12 y1 s.2.2.1) fun w13 =>
  Option.bind (hR w13 (okc 0) b0 3) fun v14 =>
  Option.bind (vK 1 w13 v14 (fX1_days w13 v14 y2)) fun q15 =>
  Option.bind (hR q15 (okc 0) b0 3) fun v17 =>
  Option.bind (hR q15 (okc 1) v17 4) fun v18 =>
  Option.bind (aI q15 0 v18 y1) fun v19 =>
  Option.bind (α := Int32 × Int32) ((if s.2.1 < v19 then
  Option.bind (hR q15 (okc 0) b0 3) fun v22 =>
  Option.bind (hR q15 (okc 1) v22 4) fun v23 =>
  Option.bind (aI q15 0 v23 y1) fun v24 =>
  some (s.2.2.1, v24)
else
  some (s.1, s.2.1))) fun q20 =>
  rec (q20.1, q20.2, (s.2.2.1 + 1), q15))
def fX0_leanFor (w : bWl) (a0 : Nat) (x1 : Int32) (x2 : Int32) : Option (Int32 × bWl) :=
  Option.bind (fX0_isHouse x1) fun q1 =>
  Option.bind (α := Int32) ((if q1 = 0 then
  some 0
else
  Option.bind (fX0_isSoon x2) fun q4 =>
  (if q4 = 0 then
  some 0
else
  some 1))) fun q2 =>
  Option.bind (fX0_isTold w q2) fun q6 => sm q6.1 (fun v7 =>
  Option.bind (lpF (fX0_leanFor_l30 a0 x1 x2) FU (0, (-1), 0, q6.2)) fun q25 =>
  some (q25.1, q25.2.2.2)) (fun a8 => vK 4 q6.2 a8 (Option.bind (vK 0 q6.2 a0 (fX0_finds q6.2 a0 a8)) fun q27 =>
  some (q27.1, q27.2)))
set_option maxHeartbeats 4000000 in
theorem wX0_leanFor_l30 {g : bGh} {n0 u0 : Nat} {Q : Outcome → bWl → Prop} (b0 : Nat) (y1 : Int32) (y2 : Int32) : ∀ (n : Nat) (s : Int32 × Int32 × Int32 × bWl) (r : (Int32 × Int32 × Int32 × bWl)), lpF (fX0_leanFor_l30 b0 y1 y2) n s = some r → bG (g, mdX0_leanFor, n0, u0, Q) r.2.2.2 93 [some (.ref b0), some (.int y1), some (.int y2), some (.int r.1), some (.int r.2.1), some (.int r.2.2.1)] [] → bG (g, mdX0_leanFor, n0, u0, Q) s.2.2.2 30 [some (.ref b0), some (.int y1), some (.int y2), some (.int s.1), some (.int s.2.1), some (.int s.2.2.1)] [] := by
  intro n
  induction n with
  | zero => intro s r hf; cases hf
  | succ n ih =>
    intro s r hf kx
    rw [lpF_s] at hf
    unfold fX0_leanFor_l30 at hf
    refine g_iload (pc' := 32) dX0_leanFor_30 rfl rfl ?_
    refine g_bipush (pc' := 34) (v := 9) dX0_leanFor_32 rfl (by decide) ?_
    refine g_icmp_gt (tgt := 93) (pc' := 37) dX0_leanFor_34 (by decide) rfl (fun h9 => ?_) (fun h9 => ?_)
    · replace hf := (if_pos h9).symm.trans hf
      obtain rfl := Option.some.inj hf
      exact kx
    · replace hf := (if_neg h9).symm.trans hf
      refine g_aload_n (pc' := 38) dX0_leanFor_37 rfl rfl rfl ?_
      obtain ⟨q10, hq10, hf⟩ := Option.bind_eq_some_iff.mp hf
      obtain ⟨h11, hq10⟩ := vK_spec hq10
      refine g_callV (pc' := 41) (mx := mdX0_tried) (as := []) (wX0_tried g _ b0 hq10) oX0_tried ⟨Nat.le_of_ble_eq_true rfl, Nat.le_of_ble_eq_true rfl⟩ dX0_leanFor_38 rfl (ci := 0) rfl h11 ⟨by decide +kernel, by decide +kernel⟩ oX0_tried.2.2.2 rfl q702 q704 qs13 qs13 q704 (Nat.le_of_ble_eq_true rfl) (Nat.le_of_ble_eq_true rfl) (g_rA ?_) g_nt rfl
      obtain ⟨v12, hv12, hf⟩ := Option.bind_eq_some_iff.mp hf
      refine g_get (pc' := 44) (fok_1 5 (by decide)) (Or.inl rfl) dX0_leanFor_41 rfl q150 (hR_spec hv12) ?_
      refine g_iload_n (pc' := 45) dX0_leanFor_44 rfl rfl rfl ?_
      refine g_iload (pc' := 47) dX0_leanFor_45 rfl rfl ?_
      obtain ⟨w13, hw13, hf⟩ := Option.bind_eq_some_iff.mp hf
      refine g_iast (pc' := 48) dX0_leanFor_47 rfl hw13 ?_
      refine g_aload_n (pc' := 49) dX0_leanFor_48 rfl rfl rfl ?_
      obtain ⟨v14, hv14, hf⟩ := Option.bind_eq_some_iff.mp hf
      refine g_get (pc' := 52) (fok_0 3 (by decide)) (Or.inl rfl) dX0_leanFor_49 rfl q174 (hR_spec hv14) ?_
      refine g_iload_n (pc' := 53) dX0_leanFor_52 rfl rfl rfl ?_
      obtain ⟨q15, hq15, hf⟩ := Option.bind_eq_some_iff.mp hf
      obtain ⟨h16, hq15⟩ := vK_spec hq15
      refine g_callV (pc' := 56) (mx := mdX1_days) (as := [.int y2]) (wX1_days g _ v14 y2 hq15) oX1_days ⟨Nat.le_of_ble_eq_true rfl, Nat.le_of_ble_eq_true rfl⟩ dX0_leanFor_53 rfl (ci := 1) rfl h16 ⟨by decide +kernel, by decide +kernel⟩ oX1_days.2.2.2 rfl q639 q640 q641 q641 q640 (Nat.le_of_ble_eq_true rfl) (Nat.le_of_ble_eq_true rfl) (g_rV ?_) g_nt rfl
      refine g_aload_n (pc' := 57) dX0_leanFor_56 rfl rfl rfl ?_
      obtain ⟨v17, hv17, hf⟩ := Option.bind_eq_some_iff.mp hf
      refine g_get (pc' := 60) (fok_0 3 (by decide)) (Or.inl rfl) dX0_leanFor_57 rfl q174 (hR_spec hv17) ?_
      obtain ⟨v18, hv18, hf⟩ := Option.bind_eq_some_iff.mp hf
      refine g_get (pc' := 63) (fok_1 4 (by decide)) (Or.inl rfl) dX0_leanFor_60 rfl q147 (hR_spec hv18) ?_
      refine g_iload_n (pc' := 64) dX0_leanFor_63 rfl rfl rfl ?_
      obtain ⟨v19, hv19, hf⟩ := Option.bind_eq_some_iff.mp hf
      refine g_iald (pc' := 65) dX0_leanFor_64 rfl hv19 ?_
      refine g_iload (pc' := 67) dX0_leanFor_65 rfl rfl ?_
      obtain ⟨q20, hqq20, hf⟩ := Option.bind_eq_some_iff.mp hf
      have hJq20 : bG (g, mdX0_leanFor, n0, u0, Q) q15 87 [some (.ref b0), some (.int y1), some (.int y2), some (.int q20.1), some (.int q20.2), some (.int s.2.2.1)] [] := by
        refine g_iinc (pc' := 90) (v := s.2.2.1 + 1) (L' := [some (.ref b0), some (.int y1), some (.int y2), some (.int q20.1), some (.int q20.2), some (.int (s.2.2.1 + 1))]) dX0_leanFor_87 rfl rfl rfl (Nat.le_of_ble_eq_true rfl) rfl rfl ?_
        refine g_goto (tgt := 30) dX0_leanFor_90 (by decide) ?_
        exact ih _ r hf kx
      replace hf := hqq20
      refine g_icmp_gt (tgt := 73) (pc' := 70) dX0_leanFor_67 (by decide) rfl (fun h21 => ?_) (fun h21 => ?_)
      · replace hf := (if_pos h21).symm.trans hf
        refine g_iload (pc' := 75) dX0_leanFor_73 rfl rfl ?_
        refine g_istore_n (pc' := 76) (L' := [some (.ref b0), some (.int y1), some (.int y2), some (.int s.2.2.1), some (.int s.2.1), some (.int s.2.2.1)]) dX0_leanFor_75 rfl rfl (Nat.le_of_ble_eq_true rfl) rfl rfl ?_
        refine g_aload_n (pc' := 77) dX0_leanFor_76 rfl rfl rfl ?_
        obtain ⟨v22, hv22, hf⟩ := Option.bind_eq_some_iff.mp hf
        refine g_get (pc' := 80) (fok_0 3 (by decide)) (Or.inl rfl) dX0_leanFor_77 rfl q174 (hR_spec hv22) ?_
        obtain ⟨v23, hv23, hf⟩ := Option.bind_eq_some_iff.mp hf
        refine g_get (pc' := 83) (fok_1 4 (by decide)) (Or.inl rfl) dX0_leanFor_80 rfl q147 (hR_spec hv23) ?_
        refine g_iload_n (pc' := 84) dX0_leanFor_83 rfl rfl rfl ?_
        obtain ⟨v24, hv24, hf⟩ := Option.bind_eq_some_iff.mp hf
        refine g_iald (pc' := 85) dX0_leanFor_84 rfl hv24 ?_
        refine g_istore (pc' := 87) (L' := [some (.ref b0), some (.int y1), some (.int y2), some (.int s.2.2.1), some (.int v24), some (.int s.2.2.1)]) dX0_leanFor_85 rfl (Nat.le_of_ble_eq_true rfl) rfl rfl ?_
        obtain rfl := Option.some.inj hf
        exact hJq20
      · replace hf := (if_neg h21).symm.trans hf
        refine g_goto (tgt := 87) dX0_leanFor_70 (by decide) ?_
        obtain rfl := Option.some.inj hf
        exact hJq20
set_option maxHeartbeats 4000000 in
theorem wX0_leanFor (g : bGh) (w : bWl) (a0 : Nat) (x1 : Int32) (x2 : Int32) {r : (Int32 × bWl)} (hf : fX0_leanFor w a0 x1 x2 = some r) : bM g mdX0_leanFor w [.ref a0, .int x1, .int x2] (q_ (eI r.1) r.2) := by
  unfold fX0_leanFor at hf
  change bG _ _ 0 [some (.ref a0), some (.int x1), some (.int x2)] []
  refine g_iload_n (pc' := 1) dX0_leanFor_0 rfl rfl rfl ?_
  obtain ⟨q1, hq1, hf⟩ := Option.bind_eq_some_iff.mp hf
  refine g_callS (pc' := 4) (as := [.int x1]) (wX0_isHouse g _ x1 hq1) oX0_isHouse ⟨Nat.le_of_ble_eq_true rfl, Nat.le_of_ble_eq_true rfl⟩ dX0_leanFor_1 rfl q205 q206 q83 (Nat.le_of_ble_eq_true rfl) (Nat.le_of_ble_eq_true rfl) (g_rI ?_) g_nt rfl
  obtain ⟨q2, hqq2, hf⟩ := Option.bind_eq_some_iff.mp hf
  have hJq2 : bG (g, mdX0_leanFor, w.2.1, w.2.2.1, (q_ (eI r.1) r.2)) w 19 [some (.ref a0), some (.int x1), some (.int x2)] [.int q2] := by
    obtain ⟨q6, hq6, hf⟩ := Option.bind_eq_some_iff.mp hf
    obtain ⟨zq6, wq6⟩ := q6
    cases zq6 with
    | inl v7 =>
      replace hf : _ = some _ := hf
      refine g_callS (pc' := 22) (as := [.int q2]) (wX0_isTold g _ q2 hq6) oX0_isTold ⟨Nat.le_of_ble_eq_true rfl, Nat.le_of_ble_eq_true rfl⟩ dX0_leanFor_19 rfl q216 q217 q83 (Nat.le_of_ble_eq_true rfl) (Nat.le_of_ble_eq_true rfl) (g_rV ?_) g_nt rfl
      refine g_iconst (pc' := 23) (v := 0) dX0_leanFor_22 rfl (by decide) ?_
      refine g_istore_n (pc' := 24) (L' := [some (.ref a0), some (.int x1), some (.int x2), some (.int 0)]) dX0_leanFor_23 rfl rfl (Nat.le_of_ble_eq_true rfl) rfl rfl ?_
      refine g_iconst (pc' := 25) (v := (-1)) dX0_leanFor_24 rfl (by decide) ?_
      refine g_istore (pc' := 27) (L' := [some (.ref a0), some (.int x1), some (.int x2), some (.int 0), some (.int (-1))]) dX0_leanFor_25 rfl (Nat.le_of_ble_eq_true rfl) rfl rfl ?_
      refine g_iconst (pc' := 28) (v := 0) dX0_leanFor_27 rfl (by decide) ?_
      refine g_istore (pc' := 30) (L' := [some (.ref a0), some (.int x1), some (.int x2), some (.int 0), some (.int (-1)), some (.int 0)]) dX0_leanFor_28 rfl (Nat.le_of_ble_eq_true rfl) rfl rfl ?_
      obtain ⟨q25, hq25, hf⟩ := Option.bind_eq_some_iff.mp hf
      refine wX0_leanFor_l30 a0 x1 x2 FU (0, (-1), 0, wq6) q25 hq25 ?_
      refine g_iload_n (pc' := 94) dX0_leanFor_93 rfl rfl rfl ?_
      obtain rfl := Option.some.inj hf
      exact g_iret dX0_leanFor_94 rfl rfl ⟨rfl, rfl⟩
    | inr a8 =>
      replace hf : _ = some _ := hf
      refine g_callS (pc' := 22) (as := [.int q2]) (wX0_isTold g _ q2 hq6) oX0_isTold ⟨Nat.le_of_ble_eq_true rfl, Nat.le_of_ble_eq_true rfl⟩ dX0_leanFor_19 rfl q216 q217 q83 (Nat.le_of_ble_eq_true rfl) (Nat.le_of_ble_eq_true rfl) g_nr (g_tt ?_) rfl
      obtain ⟨h26, hf⟩ := vK_spec hf
      refine t_catch (ci := 4) rfl (by decide) q204 rfl h26 ?_
      refine g_astore_n (pc' := 96) (L' := [some (.ref a0), some (.int x1), some (.int x2), some (.ref a8)]) dX0_leanFor_95 rfl rfl (Nat.le_of_ble_eq_true rfl) rfl rfl ?_
      refine g_aload_n (pc' := 97) dX0_leanFor_96 rfl rfl rfl ?_
      refine g_aload_n (pc' := 98) dX0_leanFor_97 rfl rfl rfl ?_
      obtain ⟨q27, hq27, hf⟩ := Option.bind_eq_some_iff.mp hf
      obtain ⟨h28, hq27⟩ := vK_spec hq27
      refine g_callV (pc' := 101) (mx := mdX0_finds) (as := [.ref a8]) (wX0_finds g _ a0 a8 hq27) oX0_finds ⟨Nat.le_of_ble_eq_true rfl, Nat.le_of_ble_eq_true rfl⟩ dX0_leanFor_98 rfl (ci := 0) rfl h28 ⟨by decide +kernel, by decide +kernel⟩ oX0_finds.2.2.2 rfl q289 q291 qs1 qs1 q291 (Nat.le_of_ble_eq_true rfl) (Nat.le_of_ble_eq_true rfl) (g_rI ?_) g_nt rfl
      obtain rfl := Option.some.inj hf
      exact g_iret dX0_leanFor_101 rfl rfl ⟨rfl, rfl⟩
  replace hf := hqq2
  refine g_if_eq (tgt := 18) (pc' := 7) dX0_leanFor_4 (by decide) rfl (fun h3 => ?_) (fun h3 => ?_)
  · replace hf := (if_pos h3).symm.trans hf
    refine g_iconst (pc' := 19) (v := 0) dX0_leanFor_18 rfl (by decide) ?_
    obtain rfl := Option.some.inj hf
    exact hJq2
  · replace hf := (if_neg h3).symm.trans hf
    refine g_iload_n (pc' := 8) dX0_leanFor_7 rfl rfl rfl ?_
    obtain ⟨q4, hq4, hf⟩ := Option.bind_eq_some_iff.mp hf
    refine g_callS (pc' := 11) (as := [.int x2]) (wX0_isSoon g _ x2 hq4) oX0_isSoon ⟨Nat.le_of_ble_eq_true rfl, Nat.le_of_ble_eq_true rfl⟩ dX0_leanFor_8 rfl q741 q742 q83 (Nat.le_of_ble_eq_true rfl) (Nat.le_of_ble_eq_true rfl) (g_rI ?_) g_nt rfl
    refine g_if_eq (tgt := 18) (pc' := 14) dX0_leanFor_11 (by decide) rfl (fun h5 => ?_) (fun h5 => ?_)
    · replace hf := (if_pos h5).symm.trans hf
      refine g_iconst (pc' := 19) (v := 0) dX0_leanFor_18 rfl (by decide) ?_
      obtain rfl := Option.some.inj hf
      exact hJq2
    · replace hf := (if_neg h5).symm.trans hf
      refine g_iconst (pc' := 15) (v := 1) dX0_leanFor_14 rfl (by decide) ?_
      refine g_goto (tgt := 19) dX0_leanFor_15 (by decide) ?_
      obtain rfl := Option.some.inj hf
      exact hJq2
def mdX0_kind : bMD := (yX0_kind, cX0_kind, 6, (some FieldType.int), [(0, 72, 73, 1)], 9, 206)
theorem oX0_kind : bOkc mdX0_kind 1 := ⟨by decide +kernel, ⟨by decide +kernel, by decide +kernel⟩, by decide +kernel, q756⟩
def fX0_kind_l20 (b0 : Nat) (y1 : Int32) (rec : (Int32 × Int32 × Int32 × bWl) → Option (Int32 × Int32 × Int32 × bWl)) (s : Int32 × Int32 × Int32 × bWl) : Option (Int32 × Int32 × Int32 × bWl) :=
  (if 6 ≤ s.2.2.1 then
  some (s.1, s.2.1, s.2.2.1, s.2.2.2)
else
  Option.bind (hR s.2.2.2 (okc 0) b0 3) fun v8 =>
  Option.bind (vK 1 s.2.2.2 v8 (fX1_turns s.2.2.2 v8 y1 s.2.2.1)) fun q9 =>
  Option.bind (hR q9 (okc 0) b0 3) fun v11 =>
  Option.bind (vK 1 q9 v11 (fX1_rumour q9 v11 y1)) fun q12 =>
  Option.bind (fv_eats q9 q12) fun v14 =>
  Option.bind (α := Int32 × Int32) ((if v14 < s.2.1 then
  some (s.2.2.1, v14)
else
  some (s.1, s.2.1))) fun q16 =>
  rec (q16.1, q16.2, (s.2.2.1 + 1), q9))
def fX0_kind (w : bWl) (a0 : Nat) (x1 : Int32) : Option (Int32 × bWl) :=
  Option.bind (vK 0 w a0 (fX0_rumourAt w a0 x1)) fun q1 => sm q1.1 (fun v3 =>
  Option.bind (vK 0 q1.2 a0 (fX0_tried q1.2 a0)) fun q5 =>
  Option.bind (lpF (fX0_kind_l20 a0 x1) FU (0, 999, 0, q5.2)) fun q18 =>
  some (q18.1, q18.2.2.2)) (fun a4 => vK 4 q1.2 a4 (Option.bind (vK 0 q1.2 a0 (fX0_finds q1.2 a0 a4)) fun q20 =>
  some (q20.1, q20.2)))
set_option maxHeartbeats 4000000 in
theorem wX0_kind_l20 {g : bGh} {n0 u0 : Nat} {Q : Outcome → bWl → Prop} (b0 : Nat) (y1 : Int32) : ∀ (n : Nat) (s : Int32 × Int32 × Int32 × bWl) (r : (Int32 × Int32 × Int32 × bWl)), lpF (fX0_kind_l20 b0 y1) n s = some r → bG (g, mdX0_kind, n0, u0, Q) r.2.2.2 71 [some (.ref b0), some (.int y1), some (.int r.1), some (.int r.2.1), some (.int r.2.2.1)] [] → bG (g, mdX0_kind, n0, u0, Q) s.2.2.2 20 [some (.ref b0), some (.int y1), some (.int s.1), some (.int s.2.1), some (.int s.2.2.1)] [] := by
  intro n
  induction n with
  | zero => intro s r hf; cases hf
  | succ n ih =>
    intro s r hf kx
    rw [lpF_s] at hf
    unfold fX0_kind_l20 at hf
    refine g_iload (pc' := 22) dX0_kind_20 rfl rfl ?_
    refine g_bipush (pc' := 24) (v := 6) dX0_kind_22 rfl (by decide) ?_
    refine g_icmp_ge (tgt := 71) (pc' := 27) dX0_kind_24 (by decide) rfl (fun h7 => ?_) (fun h7 => ?_)
    · replace hf := (if_pos h7).symm.trans hf
      obtain rfl := Option.some.inj hf
      exact kx
    · replace hf := (if_neg h7).symm.trans hf
      refine g_aload_n (pc' := 28) dX0_kind_27 rfl rfl rfl ?_
      obtain ⟨v8, hv8, hf⟩ := Option.bind_eq_some_iff.mp hf
      refine g_get (pc' := 31) (fok_0 3 (by decide)) (Or.inl rfl) dX0_kind_28 rfl q174 (hR_spec hv8) ?_
      refine g_iload_n (pc' := 32) dX0_kind_31 rfl rfl rfl ?_
      refine g_iload (pc' := 34) dX0_kind_32 rfl rfl ?_
      obtain ⟨q9, hq9, hf⟩ := Option.bind_eq_some_iff.mp hf
      obtain ⟨h10, hq9⟩ := vK_spec hq9
      refine g_callV (pc' := 37) (mx := mdX1_turns) (as := [.int y1, .int s.2.2.1]) (wX1_turns g _ v8 y1 s.2.2.1 hq9) oX1_turns ⟨Nat.le_of_ble_eq_true rfl, Nat.le_of_ble_eq_true rfl⟩ dX0_kind_34 rfl (ci := 1) rfl h10 ⟨by decide +kernel, by decide +kernel⟩ oX1_turns.2.2.2 rfl q507 q508 q509 q509 q508 (Nat.le_of_ble_eq_true rfl) (Nat.le_of_ble_eq_true rfl) (g_rV ?_) g_nt rfl
      refine g_aload_n (pc' := 38) dX0_kind_37 rfl rfl rfl ?_
      obtain ⟨v11, hv11, hf⟩ := Option.bind_eq_some_iff.mp hf
      refine g_get (pc' := 41) (fok_0 3 (by decide)) (Or.inl rfl) dX0_kind_38 rfl q174 (hR_spec hv11) ?_
      refine g_iload_n (pc' := 42) dX0_kind_41 rfl rfl rfl ?_
      obtain ⟨q12, hq12, hf⟩ := Option.bind_eq_some_iff.mp hf
      obtain ⟨h13, hq12⟩ := vK_spec hq12
      refine g_callV (pc' := 45) (mx := mdX1_rumour) (as := [.int y1]) (wX1_rumour g _ v11 y1 hq12) oX1_rumour ⟨Nat.le_of_ble_eq_true rfl, Nat.le_of_ble_eq_true rfl⟩ dX0_kind_42 rfl (ci := 1) rfl h13 ⟨by decide +kernel, by decide +kernel⟩ oX1_rumour.2.2.2 rfl q316 q308 q309 q309 q308 (Nat.le_of_ble_eq_true rfl) (Nat.le_of_ble_eq_true rfl) (g_rA ?_) g_nt rfl
      obtain ⟨v14, hv14, hf⟩ := Option.bind_eq_some_iff.mp hf
      refine gv_eats (pc' := 48) dX0_kind_45 rfl q457 ⟨Nat.le_of_ble_eq_true rfl, Nat.le_of_ble_eq_true rfl⟩ hv14 (Nat.le_of_ble_eq_true rfl) ?_
      refine g_istore (pc' := 50) (L' := [some (.ref b0), some (.int y1), some (.int s.1), some (.int s.2.1), some (.int s.2.2.1), some (.int v14)]) dX0_kind_48 rfl (Nat.le_of_ble_eq_true rfl) rfl rfl ?_
      refine g_iload (pc' := 52) dX0_kind_50 rfl rfl ?_
      refine g_iload_n (pc' := 53) dX0_kind_52 rfl rfl rfl ?_
      obtain ⟨q16, hqq16, hf⟩ := Option.bind_eq_some_iff.mp hf
      have hJq16 : bG (g, mdX0_kind, n0, u0, Q) q9 65 [some (.ref b0), some (.int y1), some (.int q16.1), some (.int q16.2), some (.int s.2.2.1), none] [] := by
        refine g_iinc (pc' := 68) (v := s.2.2.1 + 1) (L' := [some (.ref b0), some (.int y1), some (.int q16.1), some (.int q16.2), some (.int (s.2.2.1 + 1)), none]) dX0_kind_65 rfl rfl rfl (Nat.le_of_ble_eq_true rfl) rfl rfl ?_
        refine g_goto (tgt := 20) dX0_kind_68 (by decide) ?_
        refine g_cut (L := [some (.ref b0), some (.int y1), some (.int q16.1), some (.int q16.2), some (.int (s.2.2.1 + 1))]) 1 rfl ?_
        exact ih _ r hf kx
      replace hf := hqq16
      refine g_icmp_lt (tgt := 59) (pc' := 56) dX0_kind_53 (by decide) rfl (fun h17 => ?_) (fun h17 => ?_)
      · replace hf := (if_pos h17).symm.trans hf
        refine g_iload (pc' := 61) dX0_kind_59 rfl rfl ?_
        refine g_istore_n (pc' := 62) (L' := [some (.ref b0), some (.int y1), some (.int s.2.2.1), some (.int s.2.1), some (.int s.2.2.1), some (.int v14)]) dX0_kind_61 rfl rfl (Nat.le_of_ble_eq_true rfl) rfl rfl ?_
        refine g_iload (pc' := 64) dX0_kind_62 rfl rfl ?_
        refine g_istore_n (pc' := 65) (L' := [some (.ref b0), some (.int y1), some (.int s.2.2.1), some (.int v14), some (.int s.2.2.1), some (.int v14)]) dX0_kind_64 rfl rfl (Nat.le_of_ble_eq_true rfl) rfl rfl ?_
        obtain rfl := Option.some.inj hf
        refine g_drop [5] (L' := [some (.ref b0), some (.int y1), some (.int s.2.2.1), some (.int v14), some (.int s.2.2.1), none]) rfl ?_
        exact hJq16
      · replace hf := (if_neg h17).symm.trans hf
        refine g_goto (tgt := 65) dX0_kind_56 (by decide) ?_
        obtain rfl := Option.some.inj hf
        refine g_drop [5] (L' := [some (.ref b0), some (.int y1), some (.int s.1), some (.int s.2.1), some (.int s.2.2.1), none]) rfl ?_
        exact hJq16
set_option maxHeartbeats 4000000 in
theorem wX0_kind (g : bGh) (w : bWl) (a0 : Nat) (x1 : Int32) {r : (Int32 × bWl)} (hf : fX0_kind w a0 x1 = some r) : bM g mdX0_kind w [.ref a0, .int x1] (q_ (eI r.1) r.2) := by
  unfold fX0_kind at hf
  change bG _ _ 0 [some (.ref a0), some (.int x1)] []
  refine g_aload_n (pc' := 1) dX0_kind_0 rfl rfl rfl ?_
  refine g_iload_n (pc' := 2) dX0_kind_1 rfl rfl rfl ?_
  obtain ⟨q1, hq1, hf⟩ := Option.bind_eq_some_iff.mp hf
  obtain ⟨h2, hq1⟩ := vK_spec hq1
  obtain ⟨zq1, wq1⟩ := q1
  cases zq1 with
  | inl v3 =>
    replace hf : _ = some _ := hf
    refine g_callV (pc' := 5) (mx := mdX0_rumourAt) (as := [.int x1]) (wX0_rumourAt g _ a0 x1 hq1) oX0_rumourAt ⟨Nat.le_of_ble_eq_true rfl, Nat.le_of_ble_eq_true rfl⟩ dX0_kind_2 rfl (ci := 0) rfl h2 ⟨by decide +kernel, by decide +kernel⟩ oX0_rumourAt.2.2.2 rfl q428 q430 qs4 qs4 q430 (Nat.le_of_ble_eq_true rfl) (Nat.le_of_ble_eq_true rfl) (g_rA ?_) g_nt rfl
    refine g_pop (pc' := 6) dX0_kind_5 rfl rfl ?_
    refine g_iconst (pc' := 7) (v := 0) dX0_kind_6 rfl (by decide) ?_
    refine g_istore_n (pc' := 8) (L' := [some (.ref a0), some (.int x1), some (.int 0)]) dX0_kind_7 rfl rfl (Nat.le_of_ble_eq_true rfl) rfl rfl ?_
    refine g_sipush (pc' := 11) (v := 999) dX0_kind_8 rfl (by decide) ?_
    refine g_istore_n (pc' := 12) (L' := [some (.ref a0), some (.int x1), some (.int 0), some (.int 999)]) dX0_kind_11 rfl rfl (Nat.le_of_ble_eq_true rfl) rfl rfl ?_
    refine g_aload_n (pc' := 13) dX0_kind_12 rfl rfl rfl ?_
    obtain ⟨q5, hq5, hf⟩ := Option.bind_eq_some_iff.mp hf
    obtain ⟨h6, hq5⟩ := vK_spec hq5
    refine g_callV (pc' := 16) (mx := mdX0_tried) (as := []) (wX0_tried g _ a0 hq5) oX0_tried ⟨Nat.le_of_ble_eq_true rfl, Nat.le_of_ble_eq_true rfl⟩ dX0_kind_13 rfl (ci := 0) rfl h6 ⟨by decide +kernel, by decide +kernel⟩ oX0_tried.2.2.2 rfl q702 q704 qs13 qs13 q704 (Nat.le_of_ble_eq_true rfl) (Nat.le_of_ble_eq_true rfl) (g_rA ?_) g_nt rfl
    refine g_pop (pc' := 17) dX0_kind_16 rfl rfl ?_
    refine g_iconst (pc' := 18) (v := 0) dX0_kind_17 rfl (by decide) ?_
    refine g_istore (pc' := 20) (L' := [some (.ref a0), some (.int x1), some (.int 0), some (.int 999), some (.int 0)]) dX0_kind_18 rfl (Nat.le_of_ble_eq_true rfl) rfl rfl ?_
    obtain ⟨q18, hq18, hf⟩ := Option.bind_eq_some_iff.mp hf
    refine wX0_kind_l20 a0 x1 FU (0, 999, 0, q5.2) q18 hq18 ?_
    refine g_iload_n (pc' := 72) dX0_kind_71 rfl rfl rfl ?_
    obtain rfl := Option.some.inj hf
    exact g_iret dX0_kind_72 rfl rfl ⟨rfl, rfl⟩
  | inr a4 =>
    replace hf : _ = some _ := hf
    refine g_callV (pc' := 5) (mx := mdX0_rumourAt) (as := [.int x1]) (wX0_rumourAt g _ a0 x1 hq1) oX0_rumourAt ⟨Nat.le_of_ble_eq_true rfl, Nat.le_of_ble_eq_true rfl⟩ dX0_kind_2 rfl (ci := 0) rfl h2 ⟨by decide +kernel, by decide +kernel⟩ oX0_rumourAt.2.2.2 rfl q428 q430 qs4 qs4 q430 (Nat.le_of_ble_eq_true rfl) (Nat.le_of_ble_eq_true rfl) g_nr (g_tt ?_) rfl
    obtain ⟨h19, hf⟩ := vK_spec hf
    refine t_catch (ci := 4) rfl (by decide) q204 rfl h19 ?_
    refine g_astore_n (pc' := 74) (L' := [some (.ref a0), some (.int x1), some (.ref a4)]) dX0_kind_73 rfl rfl (Nat.le_of_ble_eq_true rfl) rfl rfl ?_
    refine g_aload_n (pc' := 75) dX0_kind_74 rfl rfl rfl ?_
    refine g_aload_n (pc' := 76) dX0_kind_75 rfl rfl rfl ?_
    obtain ⟨q20, hq20, hf⟩ := Option.bind_eq_some_iff.mp hf
    obtain ⟨h21, hq20⟩ := vK_spec hq20
    refine g_callV (pc' := 79) (mx := mdX0_finds) (as := [.ref a4]) (wX0_finds g _ a0 a4 hq20) oX0_finds ⟨Nat.le_of_ble_eq_true rfl, Nat.le_of_ble_eq_true rfl⟩ dX0_kind_76 rfl (ci := 0) rfl h21 ⟨by decide +kernel, by decide +kernel⟩ oX0_finds.2.2.2 rfl q289 q291 qs1 qs1 q291 (Nat.le_of_ble_eq_true rfl) (Nat.le_of_ble_eq_true rfl) (g_rI ?_) g_nt rfl
    obtain rfl := Option.some.inj hf
    exact g_iret dX0_kind_79 rfl rfl ⟨rfl, rfl⟩
def mdX0_orNone : bMD := (yX0_orNone, cX0_orNone, 1, (some FieldType.int), [], 6, 137)
theorem oX0_orNone : bOkc mdX0_orNone 1 := ⟨by decide +kernel, ⟨by decide +kernel, by decide +kernel⟩, by decide +kernel, q764⟩
def fX0_orNone (w : bWl) (x0 : Int32) : Option ((Int32 ⊕ Nat) × bWl) :=
  Option.bind (α := Int32) ((if x0 < 0 then
  some 0
else
  some 1)) fun q1 =>
  Option.bind (fX0_need w q1 3) fun q3 => sm q3.1 (fun v4 =>
  some (Sum.inl x0, q3.2)) (fun a5 => some (Sum.inr a5, q3.2))
set_option maxHeartbeats 4000000 in
theorem wX0_orNone (g : bGh) (w : bWl) (x0 : Int32) {r : ((Int32 ⊕ Nat) × bWl)} (hf : fX0_orNone w x0 = some r) : bM g mdX0_orNone w [.int x0] (qX eI r.1 r.2) := by
  unfold fX0_orNone at hf
  change bG _ _ 0 [some (.int x0)] []
  refine g_iload_n (pc' := 1) dX0_orNone_0 rfl rfl rfl ?_
  obtain ⟨q1, hqq1, hf⟩ := Option.bind_eq_some_iff.mp hf
  have hJq1 : bG (g, mdX0_orNone, w.2.1, w.2.2.1, (qX eI r.1 r.2)) w 9 [some (.int x0)] [.int q1] := by
    refine g_iconst (pc' := 10) (v := 3) dX0_orNone_9 rfl (by decide) ?_
    obtain ⟨q3, hq3, hf⟩ := Option.bind_eq_some_iff.mp hf
    obtain ⟨zq3, wq3⟩ := q3
    cases zq3 with
    | inl v4 =>
      replace hf : _ = some _ := hf
      refine g_callS (pc' := 13) (as := [.int q1, .int 3]) (wX0_need g _ q1 3 hq3) oX0_need ⟨Nat.le_of_ble_eq_true rfl, Nat.le_of_ble_eq_true rfl⟩ dX0_orNone_10 rfl q219 q220 q83 (Nat.le_of_ble_eq_true rfl) (Nat.le_of_ble_eq_true rfl) (g_rV ?_) g_nt rfl
      refine g_iload_n (pc' := 14) dX0_orNone_13 rfl rfl rfl ?_
      obtain rfl := Option.some.inj hf
      exact g_iret dX0_orNone_14 rfl rfl ⟨rfl, rfl⟩
    | inr a5 =>
      replace hf : _ = some _ := hf
      refine g_callS (pc' := 13) (as := [.int q1, .int 3]) (wX0_need g _ q1 3 hq3) oX0_need ⟨Nat.le_of_ble_eq_true rfl, Nat.le_of_ble_eq_true rfl⟩ dX0_orNone_10 rfl q219 q220 q83 (Nat.le_of_ble_eq_true rfl) (Nat.le_of_ble_eq_true rfl) g_nr (g_tt ?_) rfl
      obtain rfl := Option.some.inj hf
      exact t_leave rfl ⟨rfl, rfl⟩
  replace hf := hqq1
  refine g_if_lt (tgt := 8) (pc' := 4) dX0_orNone_1 (by decide) rfl (fun h2 => ?_) (fun h2 => ?_)
  · replace hf := (if_pos h2).symm.trans hf
    refine g_iconst (pc' := 9) (v := 0) dX0_orNone_8 rfl (by decide) ?_
    obtain rfl := Option.some.inj hf
    exact hJq1
  · replace hf := (if_neg h2).symm.trans hf
    refine g_iconst (pc' := 5) (v := 1) dX0_orNone_4 rfl (by decide) ?_
    refine g_goto (tgt := 9) dX0_orNone_5 (by decide) ?_
    obtain rfl := Option.some.inj hf
    exact hJq1
def mdX0_host : bMD := (yX0_host, cX0_host, 3, (some FieldType.int), [(0, 15, 16, 1)], 7, 158)
theorem oX0_host : bOkc mdX0_host 1 := ⟨by decide +kernel, ⟨by decide +kernel, by decide +kernel⟩, by decide +kernel, q760⟩
def fX0_host (w : bWl) (a0 : Nat) (x1 : Int32) : Option (Int32 × bWl) :=
  Option.bind (hR w (okc 0) a0 0) fun v1 =>
  Option.bind (vK 0 w a0 (fX0_rumourAt w a0 x1)) fun q2 => sm q2.1 (fun v4 =>
  Option.bind (vK 1 q2.2 v1 (fX1_host q2.2 v1 v4)) fun q6 =>
  Option.bind (fX0_orNone q2.2 q6) fun q8 => sm q8.1 (fun v9 =>
  some (v9, q8.2)) (fun a10 => vK 4 q8.2 a10 (Option.bind (vK 0 q8.2 a0 (fX0_finds q8.2 a0 a10)) fun q12 =>
  some (q12.1, q12.2)))) (fun a5 => vK 4 q2.2 a5 (Option.bind (vK 0 q2.2 a0 (fX0_finds q2.2 a0 a5)) fun q15 =>
  some (q15.1, q15.2)))
set_option maxHeartbeats 4000000 in
theorem wX0_host (g : bGh) (w : bWl) (a0 : Nat) (x1 : Int32) {r : (Int32 × bWl)} (hf : fX0_host w a0 x1 = some r) : bM g mdX0_host w [.ref a0, .int x1] (q_ (eI r.1) r.2) := by
  unfold fX0_host at hf
  change bG _ _ 0 [some (.ref a0), some (.int x1)] []
  refine g_aload_n (pc' := 1) dX0_host_0 rfl rfl rfl ?_
  obtain ⟨v1, hv1, hf⟩ := Option.bind_eq_some_iff.mp hf
  refine g_get (pc' := 4) (fok_0 0 (by decide)) (Or.inl rfl) dX0_host_1 rfl q171 (hR_spec hv1) ?_
  refine g_aload_n (pc' := 5) dX0_host_4 rfl rfl rfl ?_
  refine g_iload_n (pc' := 6) dX0_host_5 rfl rfl rfl ?_
  obtain ⟨q2, hq2, hf⟩ := Option.bind_eq_some_iff.mp hf
  obtain ⟨h3, hq2⟩ := vK_spec hq2
  obtain ⟨zq2, wq2⟩ := q2
  cases zq2 with
  | inl v4 =>
    replace hf : _ = some _ := hf
    refine g_callV (pc' := 9) (mx := mdX0_rumourAt) (as := [.int x1]) (wX0_rumourAt g _ a0 x1 hq2) oX0_rumourAt ⟨Nat.le_of_ble_eq_true rfl, Nat.le_of_ble_eq_true rfl⟩ dX0_host_6 rfl (ci := 0) rfl h3 ⟨by decide +kernel, by decide +kernel⟩ oX0_rumourAt.2.2.2 rfl q428 q430 qs4 qs4 q430 (Nat.le_of_ble_eq_true rfl) (Nat.le_of_ble_eq_true rfl) (g_rA ?_) g_nt rfl
    obtain ⟨q6, hq6, hf⟩ := Option.bind_eq_some_iff.mp hf
    obtain ⟨h7, hq6⟩ := vK_spec hq6
    refine g_callV (pc' := 12) (mx := mdX1_host) (as := [.ref v4]) (wX1_host g _ v1 v4 hq6) oX1_host ⟨Nat.le_of_ble_eq_true rfl, Nat.le_of_ble_eq_true rfl⟩ dX0_host_9 rfl (ci := 1) rfl h7 ⟨by decide +kernel, by decide +kernel⟩ oX1_host.2.2.2 rfl q761 q590 q591 q591 q590 (Nat.le_of_ble_eq_true rfl) (Nat.le_of_ble_eq_true rfl) (g_rI ?_) g_nt rfl
    obtain ⟨q8, hq8, hf⟩ := Option.bind_eq_some_iff.mp hf
    obtain ⟨zq8, wq8⟩ := q8
    cases zq8 with
    | inl v9 =>
      replace hf : _ = some _ := hf
      refine g_callS (pc' := 15) (as := [.int q6]) (wX0_orNone g _ q6 hq8) oX0_orNone ⟨Nat.le_of_ble_eq_true rfl, Nat.le_of_ble_eq_true rfl⟩ dX0_host_12 rfl q762 q763 q83 (Nat.le_of_ble_eq_true rfl) (Nat.le_of_ble_eq_true rfl) (g_rI ?_) g_nt rfl
      obtain rfl := Option.some.inj hf
      exact g_iret dX0_host_15 rfl rfl ⟨rfl, rfl⟩
    | inr a10 =>
      replace hf : _ = some _ := hf
      refine g_callS (pc' := 15) (as := [.int q6]) (wX0_orNone g _ q6 hq8) oX0_orNone ⟨Nat.le_of_ble_eq_true rfl, Nat.le_of_ble_eq_true rfl⟩ dX0_host_12 rfl q762 q763 q83 (Nat.le_of_ble_eq_true rfl) (Nat.le_of_ble_eq_true rfl) g_nr (g_tt ?_) rfl
      obtain ⟨h11, hf⟩ := vK_spec hf
      refine t_catch (ci := 4) rfl (by decide) q204 rfl h11 ?_
      refine g_astore_n (pc' := 17) (L' := [some (.ref a0), some (.int x1), some (.ref a10)]) dX0_host_16 rfl rfl (Nat.le_of_ble_eq_true rfl) rfl rfl ?_
      refine g_aload_n (pc' := 18) dX0_host_17 rfl rfl rfl ?_
      refine g_aload_n (pc' := 19) dX0_host_18 rfl rfl rfl ?_
      obtain ⟨q12, hq12, hf⟩ := Option.bind_eq_some_iff.mp hf
      obtain ⟨h13, hq12⟩ := vK_spec hq12
      refine g_callV (pc' := 22) (mx := mdX0_finds) (as := [.ref a10]) (wX0_finds g _ a0 a10 hq12) oX0_finds ⟨Nat.le_of_ble_eq_true rfl, Nat.le_of_ble_eq_true rfl⟩ dX0_host_19 rfl (ci := 0) rfl h13 ⟨by decide +kernel, by decide +kernel⟩ oX0_finds.2.2.2 rfl q289 q291 qs1 qs1 q291 (Nat.le_of_ble_eq_true rfl) (Nat.le_of_ble_eq_true rfl) (g_rI ?_) g_nt rfl
      obtain rfl := Option.some.inj hf
      exact g_iret dX0_host_22 rfl rfl ⟨rfl, rfl⟩
  | inr a5 =>
    replace hf : _ = some _ := hf
    refine g_callV (pc' := 9) (mx := mdX0_rumourAt) (as := [.int x1]) (wX0_rumourAt g _ a0 x1 hq2) oX0_rumourAt ⟨Nat.le_of_ble_eq_true rfl, Nat.le_of_ble_eq_true rfl⟩ dX0_host_6 rfl (ci := 0) rfl h3 ⟨by decide +kernel, by decide +kernel⟩ oX0_rumourAt.2.2.2 rfl q428 q430 qs4 qs4 q430 (Nat.le_of_ble_eq_true rfl) (Nat.le_of_ble_eq_true rfl) g_nr (g_tt ?_) rfl
    obtain ⟨h14, hf⟩ := vK_spec hf
    refine t_catch (ci := 4) rfl (by decide) q204 rfl h14 ?_
    refine g_astore_n (pc' := 17) (L' := [some (.ref a0), some (.int x1), some (.ref a5)]) dX0_host_16 rfl rfl (Nat.le_of_ble_eq_true rfl) rfl rfl ?_
    refine g_aload_n (pc' := 18) dX0_host_17 rfl rfl rfl ?_
    refine g_aload_n (pc' := 19) dX0_host_18 rfl rfl rfl ?_
    obtain ⟨q15, hq15, hf⟩ := Option.bind_eq_some_iff.mp hf
    obtain ⟨h16, hq15⟩ := vK_spec hq15
    refine g_callV (pc' := 22) (mx := mdX0_finds) (as := [.ref a5]) (wX0_finds g _ a0 a5 hq15) oX0_finds ⟨Nat.le_of_ble_eq_true rfl, Nat.le_of_ble_eq_true rfl⟩ dX0_host_19 rfl (ci := 0) rfl h16 ⟨by decide +kernel, by decide +kernel⟩ oX0_finds.2.2.2 rfl q289 q291 qs1 qs1 q291 (Nat.le_of_ble_eq_true rfl) (Nat.le_of_ble_eq_true rfl) (g_rI ?_) g_nt rfl
    obtain rfl := Option.some.inj hf
    exact g_iret dX0_host_22 rfl rfl ⟨rfl, rfl⟩
def mdX0_beds : bMD := (yX0_beds, cX0_beds, 4, (some FieldType.int), [(0, 59, 75, 1), (60, 75, 75, 1)], 11, 255)
theorem oX0_beds : bOkc mdX0_beds 2 := ⟨by decide +kernel, ⟨by decide +kernel, by decide +kernel⟩, by decide +kernel, q768⟩
def fX0_beds_l24 (b0 : Nat) (y1 : Int32) (y2 : Int32) (rec : (Int32 × bWl) → Option ((Int32 × bWl) ⊕ (Int32 × bWl))) (s : Int32 × bWl) : Option ((Int32 × bWl) ⊕ (Int32 × bWl)) :=
  (if 3 < s.1 then
  some (Sum.inl (s.1, s.2))
else
  Option.bind (vK 0 s.2 b0 (fX0_tried s.2 b0)) fun q10 =>
  Option.bind (hR q10.2 (okc 1) q10.1 3) fun v12 =>
  Option.bind (sI q10.2 0 v12 y1 s.1) fun w13 =>
  Option.bind (hR w13 (okc 0) b0 3) fun v14 =>
  Option.bind (vK 1 w13 v14 (fX1_days w13 v14 y2)) fun q15 =>
  Option.bind (hR q15 (okc 0) b0 3) fun v17 =>
  Option.bind (vK 1 q15 v17 (fX1_inside q15 v17 (-1))) fun q18 =>
  (if q18 = 0 then
  some (Sum.inr (s.1, q15))
else
  rec ((s.1 + 1), q15)))
def fX0_beds (w : bWl) (a0 : Nat) (x1 : Int32) (x2 : Int32) : Option (Int32 × bWl) :=
  Option.bind (fX0_isHouse x1) fun q1 =>
  Option.bind (α := Int32) ((if q1 = 0 then
  some 0
else
  Option.bind (fX0_isSoon x2) fun q4 =>
  (if q4 = 0 then
  some 0
else
  some 1))) fun q2 =>
  Option.bind (fX0_isTold w q2) fun q6 => sm q6.1 (fun v7 =>
  Option.bind (lpF (fX0_beds_l24 a0 x1 x2) FU (0, q6.2)) fun q21 => sx q21 (fun e22 =>
  Option.bind (nC e22.2 (.inr (4, dX4)) 7) fun v23 =>
  Option.bind (fX4_init v23.2 v23.1 3) fun q24 =>
  vK 4 q24 v23.1 (Option.bind (vK 0 q24 a0 (fX0_finds q24 a0 v23.1)) fun q26 =>
  some (q26.1, q26.2))) (fun e22 => some e22)) (fun a8 => vK 4 q6.2 a8 (Option.bind (vK 0 q6.2 a0 (fX0_finds q6.2 a0 a8)) fun q29 =>
  some (q29.1, q29.2)))
set_option maxHeartbeats 4000000 in
theorem wX0_beds_l24 {g : bGh} {n0 u0 : Nat} {Q : Outcome → bWl → Prop} (b0 : Nat) (y1 : Int32) (y2 : Int32) : ∀ (n : Nat) (s : Int32 × bWl) (r : ((Int32 × bWl) ⊕ (Int32 × bWl))), lpF (fX0_beds_l24 b0 y1 y2) n s = some r → (∀ e, r = Sum.inl e → bG (g, mdX0_beds, n0, u0, Q) e.2 66 [some (.ref b0), some (.int y1), some (.int y2), some (.int e.1)] []) → (∀ e, r = Sum.inr e → Q (.returned (eI e.1)) e.2) → bG (g, mdX0_beds, n0, u0, Q) s.2 24 [some (.ref b0), some (.int y1), some (.int y2), some (.int s.1)] [] := by
  intro n
  induction n with
  | zero => intro s r hf; cases hf
  | succ n ih =>
    intro s r hf kx kr
    rw [lpF_s] at hf
    unfold fX0_beds_l24 at hf
    refine g_iload_n (pc' := 25) dX0_beds_24 rfl rfl rfl ?_
    refine g_iconst (pc' := 26) (v := 3) dX0_beds_25 rfl (by decide) ?_
    refine g_icmp_gt (tgt := 66) (pc' := 29) dX0_beds_26 (by decide) rfl (fun h9 => ?_) (fun h9 => ?_)
    · replace hf := (if_pos h9).symm.trans hf
      obtain rfl := Option.some.inj hf
      exact (kx _ rfl)
    · replace hf := (if_neg h9).symm.trans hf
      refine g_aload_n (pc' := 30) dX0_beds_29 rfl rfl rfl ?_
      obtain ⟨q10, hq10, hf⟩ := Option.bind_eq_some_iff.mp hf
      obtain ⟨h11, hq10⟩ := vK_spec hq10
      refine g_callV (pc' := 33) (mx := mdX0_tried) (as := []) (wX0_tried g _ b0 hq10) oX0_tried ⟨Nat.le_of_ble_eq_true rfl, Nat.le_of_ble_eq_true rfl⟩ dX0_beds_30 rfl (ci := 0) rfl h11 ⟨by decide +kernel, by decide +kernel⟩ oX0_tried.2.2.2 rfl q702 q704 qs13 qs13 q704 (Nat.le_of_ble_eq_true rfl) (Nat.le_of_ble_eq_true rfl) (g_rA ?_) g_nt rfl
      obtain ⟨v12, hv12, hf⟩ := Option.bind_eq_some_iff.mp hf
      refine g_get (pc' := 36) (fok_1 3 (by decide)) (Or.inl rfl) dX0_beds_33 rfl q144 (hR_spec hv12) ?_
      refine g_iload_n (pc' := 37) dX0_beds_36 rfl rfl rfl ?_
      refine g_iload_n (pc' := 38) dX0_beds_37 rfl rfl rfl ?_
      obtain ⟨w13, hw13, hf⟩ := Option.bind_eq_some_iff.mp hf
      refine g_iast (pc' := 39) dX0_beds_38 rfl hw13 ?_
      refine g_aload_n (pc' := 40) dX0_beds_39 rfl rfl rfl ?_
      obtain ⟨v14, hv14, hf⟩ := Option.bind_eq_some_iff.mp hf
      refine g_get (pc' := 43) (fok_0 3 (by decide)) (Or.inl rfl) dX0_beds_40 rfl q174 (hR_spec hv14) ?_
      refine g_iload_n (pc' := 44) dX0_beds_43 rfl rfl rfl ?_
      obtain ⟨q15, hq15, hf⟩ := Option.bind_eq_some_iff.mp hf
      obtain ⟨h16, hq15⟩ := vK_spec hq15
      refine g_callV (pc' := 47) (mx := mdX1_days) (as := [.int y2]) (wX1_days g _ v14 y2 hq15) oX1_days ⟨Nat.le_of_ble_eq_true rfl, Nat.le_of_ble_eq_true rfl⟩ dX0_beds_44 rfl (ci := 1) rfl h16 ⟨by decide +kernel, by decide +kernel⟩ oX1_days.2.2.2 rfl q639 q640 q641 q641 q640 (Nat.le_of_ble_eq_true rfl) (Nat.le_of_ble_eq_true rfl) (g_rV ?_) g_nt rfl
      refine g_aload_n (pc' := 48) dX0_beds_47 rfl rfl rfl ?_
      obtain ⟨v17, hv17, hf⟩ := Option.bind_eq_some_iff.mp hf
      refine g_get (pc' := 51) (fok_0 3 (by decide)) (Or.inl rfl) dX0_beds_48 rfl q174 (hR_spec hv17) ?_
      refine g_iconst (pc' := 52) (v := (-1)) dX0_beds_51 rfl (by decide) ?_
      obtain ⟨q18, hq18, hf⟩ := Option.bind_eq_some_iff.mp hf
      obtain ⟨h19, hq18⟩ := vK_spec hq18
      refine g_callV (pc' := 55) (mx := mdX1_inside) (as := [.int (-1)]) (wX1_inside g _ v17 (-1) hq18) oX1_inside ⟨Nat.le_of_ble_eq_true rfl, Nat.le_of_ble_eq_true rfl⟩ dX0_beds_52 rfl (ci := 1) rfl h19 ⟨by decide +kernel, by decide +kernel⟩ oX1_inside.2.2.2 rfl q303 q304 q305 q305 q304 (Nat.le_of_ble_eq_true rfl) (Nat.le_of_ble_eq_true rfl) (g_rI ?_) g_nt rfl
      refine g_if_ne (tgt := 60) (pc' := 58) dX0_beds_55 (by decide) rfl (fun h20 => ?_) (fun h20 => ?_)
      · replace hf := (if_neg h20).symm.trans hf
        refine g_iinc (pc' := 63) (v := s.1 + 1) (L' := [some (.ref b0), some (.int y1), some (.int y2), some (.int (s.1 + 1))]) dX0_beds_60 rfl rfl rfl (Nat.le_of_ble_eq_true rfl) rfl rfl ?_
        refine g_goto (tgt := 24) dX0_beds_63 (by decide) ?_
        exact ih _ r hf kx kr
      · replace hf := (if_pos h20).symm.trans hf
        refine g_iload_n (pc' := 59) dX0_beds_58 rfl rfl rfl ?_
        obtain rfl := Option.some.inj hf
        exact g_iret dX0_beds_59 rfl rfl (kr _ rfl)
set_option maxHeartbeats 4000000 in
theorem wX0_beds (g : bGh) (w : bWl) (a0 : Nat) (x1 : Int32) (x2 : Int32) {r : (Int32 × bWl)} (hf : fX0_beds w a0 x1 x2 = some r) : bM g mdX0_beds w [.ref a0, .int x1, .int x2] (q_ (eI r.1) r.2) := by
  unfold fX0_beds at hf
  change bG _ _ 0 [some (.ref a0), some (.int x1), some (.int x2)] []
  refine g_iload_n (pc' := 1) dX0_beds_0 rfl rfl rfl ?_
  obtain ⟨q1, hq1, hf⟩ := Option.bind_eq_some_iff.mp hf
  refine g_callS (pc' := 4) (as := [.int x1]) (wX0_isHouse g _ x1 hq1) oX0_isHouse ⟨Nat.le_of_ble_eq_true rfl, Nat.le_of_ble_eq_true rfl⟩ dX0_beds_1 rfl q205 q206 q83 (Nat.le_of_ble_eq_true rfl) (Nat.le_of_ble_eq_true rfl) (g_rI ?_) g_nt rfl
  obtain ⟨q2, hqq2, hf⟩ := Option.bind_eq_some_iff.mp hf
  have hJq2 : bG (g, mdX0_beds, w.2.1, w.2.2.1, (q_ (eI r.1) r.2)) w 19 [some (.ref a0), some (.int x1), some (.int x2)] [.int q2] := by
    obtain ⟨q6, hq6, hf⟩ := Option.bind_eq_some_iff.mp hf
    obtain ⟨zq6, wq6⟩ := q6
    cases zq6 with
    | inl v7 =>
      replace hf : _ = some _ := hf
      refine g_callS (pc' := 22) (as := [.int q2]) (wX0_isTold g _ q2 hq6) oX0_isTold ⟨Nat.le_of_ble_eq_true rfl, Nat.le_of_ble_eq_true rfl⟩ dX0_beds_19 rfl q216 q217 q83 (Nat.le_of_ble_eq_true rfl) (Nat.le_of_ble_eq_true rfl) (g_rV ?_) g_nt rfl
      refine g_iconst (pc' := 23) (v := 0) dX0_beds_22 rfl (by decide) ?_
      refine g_istore_n (pc' := 24) (L' := [some (.ref a0), some (.int x1), some (.int x2), some (.int 0)]) dX0_beds_23 rfl rfl (Nat.le_of_ble_eq_true rfl) rfl rfl ?_
      obtain ⟨q21, hq21, hf⟩ := Option.bind_eq_some_iff.mp hf
      cases q21 with
      | inl e22 =>
        replace hf : _ = some _ := hf
        refine wX0_beds_l24 a0 x1 x2 FU _ (Sum.inl e22) hq21 (fun e' he => ?_) (fun e' he => by cases he)
        cases he
        obtain ⟨v23, hv23, hf⟩ := Option.bind_eq_some_iff.mp hf
        refine g_new (ci := 4) (pc' := 69) rfl in_X4 tyX4_ok dX4_ok dX0_beds_66 rfl q204 q222 q89 hv23 ?_
        refine g_dup (pc' := 70) dX0_beds_69 rfl rfl ?_
        refine g_iconst (pc' := 71) (v := 3) dX0_beds_70 rfl (by decide) ?_
        obtain ⟨q24, hq24, hf⟩ := Option.bind_eq_some_iff.mp hf
        refine g_callI (pc' := 74) (as := [.int 3]) (wX4_init g _ v23.1 3 hq24) oX4_init ⟨Nat.le_of_ble_eq_true rfl, Nat.le_of_ble_eq_true rfl⟩ dX0_beds_71 rfl rfl q259 q260 (Nat.le_of_ble_eq_true rfl) (Nat.le_of_ble_eq_true rfl) (g_rV ?_) g_nt rfl
        refine g_athrow dX0_beds_74 ?_
        obtain ⟨h25, hf⟩ := vK_spec hf
        refine t_catch (ci := 4) rfl (by decide) q204 rfl h25 ?_
        refine g_astore_n (pc' := 76) (L' := [some (.ref a0), some (.int x1), some (.int x2), some (.ref v23.1)]) dX0_beds_75 rfl rfl (Nat.le_of_ble_eq_true rfl) rfl rfl ?_
        refine g_aload_n (pc' := 77) dX0_beds_76 rfl rfl rfl ?_
        refine g_aload_n (pc' := 78) dX0_beds_77 rfl rfl rfl ?_
        obtain ⟨q26, hq26, hf⟩ := Option.bind_eq_some_iff.mp hf
        obtain ⟨h27, hq26⟩ := vK_spec hq26
        refine g_callV (pc' := 81) (mx := mdX0_finds) (as := [.ref v23.1]) (wX0_finds g _ a0 v23.1 hq26) oX0_finds ⟨Nat.le_of_ble_eq_true rfl, Nat.le_of_ble_eq_true rfl⟩ dX0_beds_78 rfl (ci := 0) rfl h27 ⟨by decide +kernel, by decide +kernel⟩ oX0_finds.2.2.2 rfl q289 q291 qs1 qs1 q291 (Nat.le_of_ble_eq_true rfl) (Nat.le_of_ble_eq_true rfl) (g_rI ?_) g_nt rfl
        obtain rfl := Option.some.inj hf
        exact g_iret dX0_beds_81 rfl rfl ⟨rfl, rfl⟩
      | inr e22 =>
        refine wX0_beds_l24 a0 x1 x2 FU _ (Sum.inr e22) hq21 (fun e' he => by cases he) (fun e' he => ?_)
        cases he
        obtain rfl := Option.some.inj hf
        exact ⟨rfl, rfl⟩
    | inr a8 =>
      replace hf : _ = some _ := hf
      refine g_callS (pc' := 22) (as := [.int q2]) (wX0_isTold g _ q2 hq6) oX0_isTold ⟨Nat.le_of_ble_eq_true rfl, Nat.le_of_ble_eq_true rfl⟩ dX0_beds_19 rfl q216 q217 q83 (Nat.le_of_ble_eq_true rfl) (Nat.le_of_ble_eq_true rfl) g_nr (g_tt ?_) rfl
      obtain ⟨h28, hf⟩ := vK_spec hf
      refine t_catch (ci := 4) rfl (by decide) q204 rfl h28 ?_
      refine g_astore_n (pc' := 76) (L' := [some (.ref a0), some (.int x1), some (.int x2), some (.ref a8)]) dX0_beds_75 rfl rfl (Nat.le_of_ble_eq_true rfl) rfl rfl ?_
      refine g_aload_n (pc' := 77) dX0_beds_76 rfl rfl rfl ?_
      refine g_aload_n (pc' := 78) dX0_beds_77 rfl rfl rfl ?_
      obtain ⟨q29, hq29, hf⟩ := Option.bind_eq_some_iff.mp hf
      obtain ⟨h30, hq29⟩ := vK_spec hq29
      refine g_callV (pc' := 81) (mx := mdX0_finds) (as := [.ref a8]) (wX0_finds g _ a0 a8 hq29) oX0_finds ⟨Nat.le_of_ble_eq_true rfl, Nat.le_of_ble_eq_true rfl⟩ dX0_beds_78 rfl (ci := 0) rfl h30 ⟨by decide +kernel, by decide +kernel⟩ oX0_finds.2.2.2 rfl q289 q291 qs1 qs1 q291 (Nat.le_of_ble_eq_true rfl) (Nat.le_of_ble_eq_true rfl) (g_rI ?_) g_nt rfl
      obtain rfl := Option.some.inj hf
      exact g_iret dX0_beds_81 rfl rfl ⟨rfl, rfl⟩
  replace hf := hqq2
  refine g_if_eq (tgt := 18) (pc' := 7) dX0_beds_4 (by decide) rfl (fun h3 => ?_) (fun h3 => ?_)
  · replace hf := (if_pos h3).symm.trans hf
    refine g_iconst (pc' := 19) (v := 0) dX0_beds_18 rfl (by decide) ?_
    obtain rfl := Option.some.inj hf
    exact hJq2
  · replace hf := (if_neg h3).symm.trans hf
    refine g_iload_n (pc' := 8) dX0_beds_7 rfl rfl rfl ?_
    obtain ⟨q4, hq4, hf⟩ := Option.bind_eq_some_iff.mp hf
    refine g_callS (pc' := 11) (as := [.int x2]) (wX0_isSoon g _ x2 hq4) oX0_isSoon ⟨Nat.le_of_ble_eq_true rfl, Nat.le_of_ble_eq_true rfl⟩ dX0_beds_8 rfl q741 q742 q83 (Nat.le_of_ble_eq_true rfl) (Nat.le_of_ble_eq_true rfl) (g_rI ?_) g_nt rfl
    refine g_if_eq (tgt := 18) (pc' := 14) dX0_beds_11 (by decide) rfl (fun h5 => ?_) (fun h5 => ?_)
    · replace hf := (if_pos h5).symm.trans hf
      refine g_iconst (pc' := 19) (v := 0) dX0_beds_18 rfl (by decide) ?_
      obtain rfl := Option.some.inj hf
      exact hJq2
    · replace hf := (if_neg h5).symm.trans hf
      refine g_iconst (pc' := 15) (v := 1) dX0_beds_14 rfl (by decide) ?_
      refine g_goto (tgt := 19) dX0_beds_15 (by decide) ?_
      obtain rfl := Option.some.inj hf
      exact hJq2
def mdX0_feed : bMD := (yX0_feed, cX0_feed, 4, (some FieldType.int), [(0, 77, 78, 1)], 6, 137)
theorem oX0_feed : bOkc mdX0_feed 2 := ⟨by decide +kernel, ⟨by decide +kernel, by decide +kernel⟩, by decide +kernel, q772⟩
def fX0_feed_l37 (b0 : Nat) (y1 : Int32) (rec : (Int32 × bWl) → Option (Int32 × bWl)) (s : Int32 × bWl) : Option (Int32 × bWl) :=
  (if s.1 < 0 then
  some (s.1, s.2)
else
  Option.bind (hR s.2 (okc 0) b0 5) fun v12 =>
  Option.bind (hI s.2 (okc 0) b0 6) fun v13 =>
  Option.bind (sI s.2 1 v12 v13 (vp_nar .byte (((y1 >>> ((8 * s.1) &&& 31)) : Int32).toInt8.toInt32))) fun w14 =>
  Option.bind (hI w14 (okc 0) b0 6) fun v15 =>
  Option.bind (hP w14 (okc 0) b0 6 (.int (v15 + 1))) fun w16 =>
  rec ((s.1 + (-1)), w16))
def fX0_feed (w : bWl) (a0 : Nat) (x1 : Int32) (x2 : Int32) : Option (Int32 × bWl) :=
  Option.bind (fX0_in ((x2 : Int32).toInt64) 1 4) fun q1 =>
  Option.bind (fX0_need w q1 0) fun q2 => sm q2.1 (fun v3 =>
  Option.bind (hI q2.2 (okc 0) a0 6) fun v5 =>
  Option.bind (α := Int32) ((if 120 < (v5 + x2) then
  some 0
else
  some 1)) fun q6 =>
  Option.bind (fX0_need q2.2 q6 1) fun q8 => sm q8.1 (fun v9 =>
  Option.bind (lpF (fX0_feed_l37 a0 x1) FU ((x2 - 1), q8.2)) fun q17 =>
  Option.bind (hI q17.2 (okc 0) a0 6) fun v18 =>
  some (v18, q17.2)) (fun a10 => vK 4 q8.2 a10 (Option.bind (vK 0 q8.2 a0 (fX0_finds q8.2 a0 a10)) fun q20 =>
  some (q20.1, q20.2)))) (fun a4 => vK 4 q2.2 a4 (Option.bind (vK 0 q2.2 a0 (fX0_finds q2.2 a0 a4)) fun q23 =>
  some (q23.1, q23.2)))
set_option maxHeartbeats 4000000 in
theorem wX0_feed_l37 {g : bGh} {n0 u0 : Nat} {Q : Outcome → bWl → Prop} (b0 : Nat) (y1 : Int32) : ∀ (n : Nat) (s : Int32 × bWl) (r : (Int32 × bWl)), lpF (fX0_feed_l37 b0 y1) n s = some r → bG (g, mdX0_feed, n0, u0, Q) r.2 73 [some (.ref b0), some (.int y1), none, some (.int r.1)] [] → bG (g, mdX0_feed, n0, u0, Q) s.2 37 [some (.ref b0), some (.int y1), none, some (.int s.1)] [] := by
  intro n
  induction n with
  | zero => intro s r hf; cases hf
  | succ n ih =>
    intro s r hf kx
    rw [lpF_s] at hf
    unfold fX0_feed_l37 at hf
    refine g_iload_n (pc' := 38) dX0_feed_37 rfl rfl rfl ?_
    refine g_if_lt (tgt := 73) (pc' := 41) dX0_feed_38 (by decide) rfl (fun h11 => ?_) (fun h11 => ?_)
    · replace hf := (if_pos h11).symm.trans hf
      obtain rfl := Option.some.inj hf
      exact kx
    · replace hf := (if_neg h11).symm.trans hf
      refine g_aload_n (pc' := 42) dX0_feed_41 rfl rfl rfl ?_
      obtain ⟨v12, hv12, hf⟩ := Option.bind_eq_some_iff.mp hf
      refine g_get (pc' := 45) (fok_0 5 (by decide)) (Or.inl rfl) dX0_feed_42 rfl q176 (hR_spec hv12) ?_
      refine g_aload_n (pc' := 46) dX0_feed_45 rfl rfl rfl ?_
      obtain ⟨v13, hv13, hf⟩ := Option.bind_eq_some_iff.mp hf
      refine g_get (pc' := 49) (fok_0 6 (by decide)) (Or.inl rfl) dX0_feed_46 rfl q177 (hI_spec hv13) ?_
      refine g_iload_n (pc' := 50) dX0_feed_49 rfl rfl rfl ?_
      refine g_bipush (pc' := 52) (v := 8) dX0_feed_50 rfl (by decide) ?_
      refine g_iload_n (pc' := 53) dX0_feed_52 rfl rfl rfl ?_
      refine g_imul (pc' := 54) dX0_feed_53 rfl ?_
      refine g_ishr (pc' := 55) dX0_feed_54 rfl ?_
      refine g_i2b (pc' := 56) dX0_feed_55 rfl ?_
      obtain ⟨w14, hw14, hf⟩ := Option.bind_eq_some_iff.mp hf
      refine g_bast (pc' := 57) dX0_feed_56 rfl hw14 ?_
      refine g_aload_n (pc' := 58) dX0_feed_57 rfl rfl rfl ?_
      refine g_dup (pc' := 59) dX0_feed_58 rfl rfl ?_
      obtain ⟨v15, hv15, hf⟩ := Option.bind_eq_some_iff.mp hf
      refine g_get (pc' := 62) (fok_0 6 (by decide)) (Or.inl rfl) dX0_feed_59 rfl q177 (hI_spec hv15) ?_
      refine g_iconst (pc' := 63) (v := 1) dX0_feed_62 rfl (by decide) ?_
      refine g_iadd (pc' := 64) dX0_feed_63 rfl ?_
      obtain ⟨w16, hw16, hf⟩ := Option.bind_eq_some_iff.mp hf
      refine g_put (ty := .int) (pc' := 67) (fok_0 6 (by decide)) (Or.inl rfl) dX0_feed_64 rfl q177 (by decide +kernel) rfl rfl hw16 ?_
      refine g_iinc (pc' := 70) (v := s.1 + (-1)) (L' := [some (.ref b0), some (.int y1), none, some (.int (s.1 + (-1)))]) dX0_feed_67 rfl rfl rfl (Nat.le_of_ble_eq_true rfl) rfl rfl ?_
      refine g_goto (tgt := 37) dX0_feed_70 (by decide) ?_
      exact ih _ r hf kx
set_option maxHeartbeats 4000000 in
theorem wX0_feed (g : bGh) (w : bWl) (a0 : Nat) (x1 : Int32) (x2 : Int32) {r : (Int32 × bWl)} (hf : fX0_feed w a0 x1 x2 = some r) : bM g mdX0_feed w [.ref a0, .int x1, .int x2] (q_ (eI r.1) r.2) := by
  unfold fX0_feed at hf
  change bG _ _ 0 [some (.ref a0), some (.int x1), some (.int x2)] []
  refine g_iload_n (pc' := 1) dX0_feed_0 rfl rfl rfl ?_
  refine g_i2l (pc' := 2) dX0_feed_1 rfl ?_
  refine g_lconst (pc' := 3) (v := 1) dX0_feed_2 rfl (by decide) ?_
  refine g_ldc2 (pc' := 6) dX0_feed_3 rfl q773 ?_
  obtain ⟨q1, hq1, hf⟩ := Option.bind_eq_some_iff.mp hf
  refine g_callS (pc' := 9) (as := [.long ((x2 : Int32).toInt64), .long 1, .long 4]) (wX0_in g _ ((x2 : Int32).toInt64) 1 4 hq1) oX0_in ⟨Nat.le_of_ble_eq_true rfl, Nat.le_of_ble_eq_true rfl⟩ dX0_feed_6 rfl q209 q210 q83 (Nat.le_of_ble_eq_true rfl) (Nat.le_of_ble_eq_true rfl) (g_rI ?_) g_nt rfl
  refine g_iconst (pc' := 10) (v := 0) dX0_feed_9 rfl (by decide) ?_
  obtain ⟨q2, hq2, hf⟩ := Option.bind_eq_some_iff.mp hf
  obtain ⟨zq2, wq2⟩ := q2
  cases zq2 with
  | inl v3 =>
    replace hf : _ = some _ := hf
    refine g_callS (pc' := 13) (as := [.int q1, .int 0]) (wX0_need g _ q1 0 hq2) oX0_need ⟨Nat.le_of_ble_eq_true rfl, Nat.le_of_ble_eq_true rfl⟩ dX0_feed_10 rfl q219 q220 q83 (Nat.le_of_ble_eq_true rfl) (Nat.le_of_ble_eq_true rfl) (g_rV ?_) g_nt rfl
    refine g_aload_n (pc' := 14) dX0_feed_13 rfl rfl rfl ?_
    obtain ⟨v5, hv5, hf⟩ := Option.bind_eq_some_iff.mp hf
    refine g_get (pc' := 17) (fok_0 6 (by decide)) (Or.inl rfl) dX0_feed_14 rfl q177 (hI_spec hv5) ?_
    refine g_iload_n (pc' := 18) dX0_feed_17 rfl rfl rfl ?_
    refine g_iadd (pc' := 19) dX0_feed_18 rfl ?_
    refine g_bipush (pc' := 21) (v := 120) dX0_feed_19 rfl (by decide) ?_
    obtain ⟨q6, hqq6, hf⟩ := Option.bind_eq_some_iff.mp hf
    have hJq6 : bG (g, mdX0_feed, w.2.1, w.2.2.1, (q_ (eI r.1) r.2)) wq2 29 [some (.ref a0), some (.int x1), some (.int x2)] [.int q6] := by
      refine g_iconst (pc' := 30) (v := 1) dX0_feed_29 rfl (by decide) ?_
      obtain ⟨q8, hq8, hf⟩ := Option.bind_eq_some_iff.mp hf
      obtain ⟨zq8, wq8⟩ := q8
      cases zq8 with
      | inl v9 =>
        replace hf : _ = some _ := hf
        refine g_callS (pc' := 33) (as := [.int q6, .int 1]) (wX0_need g _ q6 1 hq8) oX0_need ⟨Nat.le_of_ble_eq_true rfl, Nat.le_of_ble_eq_true rfl⟩ dX0_feed_30 rfl q219 q220 q83 (Nat.le_of_ble_eq_true rfl) (Nat.le_of_ble_eq_true rfl) (g_rV ?_) g_nt rfl
        refine g_iload_n (pc' := 34) dX0_feed_33 rfl rfl rfl ?_
        refine g_iconst (pc' := 35) (v := 1) dX0_feed_34 rfl (by decide) ?_
        refine g_isub (pc' := 36) dX0_feed_35 rfl ?_
        refine g_istore_n (pc' := 37) (L' := [some (.ref a0), some (.int x1), some (.int x2), some (.int (x2 - 1))]) dX0_feed_36 rfl rfl (Nat.le_of_ble_eq_true rfl) rfl rfl ?_
        refine g_drop [2] (L' := [some (.ref a0), some (.int x1), none, some (.int (x2 - 1))]) rfl ?_
        obtain ⟨q17, hq17, hf⟩ := Option.bind_eq_some_iff.mp hf
        refine wX0_feed_l37 a0 x1 FU ((x2 - 1), wq8) q17 hq17 ?_
        refine g_aload_n (pc' := 74) dX0_feed_73 rfl rfl rfl ?_
        obtain ⟨v18, hv18, hf⟩ := Option.bind_eq_some_iff.mp hf
        refine g_get (pc' := 77) (fok_0 6 (by decide)) (Or.inl rfl) dX0_feed_74 rfl q177 (hI_spec hv18) ?_
        obtain rfl := Option.some.inj hf
        exact g_iret dX0_feed_77 rfl rfl ⟨rfl, rfl⟩
      | inr a10 =>
        replace hf : _ = some _ := hf
        refine g_callS (pc' := 33) (as := [.int q6, .int 1]) (wX0_need g _ q6 1 hq8) oX0_need ⟨Nat.le_of_ble_eq_true rfl, Nat.le_of_ble_eq_true rfl⟩ dX0_feed_30 rfl q219 q220 q83 (Nat.le_of_ble_eq_true rfl) (Nat.le_of_ble_eq_true rfl) g_nr (g_tt ?_) rfl
        obtain ⟨h19, hf⟩ := vK_spec hf
        refine t_catch (ci := 4) rfl (by decide) q204 rfl h19 ?_
        refine g_astore_n (pc' := 79) (L' := [some (.ref a0), some (.int x1), some (.int x2), some (.ref a10)]) dX0_feed_78 rfl rfl (Nat.le_of_ble_eq_true rfl) rfl rfl ?_
        refine g_aload_n (pc' := 80) dX0_feed_79 rfl rfl rfl ?_
        refine g_aload_n (pc' := 81) dX0_feed_80 rfl rfl rfl ?_
        obtain ⟨q20, hq20, hf⟩ := Option.bind_eq_some_iff.mp hf
        obtain ⟨h21, hq20⟩ := vK_spec hq20
        refine g_callV (pc' := 84) (mx := mdX0_finds) (as := [.ref a10]) (wX0_finds g _ a0 a10 hq20) oX0_finds ⟨Nat.le_of_ble_eq_true rfl, Nat.le_of_ble_eq_true rfl⟩ dX0_feed_81 rfl (ci := 0) rfl h21 ⟨by decide +kernel, by decide +kernel⟩ oX0_finds.2.2.2 rfl q289 q291 qs1 qs1 q291 (Nat.le_of_ble_eq_true rfl) (Nat.le_of_ble_eq_true rfl) (g_rI ?_) g_nt rfl
        obtain rfl := Option.some.inj hf
        exact g_iret dX0_feed_84 rfl rfl ⟨rfl, rfl⟩
    replace hf := hqq6
    refine g_icmp_gt (tgt := 28) (pc' := 24) dX0_feed_21 (by decide) rfl (fun h7 => ?_) (fun h7 => ?_)
    · replace hf := (if_pos h7).symm.trans hf
      refine g_iconst (pc' := 29) (v := 0) dX0_feed_28 rfl (by decide) ?_
      obtain rfl := Option.some.inj hf
      exact hJq6
    · replace hf := (if_neg h7).symm.trans hf
      refine g_iconst (pc' := 25) (v := 1) dX0_feed_24 rfl (by decide) ?_
      refine g_goto (tgt := 29) dX0_feed_25 (by decide) ?_
      obtain rfl := Option.some.inj hf
      exact hJq6
  | inr a4 =>
    replace hf : _ = some _ := hf
    refine g_callS (pc' := 13) (as := [.int q1, .int 0]) (wX0_need g _ q1 0 hq2) oX0_need ⟨Nat.le_of_ble_eq_true rfl, Nat.le_of_ble_eq_true rfl⟩ dX0_feed_10 rfl q219 q220 q83 (Nat.le_of_ble_eq_true rfl) (Nat.le_of_ble_eq_true rfl) g_nr (g_tt ?_) rfl
    obtain ⟨h22, hf⟩ := vK_spec hf
    refine t_catch (ci := 4) rfl (by decide) q204 rfl h22 ?_
    refine g_astore_n (pc' := 79) (L' := [some (.ref a0), some (.int x1), some (.int x2), some (.ref a4)]) dX0_feed_78 rfl rfl (Nat.le_of_ble_eq_true rfl) rfl rfl ?_
    refine g_aload_n (pc' := 80) dX0_feed_79 rfl rfl rfl ?_
    refine g_aload_n (pc' := 81) dX0_feed_80 rfl rfl rfl ?_
    obtain ⟨q23, hq23, hf⟩ := Option.bind_eq_some_iff.mp hf
    obtain ⟨h24, hq23⟩ := vK_spec hq23
    refine g_callV (pc' := 84) (mx := mdX0_finds) (as := [.ref a4]) (wX0_finds g _ a0 a4 hq23) oX0_finds ⟨Nat.le_of_ble_eq_true rfl, Nat.le_of_ble_eq_true rfl⟩ dX0_feed_81 rfl (ci := 0) rfl h24 ⟨by decide +kernel, by decide +kernel⟩ oX0_finds.2.2.2 rfl q289 q291 qs1 qs1 q291 (Nat.le_of_ble_eq_true rfl) (Nat.le_of_ble_eq_true rfl) (g_rI ?_) g_nt rfl
    obtain rfl := Option.some.inj hf
    exact g_iret dX0_feed_84 rfl rfl ⟨rfl, rfl⟩
def mdX0_wipe : bMD := (yX0_wipe, cX0_wipe, 2, (some FieldType.int), [], 1, 12)
theorem oX0_wipe : bOkc mdX0_wipe 0 := ⟨by decide +kernel, ⟨by decide +kernel, by decide +kernel⟩, by decide +kernel, q777⟩
def fX0_wipe (w : bWl) (a0 : Nat) : Option (Int32 × bWl) :=
  Option.bind (hI w (okc 0) a0 6) fun v1 =>
  Option.bind (hP w (okc 0) a0 6 (.int 0)) fun w2 =>
  some (v1, w2)
set_option maxHeartbeats 4000000 in
theorem wX0_wipe (g : bGh) (w : bWl) (a0 : Nat) {r : (Int32 × bWl)} (hf : fX0_wipe w a0 = some r) : bM g mdX0_wipe w [.ref a0] (q_ (eI r.1) r.2) := by
  unfold fX0_wipe at hf
  change bG _ _ 0 [some (.ref a0)] []
  refine g_aload_n (pc' := 1) dX0_wipe_0 rfl rfl rfl ?_
  obtain ⟨v1, hv1, hf⟩ := Option.bind_eq_some_iff.mp hf
  refine g_get (pc' := 4) (fok_0 6 (by decide)) (Or.inl rfl) dX0_wipe_1 rfl q177 (hI_spec hv1) ?_
  refine g_istore_n (pc' := 5) (L' := [some (.ref a0), some (.int v1)]) dX0_wipe_4 rfl rfl (Nat.le_of_ble_eq_true rfl) rfl rfl ?_
  refine g_aload_n (pc' := 6) dX0_wipe_5 rfl rfl rfl ?_
  refine g_iconst (pc' := 7) (v := 0) dX0_wipe_6 rfl (by decide) ?_
  obtain ⟨w2, hw2, hf⟩ := Option.bind_eq_some_iff.mp hf
  refine g_put (ty := .int) (pc' := 10) (fok_0 6 (by decide)) (Or.inl rfl) dX0_wipe_7 rfl q177 (by decide +kernel) rfl rfl hw2 ?_
  refine g_iload_n (pc' := 11) dX0_wipe_10 rfl rfl rfl ?_
  obtain rfl := Option.some.inj hf
  exact g_iret dX0_wipe_11 rfl rfl ⟨rfl, rfl⟩
def mdX0_town : bMD := (yX0_town, cX0_town, 4, (some FieldType.int), [(11, 47, 54, 276), (11, 47, 69, 0), (54, 62, 69, 0)], 11, 259)
theorem oX0_town : bOkc mdX0_town 0 := ⟨by decide +kernel, ⟨by decide +kernel, by decide +kernel⟩, by decide +kernel, q781⟩
def fX0_town (w : bWl) (a0 : Nat) : Option (Int32 × bWl) :=
  Option.bind (hR w (okc 0) a0 2) fun v1 =>
  Option.bind (hR w (okc 0) a0 0) fun v2 =>
  Option.bind (vK 1 w v1 (fX1_become w v1 v2)) fun q3 =>
  Option.bind (nC q3 (.inr (11, dX11)) 6) fun v5 =>
  Option.bind (hR v5.2 (okc 0) a0 5) fun v6 =>
  Option.bind (hI v5.2 (okc 0) a0 6) fun v7 =>
  Option.bind (hR v5.2 (okc 0) a0 2) fun v8 =>
  Option.bind (fX11_init v5.2 v5.1 v6 v7 v8) fun q9 =>
  Option.bind (vK 11 q9 v5.1 (fX11_read q9 v5.1)) fun q10 => sm q10.1 (fun v12 =>
  Option.bind (hR q10.2 (okc 0) a0 0) fun v14 =>
  Option.bind (hR q10.2 (okc 0) a0 2) fun v15 =>
  Option.bind (vK 1 q10.2 v14 (fX1_become q10.2 v14 v15)) fun q16 =>
  Option.bind (hP q16 (okc 0) a0 6 (.int 0)) fun w18 =>
  some (v12, w18)) (fun a13 => vK 12 q10.2 a13 (Option.bind (hI q10.2 (okc 12) a13 6) fun v20 =>
  Option.bind (hP q10.2 (okc 0) a0 6 (.int 0)) fun w21 =>
  some (((-1) - v20), w21)))
set_option maxHeartbeats 4000000 in
theorem wX0_town (g : bGh) (w : bWl) (a0 : Nat) {r : (Int32 × bWl)} (hf : fX0_town w a0 = some r) : bM g mdX0_town w [.ref a0] (q_ (eI r.1) r.2) := by
  unfold fX0_town at hf
  change bG _ _ 0 [some (.ref a0)] []
  refine g_aload_n (pc' := 1) dX0_town_0 rfl rfl rfl ?_
  obtain ⟨v1, hv1, hf⟩ := Option.bind_eq_some_iff.mp hf
  refine g_get (pc' := 4) (fok_0 2 (by decide)) (Or.inl rfl) dX0_town_1 rfl q173 (hR_spec hv1) ?_
  refine g_aload_n (pc' := 5) dX0_town_4 rfl rfl rfl ?_
  obtain ⟨v2, hv2, hf⟩ := Option.bind_eq_some_iff.mp hf
  refine g_get (pc' := 8) (fok_0 0 (by decide)) (Or.inl rfl) dX0_town_5 rfl q171 (hR_spec hv2) ?_
  obtain ⟨q3, hq3, hf⟩ := Option.bind_eq_some_iff.mp hf
  obtain ⟨h4, hq3⟩ := vK_spec hq3
  refine g_callV (pc' := 11) (mx := mdX1_become) (as := [.ref v2]) (wX1_become g _ v1 v2 hq3) oX1_become ⟨Nat.le_of_ble_eq_true rfl, Nat.le_of_ble_eq_true rfl⟩ dX0_town_8 rfl (ci := 1) rfl h4 ⟨by decide +kernel, by decide +kernel⟩ oX1_become.2.2.2 rfl q706 q707 q708 q708 q707 (Nat.le_of_ble_eq_true rfl) (Nat.le_of_ble_eq_true rfl) (g_rV ?_) g_nt rfl
  obtain ⟨v5, hv5, hf⟩ := Option.bind_eq_some_iff.mp hf
  refine g_new (ci := 11) (pc' := 14) rfl in_X11 tyX11_ok dX11_ok dX0_town_11 rfl q783 q784 q99 hv5 ?_
  refine g_dup (pc' := 15) dX0_town_14 rfl rfl ?_
  refine g_aload_n (pc' := 16) dX0_town_15 rfl rfl rfl ?_
  obtain ⟨v6, hv6, hf⟩ := Option.bind_eq_some_iff.mp hf
  refine g_get (pc' := 19) (fok_0 5 (by decide)) (Or.inl rfl) dX0_town_16 rfl q176 (hR_spec hv6) ?_
  refine g_aload_n (pc' := 20) dX0_town_19 rfl rfl rfl ?_
  obtain ⟨v7, hv7, hf⟩ := Option.bind_eq_some_iff.mp hf
  refine g_get (pc' := 23) (fok_0 6 (by decide)) (Or.inl rfl) dX0_town_20 rfl q177 (hI_spec hv7) ?_
  refine g_aload_n (pc' := 24) dX0_town_23 rfl rfl rfl ?_
  obtain ⟨v8, hv8, hf⟩ := Option.bind_eq_some_iff.mp hf
  refine g_get (pc' := 27) (fok_0 2 (by decide)) (Or.inl rfl) dX0_town_24 rfl q173 (hR_spec hv8) ?_
  obtain ⟨q9, hq9, hf⟩ := Option.bind_eq_some_iff.mp hf
  refine g_callI (pc' := 30) (as := [.ref v6, .int v7, .ref v8]) (wX11_init g _ v5.1 v6 v7 v8 hq9) oX11_init ⟨Nat.le_of_ble_eq_true rfl, Nat.le_of_ble_eq_true rfl⟩ dX0_town_27 rfl rfl q785 q786 (Nat.le_of_ble_eq_true rfl) (Nat.le_of_ble_eq_true rfl) (g_rV ?_) g_nt rfl
  obtain ⟨q10, hq10, hf⟩ := Option.bind_eq_some_iff.mp hf
  obtain ⟨h11, hq10⟩ := vK_spec hq10
  obtain ⟨zq10, wq10⟩ := q10
  cases zq10 with
  | inl v12 =>
    replace hf : _ = some _ := hf
    refine g_callV (pc' := 33) (mx := mdX11_read) (as := []) (wX11_read g _ v5.1 hq10) oX11_read ⟨Nat.le_of_ble_eq_true rfl, Nat.le_of_ble_eq_true rfl⟩ dX0_town_30 rfl (ci := 11) rfl h11 ⟨by decide +kernel, by decide +kernel⟩ oX11_read.2.2.2 rfl q808 q809 q810 q810 q809 (Nat.le_of_ble_eq_true rfl) (Nat.le_of_ble_eq_true rfl) (g_rI ?_) g_nt rfl
    refine g_istore_n (pc' := 34) (L' := [some (.ref a0), some (.int v12)]) dX0_town_33 rfl rfl (Nat.le_of_ble_eq_true rfl) rfl rfl ?_
    refine g_aload_n (pc' := 35) dX0_town_34 rfl rfl rfl ?_
    obtain ⟨v14, hv14, hf⟩ := Option.bind_eq_some_iff.mp hf
    refine g_get (pc' := 38) (fok_0 0 (by decide)) (Or.inl rfl) dX0_town_35 rfl q171 (hR_spec hv14) ?_
    refine g_aload_n (pc' := 39) dX0_town_38 rfl rfl rfl ?_
    obtain ⟨v15, hv15, hf⟩ := Option.bind_eq_some_iff.mp hf
    refine g_get (pc' := 42) (fok_0 2 (by decide)) (Or.inl rfl) dX0_town_39 rfl q173 (hR_spec hv15) ?_
    obtain ⟨q16, hq16, hf⟩ := Option.bind_eq_some_iff.mp hf
    obtain ⟨h17, hq16⟩ := vK_spec hq16
    refine g_callV (pc' := 45) (mx := mdX1_become) (as := [.ref v15]) (wX1_become g _ v14 v15 hq16) oX1_become ⟨Nat.le_of_ble_eq_true rfl, Nat.le_of_ble_eq_true rfl⟩ dX0_town_42 rfl (ci := 1) rfl h17 ⟨by decide +kernel, by decide +kernel⟩ oX1_become.2.2.2 rfl q706 q707 q708 q708 q707 (Nat.le_of_ble_eq_true rfl) (Nat.le_of_ble_eq_true rfl) (g_rV ?_) g_nt rfl
    refine g_iload_n (pc' := 46) dX0_town_45 rfl rfl rfl ?_
    refine g_istore_n (pc' := 47) (L' := [some (.ref a0), some (.int v12), some (.int v12)]) dX0_town_46 rfl rfl (Nat.le_of_ble_eq_true rfl) rfl rfl ?_
    refine g_aload_n (pc' := 48) dX0_town_47 rfl rfl rfl ?_
    refine g_iconst (pc' := 49) (v := 0) dX0_town_48 rfl (by decide) ?_
    obtain ⟨w18, hw18, hf⟩ := Option.bind_eq_some_iff.mp hf
    refine g_put (ty := .int) (pc' := 52) (fok_0 6 (by decide)) (Or.inl rfl) dX0_town_49 rfl q177 (by decide +kernel) rfl rfl hw18 ?_
    refine g_iload_n (pc' := 53) dX0_town_52 rfl rfl rfl ?_
    obtain rfl := Option.some.inj hf
    exact g_iret dX0_town_53 rfl rfl ⟨rfl, rfl⟩
  | inr a13 =>
    replace hf : _ = some _ := hf
    refine g_callV (pc' := 33) (mx := mdX11_read) (as := []) (wX11_read g _ v5.1 hq10) oX11_read ⟨Nat.le_of_ble_eq_true rfl, Nat.le_of_ble_eq_true rfl⟩ dX0_town_30 rfl (ci := 11) rfl h11 ⟨by decide +kernel, by decide +kernel⟩ oX11_read.2.2.2 rfl q808 q809 q810 q810 q809 (Nat.le_of_ble_eq_true rfl) (Nat.le_of_ble_eq_true rfl) g_nr (g_tt ?_) rfl
    obtain ⟨h19, hf⟩ := vK_spec hf
    refine t_catch (ci := 12) rfl (by decide) q782 rfl h19 ?_
    refine g_astore_n (pc' := 55) (L' := [some (.ref a0), some (.ref a13)]) dX0_town_54 rfl rfl (Nat.le_of_ble_eq_true rfl) rfl rfl ?_
    refine g_iconst (pc' := 56) (v := (-1)) dX0_town_55 rfl (by decide) ?_
    refine g_aload_n (pc' := 57) dX0_town_56 rfl rfl rfl ?_
    obtain ⟨v20, hv20, hf⟩ := Option.bind_eq_some_iff.mp hf
    refine g_get (pc' := 60) (fok_12 6 (by decide)) (Or.inl rfl) dX0_town_57 rfl q909 (hI_spec hv20) ?_
    refine g_isub (pc' := 61) dX0_town_60 rfl ?_
    refine g_istore_n (pc' := 62) (L' := [some (.ref a0), some (.ref a13), some (.int ((-1) - v20))]) dX0_town_61 rfl rfl (Nat.le_of_ble_eq_true rfl) rfl rfl ?_
    refine g_aload_n (pc' := 63) dX0_town_62 rfl rfl rfl ?_
    refine g_iconst (pc' := 64) (v := 0) dX0_town_63 rfl (by decide) ?_
    obtain ⟨w21, hw21, hf⟩ := Option.bind_eq_some_iff.mp hf
    refine g_put (ty := .int) (pc' := 67) (fok_0 6 (by decide)) (Or.inl rfl) dX0_town_64 rfl q177 (by decide +kernel) rfl rfl hw21 ?_
    refine g_iload_n (pc' := 68) dX0_town_67 rfl rfl rfl ?_
    obtain rfl := Option.some.inj hf
    exact g_iret dX0_town_68 rfl rfl ⟨rfl, rfl⟩
def mdX0_sheetAt : bMD := (yX0_sheetAt, cX0_sheetAt, 1, none, [], 6, 137)
theorem oX0_sheetAt : bOkc mdX0_sheetAt 1 := ⟨by decide +kernel, ⟨by decide +kernel, by decide +kernel⟩, by decide +kernel, q960⟩
def fX0_sheetAt (w : bWl) (x0 : Int32) : Option ((Unit ⊕ Nat) × bWl) :=
  Option.bind (fX0_in ((x0 : Int32).toInt64) 0 3) fun q1 =>
  Option.bind (fX0_need w q1 0) fun q2 => sm q2.1 (fun v3 =>
  some (Sum.inl (), q2.2)) (fun a4 => some (Sum.inr a4, q2.2))
set_option maxHeartbeats 4000000 in
theorem wX0_sheetAt (g : bGh) (w : bWl) (x0 : Int32) {r : ((Unit ⊕ Nat) × bWl)} (hf : fX0_sheetAt w x0 = some r) : bM g mdX0_sheetAt w [.int x0] (qX eV r.1 r.2) := by
  unfold fX0_sheetAt at hf
  change bG _ _ 0 [some (.int x0)] []
  refine g_iload_n (pc' := 1) dX0_sheetAt_0 rfl rfl rfl ?_
  refine g_i2l (pc' := 2) dX0_sheetAt_1 rfl ?_
  refine g_lconst (pc' := 3) (v := 0) dX0_sheetAt_2 rfl (by decide) ?_
  refine g_ldc2 (pc' := 6) dX0_sheetAt_3 rfl q213 ?_
  obtain ⟨q1, hq1, hf⟩ := Option.bind_eq_some_iff.mp hf
  refine g_callS (pc' := 9) (as := [.long ((x0 : Int32).toInt64), .long 0, .long 3]) (wX0_in g _ ((x0 : Int32).toInt64) 0 3 hq1) oX0_in ⟨Nat.le_of_ble_eq_true rfl, Nat.le_of_ble_eq_true rfl⟩ dX0_sheetAt_6 rfl q209 q210 q83 (Nat.le_of_ble_eq_true rfl) (Nat.le_of_ble_eq_true rfl) (g_rI ?_) g_nt rfl
  refine g_iconst (pc' := 10) (v := 0) dX0_sheetAt_9 rfl (by decide) ?_
  obtain ⟨q2, hq2, hf⟩ := Option.bind_eq_some_iff.mp hf
  obtain ⟨zq2, wq2⟩ := q2
  cases zq2 with
  | inl v3 =>
    replace hf : _ = some _ := hf
    refine g_callS (pc' := 13) (as := [.int q1, .int 0]) (wX0_need g _ q1 0 hq2) oX0_need ⟨Nat.le_of_ble_eq_true rfl, Nat.le_of_ble_eq_true rfl⟩ dX0_sheetAt_10 rfl q219 q220 q83 (Nat.le_of_ble_eq_true rfl) (Nat.le_of_ble_eq_true rfl) (g_rV ?_) g_nt rfl
    obtain rfl := Option.some.inj hf
    exact g_vret dX0_sheetAt_13 rfl ⟨rfl, rfl⟩
  | inr a4 =>
    replace hf : _ = some _ := hf
    refine g_callS (pc' := 13) (as := [.int q1, .int 0]) (wX0_need g _ q1 0 hq2) oX0_need ⟨Nat.le_of_ble_eq_true rfl, Nat.le_of_ble_eq_true rfl⟩ dX0_sheetAt_10 rfl q219 q220 q83 (Nat.le_of_ble_eq_true rfl) (Nat.le_of_ble_eq_true rfl) g_nr (g_tt ?_) rfl
    obtain rfl := Option.some.inj hf
    exact t_leave rfl ⟨rfl, rfl⟩
def mdX0_there : bMD := (yX0_there, cX0_there, 3, (some (FieldType.object "java/lang/Object")), [], 6, 137)
theorem oX0_there : bOkc mdX0_there 1 := ⟨by decide +kernel, ⟨by decide +kernel, by decide +kernel⟩, by decide +kernel, q964⟩
def fX0_there (w : bWl) (a0 : Nat) (x1 : Int32) : Option ((Nat ⊕ Nat) × bWl) :=
  Option.bind (hR w (okc 0) a0 7) fun v1 =>
  Option.bind (aR w v1 x1) fun v2 =>
  Option.bind (hN w (okc 2) v2 0) fun v3 => nz v3 (fun v3a =>
  Option.bind (fX0_need w 1 5) fun q4 => sm q4.1 (fun v5 =>
  some (Sum.inl v3a, q4.2)) (fun a6 => some (Sum.inr a6, q4.2))) (Option.bind (fX0_need w 0 5) fun q7 => sm q7.1 (fun v8 =>
  none) (fun a9 => some (Sum.inr a9, q7.2)))
set_option maxHeartbeats 4000000 in
theorem wX0_there (g : bGh) (w : bWl) (a0 : Nat) (x1 : Int32) {r : ((Nat ⊕ Nat) × bWl)} (hf : fX0_there w a0 x1 = some r) : bM g mdX0_there w [.ref a0, .int x1] (qX eA r.1 r.2) := by
  unfold fX0_there at hf
  change bG _ _ 0 [some (.ref a0), some (.int x1)] []
  refine g_aload_n (pc' := 1) dX0_there_0 rfl rfl rfl ?_
  obtain ⟨v1, hv1, hf⟩ := Option.bind_eq_some_iff.mp hf
  refine g_get (pc' := 4) (fok_0 7 (by decide)) (Or.inl rfl) dX0_there_1 rfl q178 (hR_spec hv1) ?_
  refine g_iload_n (pc' := 5) dX0_there_4 rfl rfl rfl ?_
  obtain ⟨v2, hv2, hf⟩ := Option.bind_eq_some_iff.mp hf
  refine g_aald (pc' := 6) dX0_there_5 rfl hv2 ?_
  obtain ⟨v3, hv3, hf⟩ := Option.bind_eq_some_iff.mp hf
  refine g_get (pc' := 9) (fok_2 0 (by decide)) (Or.inl rfl) dX0_there_6 rfl q130 (hN_spec hv3) ?_
  cases v3 with
  | some v3a =>
    simp only [nz] at hf
    show bG _ _ _ _ (.ref _ :: _)
    refine g_astore_n (pc' := 10) (L' := [some (.ref a0), some (.int x1), some (.ref v3a)]) dX0_there_9 rfl rfl (Nat.le_of_ble_eq_true rfl) rfl rfl ?_
    refine g_aload_n (pc' := 11) dX0_there_10 rfl rfl rfl ?_
    refine g_ifnull (pc' := 14) dX0_there_11 rfl ?_
    refine g_iconst (pc' := 15) (v := 1) dX0_there_14 rfl (by decide) ?_
    refine g_goto (tgt := 19) dX0_there_15 (by decide) ?_
    refine g_iconst (pc' := 20) (v := 5) dX0_there_19 rfl (by decide) ?_
    obtain ⟨q4, hq4, hf⟩ := Option.bind_eq_some_iff.mp hf
    obtain ⟨zq4, wq4⟩ := q4
    cases zq4 with
    | inl v5 =>
      replace hf : _ = some _ := hf
      refine g_callS (pc' := 23) (as := [.int 1, .int 5]) (wX0_need g _ 1 5 hq4) oX0_need ⟨Nat.le_of_ble_eq_true rfl, Nat.le_of_ble_eq_true rfl⟩ dX0_there_20 rfl q219 q220 q83 (Nat.le_of_ble_eq_true rfl) (Nat.le_of_ble_eq_true rfl) (g_rV ?_) g_nt rfl
      refine g_aload_n (pc' := 24) dX0_there_23 rfl rfl rfl ?_
      obtain rfl := Option.some.inj hf
      exact g_aret dX0_there_24 rfl (Or.inl ⟨_, rfl⟩) (Or.inr ⟨_, rfl⟩) ⟨rfl, rfl⟩
    | inr a6 =>
      replace hf : _ = some _ := hf
      refine g_callS (pc' := 23) (as := [.int 1, .int 5]) (wX0_need g _ 1 5 hq4) oX0_need ⟨Nat.le_of_ble_eq_true rfl, Nat.le_of_ble_eq_true rfl⟩ dX0_there_20 rfl q219 q220 q83 (Nat.le_of_ble_eq_true rfl) (Nat.le_of_ble_eq_true rfl) g_nr (g_tt ?_) rfl
      obtain rfl := Option.some.inj hf
      exact t_leave rfl ⟨rfl, rfl⟩
  | none =>
    replace hf : _ = some _ := hf
    show bG _ _ _ _ (.null :: _)
    refine g_astore_nN (pc' := 10) (L' := [some (.ref a0), some (.int x1), some (.null)]) dX0_there_9 rfl rfl (Nat.le_of_ble_eq_true rfl) rfl rfl ?_
    refine g_aload_nN (pc' := 11) dX0_there_10 rfl rfl rfl ?_
    refine g_ifnullN (tgt := 18) dX0_there_11 (by decide) ?_
    refine g_iconst (pc' := 19) (v := 0) dX0_there_18 rfl (by decide) ?_
    refine g_iconst (pc' := 20) (v := 5) dX0_there_19 rfl (by decide) ?_
    obtain ⟨q7, hq7, hf⟩ := Option.bind_eq_some_iff.mp hf
    obtain ⟨zq7, wq7⟩ := q7
    cases zq7 with
    | inl v8 =>
      replace hf : _ = some _ := hf
      refine g_callS (pc' := 23) (as := [.int 0, .int 5]) (wX0_need g _ 0 5 hq7) oX0_need ⟨Nat.le_of_ble_eq_true rfl, Nat.le_of_ble_eq_true rfl⟩ dX0_there_20 rfl q219 q220 q83 (Nat.le_of_ble_eq_true rfl) (Nat.le_of_ble_eq_true rfl) (g_rV ?_) g_nt rfl
      refine g_aload_nN (pc' := 24) dX0_there_23 rfl rfl rfl ?_
      cases hf
    | inr a9 =>
      replace hf : _ = some _ := hf
      refine g_callS (pc' := 23) (as := [.int 0, .int 5]) (wX0_need g _ 0 5 hq7) oX0_need ⟨Nat.le_of_ble_eq_true rfl, Nat.le_of_ble_eq_true rfl⟩ dX0_there_20 rfl q219 q220 q83 (Nat.le_of_ble_eq_true rfl) (Nat.le_of_ble_eq_true rfl) g_nr (g_tt ?_) rfl
      obtain rfl := Option.some.inj hf
      exact t_leave rfl ⟨rfl, rfl⟩
def mdX0_length : bMD := (yX0_length, cX0_length, 1, (some FieldType.int), [], 1, 12)
theorem oX0_length : bOkc mdX0_length 1 := ⟨by decide +kernel, ⟨by decide +kernel, by decide +kernel⟩, by decide +kernel, q967⟩
def fX0_length (w : bWl) (a0 : Nat) : Option Int32 :=
  Option.bind (iT 1 w a0) fun v1 =>
  (if v1 = 0 then
  Option.bind (iT 2 w a0) fun v3 =>
  (if v3 = 0 then
  vT 3 w a0 (Option.bind (aL w a0) fun v6 =>
  some v6)
else
  vT 2 w a0 (Option.bind (aL w a0) fun v8 =>
  some v8))
else
  vT 1 w a0 (Option.bind (aL w a0) fun v10 =>
  some v10))
set_option maxHeartbeats 4000000 in
theorem wX0_length (g : bGh) (w : bWl) (a0 : Nat) {r : Int32} (hf : fX0_length w a0 = some r) : bM g mdX0_length w [.ref a0] (q_ (eI r) w) := by
  unfold fX0_length at hf
  change bG _ _ 0 [some (.ref a0)] []
  refine g_aload_n (pc' := 1) dX0_length_0 rfl rfl rfl ?_
  obtain ⟨v1, hv1, hf⟩ := Option.bind_eq_some_iff.mp hf
  refine g_inst1 (pc' := 4) dX0_length_1 rfl q968 hv1 ?_
  refine g_if_eq (tgt := 13) (pc' := 7) dX0_length_4 (by decide) rfl (fun h2 => ?_) (fun h2 => ?_)
  · replace hf := (if_pos h2).symm.trans hf
    refine g_aload_n (pc' := 14) dX0_length_13 rfl rfl rfl ?_
    obtain ⟨v3, hv3, hf⟩ := Option.bind_eq_some_iff.mp hf
    refine g_inst2 (pc' := 17) dX0_length_14 rfl q969 hv3 ?_
    refine g_if_eq (tgt := 28) (pc' := 20) dX0_length_17 (by decide) rfl (fun h4 => ?_) (fun h4 => ?_)
    · replace hf := (if_pos h4).symm.trans hf
      refine g_aload_n (pc' := 29) dX0_length_28 rfl rfl rfl ?_
      obtain ⟨h5, hf⟩ := vT_spec hf
      refine g_castA (pc' := 32) (t := 3) dX0_length_29 rfl q970 (by decide) h5 ?_
      obtain ⟨v6, hv6, hf⟩ := Option.bind_eq_some_iff.mp hf
      refine g_alen (pc' := 33) dX0_length_32 rfl hv6 ?_
      obtain rfl := Option.some.inj hf
      exact g_iret dX0_length_33 rfl rfl ⟨rfl, rfl⟩
    · replace hf := (if_neg h4).symm.trans hf
      refine g_aload_n (pc' := 21) dX0_length_20 rfl rfl rfl ?_
      obtain ⟨h7, hf⟩ := vT_spec hf
      refine g_castA (pc' := 24) (t := 2) dX0_length_21 rfl q969 (by decide) h7 ?_
      obtain ⟨v8, hv8, hf⟩ := Option.bind_eq_some_iff.mp hf
      refine g_alen (pc' := 25) dX0_length_24 rfl hv8 ?_
      refine g_goto (tgt := 33) dX0_length_25 (by decide) ?_
      obtain rfl := Option.some.inj hf
      exact g_iret dX0_length_33 rfl rfl ⟨rfl, rfl⟩
  · replace hf := (if_neg h2).symm.trans hf
    refine g_aload_n (pc' := 8) dX0_length_7 rfl rfl rfl ?_
    obtain ⟨h9, hf⟩ := vT_spec hf
    refine g_castA (pc' := 11) (t := 1) dX0_length_8 rfl q968 (by decide) h9 ?_
    obtain ⟨v10, hv10, hf⟩ := Option.bind_eq_some_iff.mp hf
    refine g_alen (pc' := 12) dX0_length_11 rfl hv10 ?_
    obtain rfl := Option.some.inj hf
    exact g_iret dX0_length_12 rfl rfl ⟨rfl, rfl⟩
def mdX0_get : bMD := (yX0_get, cX0_get, 2, (some FieldType.long), [], 1, 12)
theorem oX0_get : bOkc mdX0_get 2 := ⟨by decide +kernel, ⟨by decide +kernel, by decide +kernel⟩, by decide +kernel, q973⟩
def fX0_get (w : bWl) (a0 : Nat) (x1 : Int32) : Option Int64 :=
  Option.bind (iT 1 w a0) fun v1 =>
  (if v1 = 0 then
  Option.bind (iT 2 w a0) fun v3 =>
  (if v3 = 0 then
  vT 3 w a0 (Option.bind (aJ w a0 x1) fun v6 =>
  some v6)
else
  vT 2 w a0 (Option.bind (aI w 2 a0 x1) fun v8 =>
  some ((v8 : Int32).toInt64)))
else
  vT 1 w a0 (Option.bind (aI w 1 a0 x1) fun v10 =>
  some ((v10 : Int32).toInt64)))
set_option maxHeartbeats 4000000 in
theorem wX0_get (g : bGh) (w : bWl) (a0 : Nat) (x1 : Int32) {r : Int64} (hf : fX0_get w a0 x1 = some r) : bM g mdX0_get w [.ref a0, .int x1] (q_ (eJ r) w) := by
  unfold fX0_get at hf
  change bG _ _ 0 [some (.ref a0), some (.int x1)] []
  refine g_aload_n (pc' := 1) dX0_get_0 rfl rfl rfl ?_
  obtain ⟨v1, hv1, hf⟩ := Option.bind_eq_some_iff.mp hf
  refine g_inst1 (pc' := 4) dX0_get_1 rfl q968 hv1 ?_
  refine g_if_eq (tgt := 15) (pc' := 7) dX0_get_4 (by decide) rfl (fun h2 => ?_) (fun h2 => ?_)
  · replace hf := (if_pos h2).symm.trans hf
    refine g_aload_n (pc' := 16) dX0_get_15 rfl rfl rfl ?_
    obtain ⟨v3, hv3, hf⟩ := Option.bind_eq_some_iff.mp hf
    refine g_inst2 (pc' := 19) dX0_get_16 rfl q969 hv3 ?_
    refine g_if_eq (tgt := 32) (pc' := 22) dX0_get_19 (by decide) rfl (fun h4 => ?_) (fun h4 => ?_)
    · replace hf := (if_pos h4).symm.trans hf
      refine g_aload_n (pc' := 33) dX0_get_32 rfl rfl rfl ?_
      obtain ⟨h5, hf⟩ := vT_spec hf
      refine g_castA (pc' := 36) (t := 3) dX0_get_33 rfl q970 (by decide) h5 ?_
      refine g_iload_n (pc' := 37) dX0_get_36 rfl rfl rfl ?_
      obtain ⟨v6, hv6, hf⟩ := Option.bind_eq_some_iff.mp hf
      refine g_lald (pc' := 38) dX0_get_37 rfl hv6 ?_
      obtain rfl := Option.some.inj hf
      exact g_lret dX0_get_38 rfl ⟨rfl, rfl⟩
    · replace hf := (if_neg h4).symm.trans hf
      refine g_aload_n (pc' := 23) dX0_get_22 rfl rfl rfl ?_
      obtain ⟨h7, hf⟩ := vT_spec hf
      refine g_castA (pc' := 26) (t := 2) dX0_get_23 rfl q969 (by decide) h7 ?_
      refine g_iload_n (pc' := 27) dX0_get_26 rfl rfl rfl ?_
      obtain ⟨v8, hv8, hf⟩ := Option.bind_eq_some_iff.mp hf
      refine g_sald (pc' := 28) dX0_get_27 rfl hv8 ?_
      refine g_i2l (pc' := 29) dX0_get_28 rfl ?_
      refine g_goto (tgt := 38) dX0_get_29 (by decide) ?_
      obtain rfl := Option.some.inj hf
      exact g_lret dX0_get_38 rfl ⟨rfl, rfl⟩
  · replace hf := (if_neg h2).symm.trans hf
    refine g_aload_n (pc' := 8) dX0_get_7 rfl rfl rfl ?_
    obtain ⟨h9, hf⟩ := vT_spec hf
    refine g_castA (pc' := 11) (t := 1) dX0_get_8 rfl q968 (by decide) h9 ?_
    refine g_iload_n (pc' := 12) dX0_get_11 rfl rfl rfl ?_
    obtain ⟨v10, hv10, hf⟩ := Option.bind_eq_some_iff.mp hf
    refine g_bald (pc' := 13) dX0_get_12 rfl hv10 ?_
    refine g_i2l (pc' := 14) dX0_get_13 rfl ?_
    obtain rfl := Option.some.inj hf
    exact g_lret dX0_get_14 rfl ⟨rfl, rfl⟩
def mdX0_lays : bMD := (yX0_lays, cX0_lays, 5, (some FieldType.int), [(0, 77, 78, 1)], 7, 159)
theorem oX0_lays : bOkc mdX0_lays 1 := ⟨by decide +kernel, ⟨by decide +kernel, by decide +kernel⟩, by decide +kernel, q957⟩
def fX0_lays_l15 (b0 : Nat) (b2 : Nat) (rec : (Int32 × Int32 × bWl) → Option (Int32 × Int32 × bWl)) (s : Int32 × Int32 × bWl) : Option (Int32 × Int32 × bWl) :=
  Option.bind (fX0_length s.2.2 b2) fun q8 =>
  (if q8 ≤ s.2.1 then
  some (s.1, s.2.1, s.2.2)
else
  (if 8 ≤ s.2.1 then
  some (s.1, s.2.1, s.2.2)
else
  Option.bind (fX0_get s.2.2 b2 s.2.1) fun q11 =>
  Option.bind (fX0_in q11 0 9) fun q12 =>
  Option.bind (α := Int32 × bWl) ((if q12 = 0 then
  some (s.1, s.2.2)
else
  Option.bind (hR s.2.2 (okc 0) b0 0) fun v15 =>
  Option.bind (hR s.2.2 (okc 1) v15 5) fun v16 =>
  Option.bind (fX0_get s.2.2 b2 s.2.1) fun q17 =>
  Option.bind (sI s.2.2 0 v16 s.2.1 ((q17 : Int64).toInt32)) fun w18 =>
  some ((s.1 + 1), w18))) fun q13 =>
  rec (q13.1, (s.2.1 + 1), q13.2)))
def fX0_lays (w : bWl) (a0 : Nat) (x1 : Int32) : Option (Int32 × bWl) :=
  Option.bind (fX0_sheetAt w x1) fun q1 => sm q1.1 (fun v2 =>
  Option.bind (vK 0 q1.2 a0 (fX0_there q1.2 a0 x1)) fun q4 => sm q4.1 (fun v6 =>
  Option.bind (lpF (fX0_lays_l15 a0 v6) FU (0, 0, q4.2)) fun q19 =>
  some (q19.1, q19.2.2)) (fun a7 => vK 4 q4.2 a7 (Option.bind (vK 0 q4.2 a0 (fX0_finds q4.2 a0 a7)) fun q21 =>
  some (q21.1, q21.2)))) (fun a3 => vK 4 q1.2 a3 (Option.bind (vK 0 q1.2 a0 (fX0_finds q1.2 a0 a3)) fun q24 =>
  some (q24.1, q24.2)))
set_option maxHeartbeats 4000000 in
theorem wX0_lays_l15 {g : bGh} {n0 u0 : Nat} {Q : Outcome → bWl → Prop} (b0 : Nat) (b2 : Nat) : ∀ (n : Nat) (s : Int32 × Int32 × bWl) (r : (Int32 × Int32 × bWl)), lpF (fX0_lays_l15 b0 b2) n s = some r → bG (g, mdX0_lays, n0, u0, Q) r.2.2 76 [some (.ref b0), none, some (.ref b2), some (.int r.1), some (.int r.2.1)] [] → bG (g, mdX0_lays, n0, u0, Q) s.2.2 15 [some (.ref b0), none, some (.ref b2), some (.int s.1), some (.int s.2.1)] [] := by
  intro n
  induction n with
  | zero => intro s r hf; cases hf
  | succ n ih =>
    intro s r hf kx
    rw [lpF_s] at hf
    unfold fX0_lays_l15 at hf
    refine g_iload (pc' := 17) dX0_lays_15 rfl rfl ?_
    refine g_aload_n (pc' := 18) dX0_lays_17 rfl rfl rfl ?_
    obtain ⟨q8, hq8, hf⟩ := Option.bind_eq_some_iff.mp hf
    refine g_callS (pc' := 21) (as := [.ref b2]) (wX0_length g _ b2 hq8) oX0_length ⟨Nat.le_of_ble_eq_true rfl, Nat.le_of_ble_eq_true rfl⟩ dX0_lays_18 rfl q965 q966 q83 (Nat.le_of_ble_eq_true rfl) (Nat.le_of_ble_eq_true rfl) (g_rI ?_) g_nt rfl
    refine g_icmp_ge (tgt := 76) (pc' := 24) dX0_lays_21 (by decide) rfl (fun h9 => ?_) (fun h9 => ?_)
    · replace hf := (if_pos h9).symm.trans hf
      obtain rfl := Option.some.inj hf
      exact kx
    · replace hf := (if_neg h9).symm.trans hf
      refine g_iload (pc' := 26) dX0_lays_24 rfl rfl ?_
      refine g_bipush (pc' := 28) (v := 8) dX0_lays_26 rfl (by decide) ?_
      refine g_icmp_ge (tgt := 76) (pc' := 31) dX0_lays_28 (by decide) rfl (fun h10 => ?_) (fun h10 => ?_)
      · replace hf := (if_pos h10).symm.trans hf
        obtain rfl := Option.some.inj hf
        exact kx
      · replace hf := (if_neg h10).symm.trans hf
        refine g_aload_n (pc' := 32) dX0_lays_31 rfl rfl rfl ?_
        refine g_iload (pc' := 34) dX0_lays_32 rfl rfl ?_
        obtain ⟨q11, hq11, hf⟩ := Option.bind_eq_some_iff.mp hf
        refine g_callS (pc' := 37) (as := [.ref b2, .int s.2.1]) (wX0_get g _ b2 s.2.1 hq11) oX0_get ⟨Nat.le_of_ble_eq_true rfl, Nat.le_of_ble_eq_true rfl⟩ dX0_lays_34 rfl q971 q972 q83 (Nat.le_of_ble_eq_true rfl) (Nat.le_of_ble_eq_true rfl) (g_rJ ?_) g_nt rfl
        refine g_lconst (pc' := 38) (v := 0) dX0_lays_37 rfl (by decide) ?_
        refine g_ldc2 (pc' := 41) dX0_lays_38 rfl q215 ?_
        obtain ⟨q12, hq12, hf⟩ := Option.bind_eq_some_iff.mp hf
        refine g_callS (pc' := 44) (as := [.long q11, .long 0, .long 9]) (wX0_in g _ q11 0 9 hq12) oX0_in ⟨Nat.le_of_ble_eq_true rfl, Nat.le_of_ble_eq_true rfl⟩ dX0_lays_41 rfl q209 q210 q83 (Nat.le_of_ble_eq_true rfl) (Nat.le_of_ble_eq_true rfl) (g_rI ?_) g_nt rfl
        obtain ⟨q13, hqq13, hf⟩ := Option.bind_eq_some_iff.mp hf
        have hJq13 : bG (g, mdX0_lays, n0, u0, Q) q13.2 70 [some (.ref b0), none, some (.ref b2), some (.int q13.1), some (.int s.2.1)] [] := by
          refine g_iinc (pc' := 73) (v := s.2.1 + 1) (L' := [some (.ref b0), none, some (.ref b2), some (.int q13.1), some (.int (s.2.1 + 1))]) dX0_lays_70 rfl rfl rfl (Nat.le_of_ble_eq_true rfl) rfl rfl ?_
          refine g_goto (tgt := 15) dX0_lays_73 (by decide) ?_
          exact ih _ r hf kx
        replace hf := hqq13
        refine g_if_ne (tgt := 50) (pc' := 47) dX0_lays_44 (by decide) rfl (fun h14 => ?_) (fun h14 => ?_)
        · replace hf := (if_neg h14).symm.trans hf
          refine g_aload_n (pc' := 51) dX0_lays_50 rfl rfl rfl ?_
          obtain ⟨v15, hv15, hf⟩ := Option.bind_eq_some_iff.mp hf
          refine g_get (pc' := 54) (fok_0 0 (by decide)) (Or.inl rfl) dX0_lays_51 rfl q171 (hR_spec hv15) ?_
          obtain ⟨v16, hv16, hf⟩ := Option.bind_eq_some_iff.mp hf
          refine g_get (pc' := 57) (fok_1 5 (by decide)) (Or.inl rfl) dX0_lays_54 rfl q150 (hR_spec hv16) ?_
          refine g_iload (pc' := 59) dX0_lays_57 rfl rfl ?_
          refine g_aload_n (pc' := 60) dX0_lays_59 rfl rfl rfl ?_
          refine g_iload (pc' := 62) dX0_lays_60 rfl rfl ?_
          obtain ⟨q17, hq17, hf⟩ := Option.bind_eq_some_iff.mp hf
          refine g_callS (pc' := 65) (as := [.ref b2, .int s.2.1]) (wX0_get g _ b2 s.2.1 hq17) oX0_get ⟨Nat.le_of_ble_eq_true rfl, Nat.le_of_ble_eq_true rfl⟩ dX0_lays_62 rfl q971 q972 q83 (Nat.le_of_ble_eq_true rfl) (Nat.le_of_ble_eq_true rfl) (g_rJ ?_) g_nt rfl
          refine g_l2i (pc' := 66) dX0_lays_65 rfl ?_
          obtain ⟨w18, hw18, hf⟩ := Option.bind_eq_some_iff.mp hf
          refine g_iast (pc' := 67) dX0_lays_66 rfl hw18 ?_
          refine g_iinc (pc' := 70) (v := s.1 + 1) (L' := [some (.ref b0), none, some (.ref b2), some (.int (s.1 + 1)), some (.int s.2.1)]) dX0_lays_67 rfl rfl rfl (Nat.le_of_ble_eq_true rfl) rfl rfl ?_
          obtain rfl := Option.some.inj hf
          exact hJq13
        · replace hf := (if_pos h14).symm.trans hf
          refine g_goto (tgt := 70) dX0_lays_47 (by decide) ?_
          obtain rfl := Option.some.inj hf
          exact hJq13
set_option maxHeartbeats 4000000 in
theorem wX0_lays (g : bGh) (w : bWl) (a0 : Nat) (x1 : Int32) {r : (Int32 × bWl)} (hf : fX0_lays w a0 x1 = some r) : bM g mdX0_lays w [.ref a0, .int x1] (q_ (eI r.1) r.2) := by
  unfold fX0_lays at hf
  change bG _ _ 0 [some (.ref a0), some (.int x1)] []
  refine g_iload_n (pc' := 1) dX0_lays_0 rfl rfl rfl ?_
  obtain ⟨q1, hq1, hf⟩ := Option.bind_eq_some_iff.mp hf
  obtain ⟨zq1, wq1⟩ := q1
  cases zq1 with
  | inl v2 =>
    replace hf : _ = some _ := hf
    refine g_callS (pc' := 4) (as := [.int x1]) (wX0_sheetAt g _ x1 hq1) oX0_sheetAt ⟨Nat.le_of_ble_eq_true rfl, Nat.le_of_ble_eq_true rfl⟩ dX0_lays_1 rfl q958 q959 q83 (Nat.le_of_ble_eq_true rfl) (Nat.le_of_ble_eq_true rfl) (g_rV ?_) g_nt rfl
    refine g_aload_n (pc' := 5) dX0_lays_4 rfl rfl rfl ?_
    refine g_iload_n (pc' := 6) dX0_lays_5 rfl rfl rfl ?_
    obtain ⟨q4, hq4, hf⟩ := Option.bind_eq_some_iff.mp hf
    obtain ⟨h5, hq4⟩ := vK_spec hq4
    obtain ⟨zq4, wq4⟩ := q4
    cases zq4 with
    | inl v6 =>
      replace hf : _ = some _ := hf
      refine g_callV (pc' := 9) (mx := mdX0_there) (as := [.int x1]) (wX0_there g _ a0 x1 hq4) oX0_there ⟨Nat.le_of_ble_eq_true rfl, Nat.le_of_ble_eq_true rfl⟩ dX0_lays_6 rfl (ci := 0) rfl h5 ⟨by decide +kernel, by decide +kernel⟩ oX0_there.2.2.2 rfl q961 q963 qs28 qs28 q963 (Nat.le_of_ble_eq_true rfl) (Nat.le_of_ble_eq_true rfl) (g_rA ?_) g_nt rfl
      refine g_astore_n (pc' := 10) (L' := [some (.ref a0), some (.int x1), some (.ref v6)]) dX0_lays_9 rfl rfl (Nat.le_of_ble_eq_true rfl) rfl rfl ?_
      refine g_iconst (pc' := 11) (v := 0) dX0_lays_10 rfl (by decide) ?_
      refine g_istore_n (pc' := 12) (L' := [some (.ref a0), some (.int x1), some (.ref v6), some (.int 0)]) dX0_lays_11 rfl rfl (Nat.le_of_ble_eq_true rfl) rfl rfl ?_
      refine g_iconst (pc' := 13) (v := 0) dX0_lays_12 rfl (by decide) ?_
      refine g_istore (pc' := 15) (L' := [some (.ref a0), some (.int x1), some (.ref v6), some (.int 0), some (.int 0)]) dX0_lays_13 rfl (Nat.le_of_ble_eq_true rfl) rfl rfl ?_
      refine g_drop [1] (L' := [some (.ref a0), none, some (.ref v6), some (.int 0), some (.int 0)]) rfl ?_
      obtain ⟨q19, hq19, hf⟩ := Option.bind_eq_some_iff.mp hf
      refine wX0_lays_l15 a0 v6 FU (0, 0, wq4) q19 hq19 ?_
      refine g_iload_n (pc' := 77) dX0_lays_76 rfl rfl rfl ?_
      obtain rfl := Option.some.inj hf
      exact g_iret dX0_lays_77 rfl rfl ⟨rfl, rfl⟩
    | inr a7 =>
      replace hf : _ = some _ := hf
      refine g_callV (pc' := 9) (mx := mdX0_there) (as := [.int x1]) (wX0_there g _ a0 x1 hq4) oX0_there ⟨Nat.le_of_ble_eq_true rfl, Nat.le_of_ble_eq_true rfl⟩ dX0_lays_6 rfl (ci := 0) rfl h5 ⟨by decide +kernel, by decide +kernel⟩ oX0_there.2.2.2 rfl q961 q963 qs28 qs28 q963 (Nat.le_of_ble_eq_true rfl) (Nat.le_of_ble_eq_true rfl) g_nr (g_tt ?_) rfl
      obtain ⟨h20, hf⟩ := vK_spec hf
      refine t_catch (ci := 4) rfl (by decide) q204 rfl h20 ?_
      refine g_astore_n (pc' := 79) (L' := [some (.ref a0), some (.int x1), some (.ref a7)]) dX0_lays_78 rfl rfl (Nat.le_of_ble_eq_true rfl) rfl rfl ?_
      refine g_aload_n (pc' := 80) dX0_lays_79 rfl rfl rfl ?_
      refine g_aload_n (pc' := 81) dX0_lays_80 rfl rfl rfl ?_
      obtain ⟨q21, hq21, hf⟩ := Option.bind_eq_some_iff.mp hf
      obtain ⟨h22, hq21⟩ := vK_spec hq21
      refine g_callV (pc' := 84) (mx := mdX0_finds) (as := [.ref a7]) (wX0_finds g _ a0 a7 hq21) oX0_finds ⟨Nat.le_of_ble_eq_true rfl, Nat.le_of_ble_eq_true rfl⟩ dX0_lays_81 rfl (ci := 0) rfl h22 ⟨by decide +kernel, by decide +kernel⟩ oX0_finds.2.2.2 rfl q289 q291 qs1 qs1 q291 (Nat.le_of_ble_eq_true rfl) (Nat.le_of_ble_eq_true rfl) (g_rI ?_) g_nt rfl
      obtain rfl := Option.some.inj hf
      exact g_iret dX0_lays_84 rfl rfl ⟨rfl, rfl⟩
  | inr a3 =>
    replace hf : _ = some _ := hf
    refine g_callS (pc' := 4) (as := [.int x1]) (wX0_sheetAt g _ x1 hq1) oX0_sheetAt ⟨Nat.le_of_ble_eq_true rfl, Nat.le_of_ble_eq_true rfl⟩ dX0_lays_1 rfl q958 q959 q83 (Nat.le_of_ble_eq_true rfl) (Nat.le_of_ble_eq_true rfl) g_nr (g_tt ?_) rfl
    obtain ⟨h23, hf⟩ := vK_spec hf
    refine t_catch (ci := 4) rfl (by decide) q204 rfl h23 ?_
    refine g_astore_n (pc' := 79) (L' := [some (.ref a0), some (.int x1), some (.ref a3)]) dX0_lays_78 rfl rfl (Nat.le_of_ble_eq_true rfl) rfl rfl ?_
    refine g_aload_n (pc' := 80) dX0_lays_79 rfl rfl rfl ?_
    refine g_aload_n (pc' := 81) dX0_lays_80 rfl rfl rfl ?_
    obtain ⟨q24, hq24, hf⟩ := Option.bind_eq_some_iff.mp hf
    obtain ⟨h25, hq24⟩ := vK_spec hq24
    refine g_callV (pc' := 84) (mx := mdX0_finds) (as := [.ref a3]) (wX0_finds g _ a0 a3 hq24) oX0_finds ⟨Nat.le_of_ble_eq_true rfl, Nat.le_of_ble_eq_true rfl⟩ dX0_lays_81 rfl (ci := 0) rfl h25 ⟨by decide +kernel, by decide +kernel⟩ oX0_finds.2.2.2 rfl q289 q291 qs1 qs1 q291 (Nat.le_of_ble_eq_true rfl) (Nat.le_of_ble_eq_true rfl) (g_rI ?_) g_nt rfl
    obtain rfl := Option.some.inj hf
    exact g_iret dX0_lays_84 rfl rfl ⟨rfl, rfl⟩
def mdX0_put : bMD := (yX0_put, cX0_put, 4, none, [], 1, 12)
theorem oX0_put : bOkc mdX0_put 3 := ⟨by decide +kernel, ⟨by decide +kernel, by decide +kernel⟩, by decide +kernel, q980⟩
def fX0_put (w : bWl) (a0 : Nat) (x1 : Int32) (x2 : Int64) : Option bWl :=
  Option.bind (iT 1 w a0) fun v1 =>
  (if v1 = 0 then
  Option.bind (iT 2 w a0) fun v3 =>
  (if v3 = 0 then
  vT 3 w a0 (Option.bind (sJ w a0 x1 x2) fun w6 =>
  some w6)
else
  vT 2 w a0 (Option.bind (sI w 2 a0 x1 (vp_nar .short ((((x2 : Int64).toInt32) : Int32).toInt16.toInt32))) fun w8 =>
  some w8))
else
  vT 1 w a0 (Option.bind (sI w 1 a0 x1 (vp_nar .byte ((((x2 : Int64).toInt32) : Int32).toInt8.toInt32))) fun w10 =>
  some w10))
set_option maxHeartbeats 4000000 in
theorem wX0_put (g : bGh) (w : bWl) (a0 : Nat) (x1 : Int32) (x2 : Int64) {r : bWl} (hf : fX0_put w a0 x1 x2 = some r) : bM g mdX0_put w [.ref a0, .int x1, .long x2] (q_ none r) := by
  unfold fX0_put at hf
  change bG _ _ 0 [some (.ref a0), some (.int x1), some (.long x2), none] []
  refine g_aload_n (pc' := 1) dX0_put_0 rfl rfl rfl ?_
  obtain ⟨v1, hv1, hf⟩ := Option.bind_eq_some_iff.mp hf
  refine g_inst1 (pc' := 4) dX0_put_1 rfl q968 hv1 ?_
  refine g_if_eq (tgt := 19) (pc' := 7) dX0_put_4 (by decide) rfl (fun h2 => ?_) (fun h2 => ?_)
  · replace hf := (if_pos h2).symm.trans hf
    refine g_aload_n (pc' := 20) dX0_put_19 rfl rfl rfl ?_
    obtain ⟨v3, hv3, hf⟩ := Option.bind_eq_some_iff.mp hf
    refine g_inst2 (pc' := 23) dX0_put_20 rfl q969 hv3 ?_
    refine g_if_eq (tgt := 38) (pc' := 26) dX0_put_23 (by decide) rfl (fun h4 => ?_) (fun h4 => ?_)
    · replace hf := (if_pos h4).symm.trans hf
      refine g_aload_n (pc' := 39) dX0_put_38 rfl rfl rfl ?_
      obtain ⟨h5, hf⟩ := vT_spec hf
      refine g_castA (pc' := 42) (t := 3) dX0_put_39 rfl q970 (by decide) h5 ?_
      refine g_iload_n (pc' := 43) dX0_put_42 rfl rfl rfl ?_
      refine g_lload_n (pc' := 44) dX0_put_43 rfl rfl rfl ?_
      obtain ⟨w6, hw6, hf⟩ := Option.bind_eq_some_iff.mp hf
      refine g_last (pc' := 45) dX0_put_44 rfl hw6 ?_
      obtain rfl := Option.some.inj hf
      exact g_vret dX0_put_45 rfl ⟨rfl, rfl⟩
    · replace hf := (if_neg h4).symm.trans hf
      refine g_aload_n (pc' := 27) dX0_put_26 rfl rfl rfl ?_
      obtain ⟨h7, hf⟩ := vT_spec hf
      refine g_castA (pc' := 30) (t := 2) dX0_put_27 rfl q969 (by decide) h7 ?_
      refine g_iload_n (pc' := 31) dX0_put_30 rfl rfl rfl ?_
      refine g_lload_n (pc' := 32) dX0_put_31 rfl rfl rfl ?_
      refine g_l2i (pc' := 33) dX0_put_32 rfl ?_
      refine g_i2s (pc' := 34) dX0_put_33 rfl ?_
      obtain ⟨w8, hw8, hf⟩ := Option.bind_eq_some_iff.mp hf
      refine g_sast (pc' := 35) dX0_put_34 rfl hw8 ?_
      refine g_goto (tgt := 45) dX0_put_35 (by decide) ?_
      obtain rfl := Option.some.inj hf
      exact g_vret dX0_put_45 rfl ⟨rfl, rfl⟩
  · replace hf := (if_neg h2).symm.trans hf
    refine g_aload_n (pc' := 8) dX0_put_7 rfl rfl rfl ?_
    obtain ⟨h9, hf⟩ := vT_spec hf
    refine g_castA (pc' := 11) (t := 1) dX0_put_8 rfl q968 (by decide) h9 ?_
    refine g_iload_n (pc' := 12) dX0_put_11 rfl rfl rfl ?_
    refine g_lload_n (pc' := 13) dX0_put_12 rfl rfl rfl ?_
    refine g_l2i (pc' := 14) dX0_put_13 rfl ?_
    refine g_i2b (pc' := 15) dX0_put_14 rfl ?_
    obtain ⟨w10, hw10, hf⟩ := Option.bind_eq_some_iff.mp hf
    refine g_bast (pc' := 16) dX0_put_15 rfl hw10 ?_
    refine g_goto (tgt := 45) dX0_put_16 (by decide) ?_
    obtain rfl := Option.some.inj hf
    exact g_vret dX0_put_45 rfl ⟨rfl, rfl⟩
def mdX0_book : bMD := (yX0_book, cX0_book, 5, (some FieldType.int), [(0, 67, 68, 1)], 10, 233)
theorem oX0_book : bOkc mdX0_book 2 := ⟨by decide +kernel, ⟨by decide +kernel, by decide +kernel⟩, by decide +kernel, q977⟩
def fX0_book_l25 (b0 : Nat) (y2 : Int32) (b3 : Nat) (rec : (Int32 × bWl) → Option (Int32 × bWl)) (s : Int32 × bWl) : Option (Int32 × bWl) :=
  Option.bind (fX0_length s.2 b3) fun q14 =>
  (if q14 ≤ s.1 then
  some (s.1, s.2)
else
  Option.bind (hR s.2 (okc 0) b0 3) fun v16 =>
  Option.bind (hR s.2 (okc 1) v16 4) fun v17 =>
  Option.bind (aI s.2 0 v17 y2) fun v18 =>
  Option.bind (fX0_put s.2 b3 s.1 ((v18 : Int32).toInt64)) fun q19 =>
  Option.bind (hR q19 (okc 0) b0 3) fun v20 =>
  Option.bind (vK 1 q19 v20 (fX1_aDay q19 v20)) fun q21 =>
  rec ((s.1 + 1), q21))
def fX0_book (w : bWl) (a0 : Nat) (x1 : Int32) (x2 : Int32) : Option (Int32 × bWl) :=
  Option.bind (fX0_sheetAt w x1) fun q1 => sm q1.1 (fun v2 =>
  Option.bind (vK 0 q1.2 a0 (fX0_there q1.2 a0 x1)) fun q4 => sm q4.1 (fun v6 =>
  Option.bind (fX0_isHouse x2) fun q8 =>
  Option.bind (fX0_isTold q4.2 q8) fun q9 => sm q9.1 (fun v10 =>
  Option.bind (vK 0 q9.2 a0 (fX0_tried q9.2 a0)) fun q12 =>
  Option.bind (lpF (fX0_book_l25 a0 x2 v6) FU (0, q12.2)) fun q23 =>
  Option.bind (fX0_length q23.2 v6) fun q24 =>
  some (q24, q23.2)) (fun a11 => vK 4 q9.2 a11 (Option.bind (vK 0 q9.2 a0 (fX0_finds q9.2 a0 a11)) fun q26 =>
  some (q26.1, q26.2)))) (fun a7 => vK 4 q4.2 a7 (Option.bind (vK 0 q4.2 a0 (fX0_finds q4.2 a0 a7)) fun q29 =>
  some (q29.1, q29.2)))) (fun a3 => vK 4 q1.2 a3 (Option.bind (vK 0 q1.2 a0 (fX0_finds q1.2 a0 a3)) fun q32 =>
  some (q32.1, q32.2)))
set_option maxHeartbeats 4000000 in
theorem wX0_book_l25 {g : bGh} {n0 u0 : Nat} {Q : Outcome → bWl → Prop} (b0 : Nat) (y2 : Int32) (b3 : Nat) : ∀ (n : Nat) (s : Int32 × bWl) (r : (Int32 × bWl)), lpF (fX0_book_l25 b0 y2 b3) n s = some r → bG (g, mdX0_book, n0, u0, Q) r.2 63 [some (.ref b0), none, some (.int y2), some (.ref b3), some (.int r.1)] [] → bG (g, mdX0_book, n0, u0, Q) s.2 25 [some (.ref b0), none, some (.int y2), some (.ref b3), some (.int s.1)] [] := by
  intro n
  induction n with
  | zero => intro s r hf; cases hf
  | succ n ih =>
    intro s r hf kx
    rw [lpF_s] at hf
    unfold fX0_book_l25 at hf
    refine g_iload (pc' := 27) dX0_book_25 rfl rfl ?_
    refine g_aload_n (pc' := 28) dX0_book_27 rfl rfl rfl ?_
    obtain ⟨q14, hq14, hf⟩ := Option.bind_eq_some_iff.mp hf
    refine g_callS (pc' := 31) (as := [.ref b3]) (wX0_length g _ b3 hq14) oX0_length ⟨Nat.le_of_ble_eq_true rfl, Nat.le_of_ble_eq_true rfl⟩ dX0_book_28 rfl q965 q966 q83 (Nat.le_of_ble_eq_true rfl) (Nat.le_of_ble_eq_true rfl) (g_rI ?_) g_nt rfl
    refine g_icmp_ge (tgt := 63) (pc' := 34) dX0_book_31 (by decide) rfl (fun h15 => ?_) (fun h15 => ?_)
    · replace hf := (if_pos h15).symm.trans hf
      obtain rfl := Option.some.inj hf
      exact kx
    · replace hf := (if_neg h15).symm.trans hf
      refine g_aload_n (pc' := 35) dX0_book_34 rfl rfl rfl ?_
      refine g_iload (pc' := 37) dX0_book_35 rfl rfl ?_
      refine g_aload_n (pc' := 38) dX0_book_37 rfl rfl rfl ?_
      obtain ⟨v16, hv16, hf⟩ := Option.bind_eq_some_iff.mp hf
      refine g_get (pc' := 41) (fok_0 3 (by decide)) (Or.inl rfl) dX0_book_38 rfl q174 (hR_spec hv16) ?_
      obtain ⟨v17, hv17, hf⟩ := Option.bind_eq_some_iff.mp hf
      refine g_get (pc' := 44) (fok_1 4 (by decide)) (Or.inl rfl) dX0_book_41 rfl q147 (hR_spec hv17) ?_
      refine g_iload_n (pc' := 45) dX0_book_44 rfl rfl rfl ?_
      obtain ⟨v18, hv18, hf⟩ := Option.bind_eq_some_iff.mp hf
      refine g_iald (pc' := 46) dX0_book_45 rfl hv18 ?_
      refine g_i2l (pc' := 47) dX0_book_46 rfl ?_
      obtain ⟨q19, hq19, hf⟩ := Option.bind_eq_some_iff.mp hf
      refine g_callS (pc' := 50) (as := [.ref b3, .int s.1, .long ((v18 : Int32).toInt64)]) (wX0_put g _ b3 s.1 ((v18 : Int32).toInt64) hq19) oX0_put ⟨Nat.le_of_ble_eq_true rfl, Nat.le_of_ble_eq_true rfl⟩ dX0_book_47 rfl q978 q979 q83 (Nat.le_of_ble_eq_true rfl) (Nat.le_of_ble_eq_true rfl) (g_rV ?_) g_nt rfl
      refine g_aload_n (pc' := 51) dX0_book_50 rfl rfl rfl ?_
      obtain ⟨v20, hv20, hf⟩ := Option.bind_eq_some_iff.mp hf
      refine g_get (pc' := 54) (fok_0 3 (by decide)) (Or.inl rfl) dX0_book_51 rfl q174 (hR_spec hv20) ?_
      obtain ⟨q21, hq21, hf⟩ := Option.bind_eq_some_iff.mp hf
      obtain ⟨h22, hq21⟩ := vK_spec hq21
      refine g_callV (pc' := 57) (mx := mdX1_aDay) (as := []) (wX1_aDay g _ v20 hq21) oX1_aDay ⟨Nat.le_of_ble_eq_true rfl, Nat.le_of_ble_eq_true rfl⟩ dX0_book_54 rfl (ci := 1) rfl h22 ⟨by decide +kernel, by decide +kernel⟩ oX1_aDay.2.2.2 rfl q720 q644 q645 q645 q644 (Nat.le_of_ble_eq_true rfl) (Nat.le_of_ble_eq_true rfl) (g_rV ?_) g_nt rfl
      refine g_iinc (pc' := 60) (v := s.1 + 1) (L' := [some (.ref b0), none, some (.int y2), some (.ref b3), some (.int (s.1 + 1))]) dX0_book_57 rfl rfl rfl (Nat.le_of_ble_eq_true rfl) rfl rfl ?_
      refine g_goto (tgt := 25) dX0_book_60 (by decide) ?_
      exact ih _ r hf kx
set_option maxHeartbeats 4000000 in
theorem wX0_book (g : bGh) (w : bWl) (a0 : Nat) (x1 : Int32) (x2 : Int32) {r : (Int32 × bWl)} (hf : fX0_book w a0 x1 x2 = some r) : bM g mdX0_book w [.ref a0, .int x1, .int x2] (q_ (eI r.1) r.2) := by
  unfold fX0_book at hf
  change bG _ _ 0 [some (.ref a0), some (.int x1), some (.int x2)] []
  refine g_iload_n (pc' := 1) dX0_book_0 rfl rfl rfl ?_
  obtain ⟨q1, hq1, hf⟩ := Option.bind_eq_some_iff.mp hf
  obtain ⟨zq1, wq1⟩ := q1
  cases zq1 with
  | inl v2 =>
    replace hf : _ = some _ := hf
    refine g_callS (pc' := 4) (as := [.int x1]) (wX0_sheetAt g _ x1 hq1) oX0_sheetAt ⟨Nat.le_of_ble_eq_true rfl, Nat.le_of_ble_eq_true rfl⟩ dX0_book_1 rfl q958 q959 q83 (Nat.le_of_ble_eq_true rfl) (Nat.le_of_ble_eq_true rfl) (g_rV ?_) g_nt rfl
    refine g_aload_n (pc' := 5) dX0_book_4 rfl rfl rfl ?_
    refine g_iload_n (pc' := 6) dX0_book_5 rfl rfl rfl ?_
    obtain ⟨q4, hq4, hf⟩ := Option.bind_eq_some_iff.mp hf
    obtain ⟨h5, hq4⟩ := vK_spec hq4
    obtain ⟨zq4, wq4⟩ := q4
    cases zq4 with
    | inl v6 =>
      replace hf : _ = some _ := hf
      refine g_callV (pc' := 9) (mx := mdX0_there) (as := [.int x1]) (wX0_there g _ a0 x1 hq4) oX0_there ⟨Nat.le_of_ble_eq_true rfl, Nat.le_of_ble_eq_true rfl⟩ dX0_book_6 rfl (ci := 0) rfl h5 ⟨by decide +kernel, by decide +kernel⟩ oX0_there.2.2.2 rfl q961 q963 qs28 qs28 q963 (Nat.le_of_ble_eq_true rfl) (Nat.le_of_ble_eq_true rfl) (g_rA ?_) g_nt rfl
      refine g_astore_n (pc' := 10) (L' := [some (.ref a0), some (.int x1), some (.int x2), some (.ref v6)]) dX0_book_9 rfl rfl (Nat.le_of_ble_eq_true rfl) rfl rfl ?_
      refine g_iload_n (pc' := 11) dX0_book_10 rfl rfl rfl ?_
      obtain ⟨q8, hq8, hf⟩ := Option.bind_eq_some_iff.mp hf
      refine g_callS (pc' := 14) (as := [.int x2]) (wX0_isHouse g _ x2 hq8) oX0_isHouse ⟨Nat.le_of_ble_eq_true rfl, Nat.le_of_ble_eq_true rfl⟩ dX0_book_11 rfl q205 q206 q83 (Nat.le_of_ble_eq_true rfl) (Nat.le_of_ble_eq_true rfl) (g_rI ?_) g_nt rfl
      obtain ⟨q9, hq9, hf⟩ := Option.bind_eq_some_iff.mp hf
      obtain ⟨zq9, wq9⟩ := q9
      cases zq9 with
      | inl v10 =>
        replace hf : _ = some _ := hf
        refine g_callS (pc' := 17) (as := [.int q8]) (wX0_isTold g _ q8 hq9) oX0_isTold ⟨Nat.le_of_ble_eq_true rfl, Nat.le_of_ble_eq_true rfl⟩ dX0_book_14 rfl q216 q217 q83 (Nat.le_of_ble_eq_true rfl) (Nat.le_of_ble_eq_true rfl) (g_rV ?_) g_nt rfl
        refine g_aload_n (pc' := 18) dX0_book_17 rfl rfl rfl ?_
        obtain ⟨q12, hq12, hf⟩ := Option.bind_eq_some_iff.mp hf
        obtain ⟨h13, hq12⟩ := vK_spec hq12
        refine g_callV (pc' := 21) (mx := mdX0_tried) (as := []) (wX0_tried g _ a0 hq12) oX0_tried ⟨Nat.le_of_ble_eq_true rfl, Nat.le_of_ble_eq_true rfl⟩ dX0_book_18 rfl (ci := 0) rfl h13 ⟨by decide +kernel, by decide +kernel⟩ oX0_tried.2.2.2 rfl q702 q704 qs13 qs13 q704 (Nat.le_of_ble_eq_true rfl) (Nat.le_of_ble_eq_true rfl) (g_rA ?_) g_nt rfl
        refine g_pop (pc' := 22) dX0_book_21 rfl rfl ?_
        refine g_iconst (pc' := 23) (v := 0) dX0_book_22 rfl (by decide) ?_
        refine g_istore (pc' := 25) (L' := [some (.ref a0), some (.int x1), some (.int x2), some (.ref v6), some (.int 0)]) dX0_book_23 rfl (Nat.le_of_ble_eq_true rfl) rfl rfl ?_
        refine g_drop [1] (L' := [some (.ref a0), none, some (.int x2), some (.ref v6), some (.int 0)]) rfl ?_
        obtain ⟨q23, hq23, hf⟩ := Option.bind_eq_some_iff.mp hf
        refine wX0_book_l25 a0 x2 v6 FU (0, q12.2) q23 hq23 ?_
        refine g_aload_n (pc' := 64) dX0_book_63 rfl rfl rfl ?_
        obtain ⟨q24, hq24, hf⟩ := Option.bind_eq_some_iff.mp hf
        refine g_callS (pc' := 67) (as := [.ref v6]) (wX0_length g _ v6 hq24) oX0_length ⟨Nat.le_of_ble_eq_true rfl, Nat.le_of_ble_eq_true rfl⟩ dX0_book_64 rfl q965 q966 q83 (Nat.le_of_ble_eq_true rfl) (Nat.le_of_ble_eq_true rfl) (g_rI ?_) g_nt rfl
        obtain rfl := Option.some.inj hf
        exact g_iret dX0_book_67 rfl rfl ⟨rfl, rfl⟩
      | inr a11 =>
        replace hf : _ = some _ := hf
        refine g_callS (pc' := 17) (as := [.int q8]) (wX0_isTold g _ q8 hq9) oX0_isTold ⟨Nat.le_of_ble_eq_true rfl, Nat.le_of_ble_eq_true rfl⟩ dX0_book_14 rfl q216 q217 q83 (Nat.le_of_ble_eq_true rfl) (Nat.le_of_ble_eq_true rfl) g_nr (g_tt ?_) rfl
        obtain ⟨h25, hf⟩ := vK_spec hf
        refine t_catch (ci := 4) rfl (by decide) q204 rfl h25 ?_
        refine g_astore_n (pc' := 69) (L' := [some (.ref a0), some (.int x1), some (.int x2), some (.ref a11)]) dX0_book_68 rfl rfl (Nat.le_of_ble_eq_true rfl) rfl rfl ?_
        refine g_aload_n (pc' := 70) dX0_book_69 rfl rfl rfl ?_
        refine g_aload_n (pc' := 71) dX0_book_70 rfl rfl rfl ?_
        obtain ⟨q26, hq26, hf⟩ := Option.bind_eq_some_iff.mp hf
        obtain ⟨h27, hq26⟩ := vK_spec hq26
        refine g_callV (pc' := 74) (mx := mdX0_finds) (as := [.ref a11]) (wX0_finds g _ a0 a11 hq26) oX0_finds ⟨Nat.le_of_ble_eq_true rfl, Nat.le_of_ble_eq_true rfl⟩ dX0_book_71 rfl (ci := 0) rfl h27 ⟨by decide +kernel, by decide +kernel⟩ oX0_finds.2.2.2 rfl q289 q291 qs1 qs1 q291 (Nat.le_of_ble_eq_true rfl) (Nat.le_of_ble_eq_true rfl) (g_rI ?_) g_nt rfl
        obtain rfl := Option.some.inj hf
        exact g_iret dX0_book_74 rfl rfl ⟨rfl, rfl⟩
    | inr a7 =>
      replace hf : _ = some _ := hf
      refine g_callV (pc' := 9) (mx := mdX0_there) (as := [.int x1]) (wX0_there g _ a0 x1 hq4) oX0_there ⟨Nat.le_of_ble_eq_true rfl, Nat.le_of_ble_eq_true rfl⟩ dX0_book_6 rfl (ci := 0) rfl h5 ⟨by decide +kernel, by decide +kernel⟩ oX0_there.2.2.2 rfl q961 q963 qs28 qs28 q963 (Nat.le_of_ble_eq_true rfl) (Nat.le_of_ble_eq_true rfl) g_nr (g_tt ?_) rfl
      obtain ⟨h28, hf⟩ := vK_spec hf
      refine t_catch (ci := 4) rfl (by decide) q204 rfl h28 ?_
      refine g_astore_n (pc' := 69) (L' := [some (.ref a0), some (.int x1), some (.int x2), some (.ref a7)]) dX0_book_68 rfl rfl (Nat.le_of_ble_eq_true rfl) rfl rfl ?_
      refine g_aload_n (pc' := 70) dX0_book_69 rfl rfl rfl ?_
      refine g_aload_n (pc' := 71) dX0_book_70 rfl rfl rfl ?_
      obtain ⟨q29, hq29, hf⟩ := Option.bind_eq_some_iff.mp hf
      obtain ⟨h30, hq29⟩ := vK_spec hq29
      refine g_callV (pc' := 74) (mx := mdX0_finds) (as := [.ref a7]) (wX0_finds g _ a0 a7 hq29) oX0_finds ⟨Nat.le_of_ble_eq_true rfl, Nat.le_of_ble_eq_true rfl⟩ dX0_book_71 rfl (ci := 0) rfl h30 ⟨by decide +kernel, by decide +kernel⟩ oX0_finds.2.2.2 rfl q289 q291 qs1 qs1 q291 (Nat.le_of_ble_eq_true rfl) (Nat.le_of_ble_eq_true rfl) (g_rI ?_) g_nt rfl
      obtain rfl := Option.some.inj hf
      exact g_iret dX0_book_74 rfl rfl ⟨rfl, rfl⟩
  | inr a3 =>
    replace hf : _ = some _ := hf
    refine g_callS (pc' := 4) (as := [.int x1]) (wX0_sheetAt g _ x1 hq1) oX0_sheetAt ⟨Nat.le_of_ble_eq_true rfl, Nat.le_of_ble_eq_true rfl⟩ dX0_book_1 rfl q958 q959 q83 (Nat.le_of_ble_eq_true rfl) (Nat.le_of_ble_eq_true rfl) g_nr (g_tt ?_) rfl
    obtain ⟨h31, hf⟩ := vK_spec hf
    refine t_catch (ci := 4) rfl (by decide) q204 rfl h31 ?_
    refine g_astore_n (pc' := 69) (L' := [some (.ref a0), some (.int x1), some (.int x2), some (.ref a3)]) dX0_book_68 rfl rfl (Nat.le_of_ble_eq_true rfl) rfl rfl ?_
    refine g_aload_n (pc' := 70) dX0_book_69 rfl rfl rfl ?_
    refine g_aload_n (pc' := 71) dX0_book_70 rfl rfl rfl ?_
    obtain ⟨q32, hq32, hf⟩ := Option.bind_eq_some_iff.mp hf
    obtain ⟨h33, hq32⟩ := vK_spec hq32
    refine g_callV (pc' := 74) (mx := mdX0_finds) (as := [.ref a3]) (wX0_finds g _ a0 a3 hq32) oX0_finds ⟨Nat.le_of_ble_eq_true rfl, Nat.le_of_ble_eq_true rfl⟩ dX0_book_71 rfl (ci := 0) rfl h33 ⟨by decide +kernel, by decide +kernel⟩ oX0_finds.2.2.2 rfl q289 q291 qs1 qs1 q291 (Nat.le_of_ble_eq_true rfl) (Nat.le_of_ble_eq_true rfl) (g_rI ?_) g_nt rfl
    obtain rfl := Option.some.inj hf
    exact g_iret dX0_book_74 rfl rfl ⟨rfl, rfl⟩
def mdX0_isJust : bMD := (yX0_isJust, cX0_isJust, 4, (some FieldType.boolean), [], 10, 233)
theorem oX0_isJust : bOkc mdX0_isJust 2 := ⟨by decide +kernel, ⟨by decide +kernel, by decide +kernel⟩, by decide +kernel, q988⟩
def fX0_isJust_l2 (b0 : Nat) (b1 : Nat) (y2 : Int32) (rec : (Int32 × bWl) → Option ((Int32 × bWl) ⊕ (Int32 × bWl))) (s : Int32 × bWl) : Option ((Int32 × bWl) ⊕ (Int32 × bWl)) :=
  Option.bind (fX0_length s.2 b1) fun q1 =>
  (if q1 ≤ s.1 then
  some (Sum.inl (s.1, s.2))
else
  Option.bind (hR s.2 (okc 0) b0 3) fun v3 =>
  Option.bind (hR s.2 (okc 1) v3 4) fun v4 =>
  Option.bind (aI s.2 0 v4 y2) fun v5 =>
  Option.bind (fX0_get s.2 b1 s.1) fun q6 =>
  (if (lg_cmp ((v5 : Int32).toInt64) q6) = 0 then
  Option.bind (hR s.2 (okc 0) b0 3) fun v8 =>
  Option.bind (vK 1 s.2 v8 (fX1_aDay s.2 v8)) fun q9 =>
  rec ((s.1 + 1), q9)
else
  some (Sum.inr (0, s.2))))
def fX0_isJust (w : bWl) (a0 : Nat) (a1 : Nat) (x2 : Int32) : Option (Int32 × bWl) :=
  Option.bind (lpF (fX0_isJust_l2 a0 a1 x2) FU (0, w)) fun q11 => sx q11 (fun e12 =>
  some (1, e12.2)) (fun e12 => some e12)
set_option maxHeartbeats 4000000 in
theorem wX0_isJust_l2 {g : bGh} {n0 u0 : Nat} {Q : Outcome → bWl → Prop} (b0 : Nat) (b1 : Nat) (y2 : Int32) : ∀ (n : Nat) (s : Int32 × bWl) (r : ((Int32 × bWl) ⊕ (Int32 × bWl))), lpF (fX0_isJust_l2 b0 b1 y2) n s = some r → (∀ e, r = Sum.inl e → bG (g, mdX0_isJust, n0, u0, Q) e.2 44 [some (.ref b0), some (.ref b1), some (.int y2), some (.int e.1)] []) → (∀ e, r = Sum.inr e → Q (.returned (eI e.1)) e.2) → bG (g, mdX0_isJust, n0, u0, Q) s.2 2 [some (.ref b0), some (.ref b1), some (.int y2), some (.int s.1)] [] := by
  intro n
  induction n with
  | zero => intro s r hf; cases hf
  | succ n ih =>
    intro s r hf kx kr
    rw [lpF_s] at hf
    unfold fX0_isJust_l2 at hf
    refine g_iload_n (pc' := 3) dX0_isJust_2 rfl rfl rfl ?_
    refine g_aload_n (pc' := 4) dX0_isJust_3 rfl rfl rfl ?_
    obtain ⟨q1, hq1, hf⟩ := Option.bind_eq_some_iff.mp hf
    refine g_callS (pc' := 7) (as := [.ref b1]) (wX0_length g _ b1 hq1) oX0_length ⟨Nat.le_of_ble_eq_true rfl, Nat.le_of_ble_eq_true rfl⟩ dX0_isJust_4 rfl q965 q966 q83 (Nat.le_of_ble_eq_true rfl) (Nat.le_of_ble_eq_true rfl) (g_rI ?_) g_nt rfl
    refine g_icmp_ge (tgt := 44) (pc' := 10) dX0_isJust_7 (by decide) rfl (fun h2 => ?_) (fun h2 => ?_)
    · replace hf := (if_pos h2).symm.trans hf
      obtain rfl := Option.some.inj hf
      exact (kx _ rfl)
    · replace hf := (if_neg h2).symm.trans hf
      refine g_aload_n (pc' := 11) dX0_isJust_10 rfl rfl rfl ?_
      obtain ⟨v3, hv3, hf⟩ := Option.bind_eq_some_iff.mp hf
      refine g_get (pc' := 14) (fok_0 3 (by decide)) (Or.inl rfl) dX0_isJust_11 rfl q174 (hR_spec hv3) ?_
      obtain ⟨v4, hv4, hf⟩ := Option.bind_eq_some_iff.mp hf
      refine g_get (pc' := 17) (fok_1 4 (by decide)) (Or.inl rfl) dX0_isJust_14 rfl q147 (hR_spec hv4) ?_
      refine g_iload_n (pc' := 18) dX0_isJust_17 rfl rfl rfl ?_
      obtain ⟨v5, hv5, hf⟩ := Option.bind_eq_some_iff.mp hf
      refine g_iald (pc' := 19) dX0_isJust_18 rfl hv5 ?_
      refine g_i2l (pc' := 20) dX0_isJust_19 rfl ?_
      refine g_aload_n (pc' := 21) dX0_isJust_20 rfl rfl rfl ?_
      refine g_iload_n (pc' := 22) dX0_isJust_21 rfl rfl rfl ?_
      obtain ⟨q6, hq6, hf⟩ := Option.bind_eq_some_iff.mp hf
      refine g_callS (pc' := 25) (as := [.ref b1, .int s.1]) (wX0_get g _ b1 s.1 hq6) oX0_get ⟨Nat.le_of_ble_eq_true rfl, Nat.le_of_ble_eq_true rfl⟩ dX0_isJust_22 rfl q971 q972 q83 (Nat.le_of_ble_eq_true rfl) (Nat.le_of_ble_eq_true rfl) (g_rJ ?_) g_nt rfl
      refine g_lcmp (pc' := 26) dX0_isJust_25 rfl ?_
      refine g_if_eq (tgt := 31) (pc' := 29) dX0_isJust_26 (by decide) rfl (fun h7 => ?_) (fun h7 => ?_)
      · replace hf := (if_pos h7).symm.trans hf
        refine g_aload_n (pc' := 32) dX0_isJust_31 rfl rfl rfl ?_
        obtain ⟨v8, hv8, hf⟩ := Option.bind_eq_some_iff.mp hf
        refine g_get (pc' := 35) (fok_0 3 (by decide)) (Or.inl rfl) dX0_isJust_32 rfl q174 (hR_spec hv8) ?_
        obtain ⟨q9, hq9, hf⟩ := Option.bind_eq_some_iff.mp hf
        obtain ⟨h10, hq9⟩ := vK_spec hq9
        refine g_callV (pc' := 38) (mx := mdX1_aDay) (as := []) (wX1_aDay g _ v8 hq9) oX1_aDay ⟨Nat.le_of_ble_eq_true rfl, Nat.le_of_ble_eq_true rfl⟩ dX0_isJust_35 rfl (ci := 1) rfl h10 ⟨by decide +kernel, by decide +kernel⟩ oX1_aDay.2.2.2 rfl q720 q644 q645 q645 q644 (Nat.le_of_ble_eq_true rfl) (Nat.le_of_ble_eq_true rfl) (g_rV ?_) g_nt rfl
        refine g_iinc (pc' := 41) (v := s.1 + 1) (L' := [some (.ref b0), some (.ref b1), some (.int y2), some (.int (s.1 + 1))]) dX0_isJust_38 rfl rfl rfl (Nat.le_of_ble_eq_true rfl) rfl rfl ?_
        refine g_goto (tgt := 2) dX0_isJust_41 (by decide) ?_
        exact ih _ r hf kx kr
      · replace hf := (if_neg h7).symm.trans hf
        refine g_iconst (pc' := 30) (v := 0) dX0_isJust_29 rfl (by decide) ?_
        obtain rfl := Option.some.inj hf
        exact g_iret dX0_isJust_30 rfl (by decide +kernel) (kr _ rfl)
set_option maxHeartbeats 4000000 in
theorem wX0_isJust (g : bGh) (w : bWl) (a0 : Nat) (a1 : Nat) (x2 : Int32) {r : (Int32 × bWl)} (hf : fX0_isJust w a0 a1 x2 = some r) : bM g mdX0_isJust w [.ref a0, .ref a1, .int x2] (q_ (eI r.1) r.2) := by
  unfold fX0_isJust at hf
  change bG _ _ 0 [some (.ref a0), some (.ref a1), some (.int x2)] []
  refine g_iconst (pc' := 1) (v := 0) dX0_isJust_0 rfl (by decide) ?_
  refine g_istore_n (pc' := 2) (L' := [some (.ref a0), some (.ref a1), some (.int x2), some (.int 0)]) dX0_isJust_1 rfl rfl (Nat.le_of_ble_eq_true rfl) rfl rfl ?_
  obtain ⟨q11, hq11, hf⟩ := Option.bind_eq_some_iff.mp hf
  cases q11 with
  | inl e12 =>
    replace hf : _ = some _ := hf
    refine wX0_isJust_l2 a0 a1 x2 FU _ (Sum.inl e12) hq11 (fun e' he => ?_) (fun e' he => by cases he)
    cases he
    refine g_iconst (pc' := 45) (v := 1) dX0_isJust_44 rfl (by decide) ?_
    obtain rfl := Option.some.inj hf
    exact g_iret dX0_isJust_45 rfl (by decide +kernel) ⟨rfl, rfl⟩
  | inr e12 =>
    refine wX0_isJust_l2 a0 a1 x2 FU _ (Sum.inr e12) hq11 (fun e' he => by cases he) (fun e' he => ?_)
    cases he
    obtain rfl := Option.some.inj hf
    exact ⟨rfl, rfl⟩
def mdX0_read : bMD := (yX0_read, cX0_read, 7, (some FieldType.int), [(0, 107, 108, 1)], 11, 256)
theorem oX0_read : bOkc mdX0_read 2 := ⟨by decide +kernel, ⟨by decide +kernel, by decide +kernel⟩, by decide +kernel, q984⟩
def fX0_read_l38 (b0 : Nat) (y2 : Int32) (b3 : Nat) (y5 : Int32) (rec : (Int32 × Int32 × bWl) → Option (Int32 × Int32 × bWl)) (s : Int32 × Int32 × bWl) : Option (Int32 × Int32 × bWl) :=
  (if 6 ≤ s.2.1 then
  some (s.1, s.2.1, s.2.2)
else
  Option.bind (hR s.2.2 (okc 0) b0 0) fun v16 =>
  Option.bind (vK 1 s.2.2 v16 (fX1_rumour s.2.2 v16 y5)) fun q17 =>
  Option.bind (hR s.2.2 okRu q17 0) fun v19 =>
  Option.bind (aI s.2.2 0 v19 3) fun v20 =>
  (if v20 = y2 then
  Option.bind (vK 0 s.2.2 b0 (fX0_tried s.2.2 b0)) fun q22 =>
  Option.bind (vK 1 q22.2 q22.1 (fX1_turns q22.2 q22.1 y5 s.2.1)) fun q24 =>
  Option.bind (vK 0 q24 b0 (fX0_isJust q24 b0 b3 y2)) fun q26 =>
  Option.bind (α := Int32) ((if q26.1 = 0 then
  some 0
else
  some 1)) fun q28 =>
  rec ((s.1 + q28), (s.2.1 + 1), q26.2)
else
  some (s.1, s.2.1, s.2.2)))
def fX0_read_l23 (b0 : Nat) (y2 : Int32) (b3 : Nat) (rec : (Int32 × Int32 × bWl) → Option (Int32 × Int32 × bWl)) (s : Int32 × Int32 × bWl) : Option (Int32 × Int32 × bWl) :=
  Option.bind (hR s.2.2 (okc 0) b0 0) fun v12 =>
  Option.bind (hI s.2.2 (okc 1) v12 2) fun v13 =>
  (if v13 ≤ s.2.1 then
  some (s.1, s.2.1, s.2.2)
else
  Option.bind (lpF (fX0_read_l38 b0 y2 b3 s.2.1) FU (s.1, 0, s.2.2)) fun q30 =>
  rec (q30.1, (s.2.1 + 1), q30.2.2))
def fX0_read (w : bWl) (a0 : Nat) (x1 : Int32) (x2 : Int32) : Option (Int32 × bWl) :=
  Option.bind (fX0_sheetAt w x1) fun q1 => sm q1.1 (fun v2 =>
  Option.bind (vK 0 q1.2 a0 (fX0_there q1.2 a0 x1)) fun q4 => sm q4.1 (fun v6 =>
  Option.bind (fX0_isHouse x2) fun q8 =>
  Option.bind (fX0_isTold q4.2 q8) fun q9 => sm q9.1 (fun v10 =>
  Option.bind (lpF (fX0_read_l23 a0 x2 v6) FU (0, 0, q9.2)) fun q31 =>
  some (q31.1, q31.2.2)) (fun a11 => vK 4 q9.2 a11 (Option.bind (vK 0 q9.2 a0 (fX0_finds q9.2 a0 a11)) fun q33 =>
  some (q33.1, q33.2)))) (fun a7 => vK 4 q4.2 a7 (Option.bind (vK 0 q4.2 a0 (fX0_finds q4.2 a0 a7)) fun q36 =>
  some (q36.1, q36.2)))) (fun a3 => vK 4 q1.2 a3 (Option.bind (vK 0 q1.2 a0 (fX0_finds q1.2 a0 a3)) fun q39 =>
  some (q39.1, q39.2)))
set_option maxHeartbeats 4000000 in
theorem wX0_read_l38 {g : bGh} {n0 u0 : Nat} {Q : Outcome → bWl → Prop} (b0 : Nat) (y2 : Int32) (b3 : Nat) (y5 : Int32) : ∀ (n : Nat) (s : Int32 × Int32 × bWl) (r : (Int32 × Int32 × bWl)), lpF (fX0_read_l38 b0 y2 b3 y5) n s = some r → bG (g, mdX0_read, n0, u0, Q) r.2.2 99 [some (.ref b0), none, some (.int y2), some (.ref b3), some (.int r.1), some (.int y5), some (.int r.2.1)] [] → bG (g, mdX0_read, n0, u0, Q) s.2.2 38 [some (.ref b0), none, some (.int y2), some (.ref b3), some (.int s.1), some (.int y5), some (.int s.2.1)] [] := by
  intro n
  induction n with
  | zero => intro s r hf; cases hf
  | succ n ih =>
    intro s r hf kx
    rw [lpF_s] at hf
    unfold fX0_read_l38 at hf
    refine g_iload (pc' := 40) dX0_read_38 rfl rfl ?_
    refine g_bipush (pc' := 42) (v := 6) dX0_read_40 rfl (by decide) ?_
    refine g_icmp_ge (tgt := 99) (pc' := 45) dX0_read_42 (by decide) rfl (fun h15 => ?_) (fun h15 => ?_)
    · replace hf := (if_pos h15).symm.trans hf
      obtain rfl := Option.some.inj hf
      exact kx
    · replace hf := (if_neg h15).symm.trans hf
      refine g_aload_n (pc' := 46) dX0_read_45 rfl rfl rfl ?_
      obtain ⟨v16, hv16, hf⟩ := Option.bind_eq_some_iff.mp hf
      refine g_get (pc' := 49) (fok_0 0 (by decide)) (Or.inl rfl) dX0_read_46 rfl q171 (hR_spec hv16) ?_
      refine g_iload (pc' := 51) dX0_read_49 rfl rfl ?_
      obtain ⟨q17, hq17, hf⟩ := Option.bind_eq_some_iff.mp hf
      obtain ⟨h18, hq17⟩ := vK_spec hq17
      refine g_callV (pc' := 54) (mx := mdX1_rumour) (as := [.int y5]) (wX1_rumour g _ v16 y5 hq17) oX1_rumour ⟨Nat.le_of_ble_eq_true rfl, Nat.le_of_ble_eq_true rfl⟩ dX0_read_51 rfl (ci := 1) rfl h18 ⟨by decide +kernel, by decide +kernel⟩ oX1_rumour.2.2.2 rfl q316 q308 q309 q309 q308 (Nat.le_of_ble_eq_true rfl) (Nat.le_of_ble_eq_true rfl) (g_rA ?_) g_nt rfl
      obtain ⟨v19, hv19, hf⟩ := Option.bind_eq_some_iff.mp hf
      refine g_get (pc' := 57) fok_Ru (Or.inl rfl) dX0_read_54 rfl q384 (hR_spec hv19) ?_
      refine g_iconst (pc' := 58) (v := 3) dX0_read_57 rfl (by decide) ?_
      obtain ⟨v20, hv20, hf⟩ := Option.bind_eq_some_iff.mp hf
      refine g_iald (pc' := 59) dX0_read_58 rfl hv20 ?_
      refine g_iload_n (pc' := 60) dX0_read_59 rfl rfl rfl ?_
      refine g_icmp_ne (tgt := 99) (pc' := 63) dX0_read_60 (by decide) rfl (fun h21 => ?_) (fun h21 => ?_)
      · replace hf := (if_neg h21).symm.trans hf
        obtain rfl := Option.some.inj hf
        exact kx
      · replace hf := (if_pos h21).symm.trans hf
        refine g_aload_n (pc' := 64) dX0_read_63 rfl rfl rfl ?_
        obtain ⟨q22, hq22, hf⟩ := Option.bind_eq_some_iff.mp hf
        obtain ⟨h23, hq22⟩ := vK_spec hq22
        refine g_callV (pc' := 67) (mx := mdX0_tried) (as := []) (wX0_tried g _ b0 hq22) oX0_tried ⟨Nat.le_of_ble_eq_true rfl, Nat.le_of_ble_eq_true rfl⟩ dX0_read_64 rfl (ci := 0) rfl h23 ⟨by decide +kernel, by decide +kernel⟩ oX0_tried.2.2.2 rfl q702 q704 qs13 qs13 q704 (Nat.le_of_ble_eq_true rfl) (Nat.le_of_ble_eq_true rfl) (g_rA ?_) g_nt rfl
        refine g_iload (pc' := 69) dX0_read_67 rfl rfl ?_
        refine g_iload (pc' := 71) dX0_read_69 rfl rfl ?_
        obtain ⟨q24, hq24, hf⟩ := Option.bind_eq_some_iff.mp hf
        obtain ⟨h25, hq24⟩ := vK_spec hq24
        refine g_callV (pc' := 74) (mx := mdX1_turns) (as := [.int y5, .int s.2.1]) (wX1_turns g _ q22.1 y5 s.2.1 hq24) oX1_turns ⟨Nat.le_of_ble_eq_true rfl, Nat.le_of_ble_eq_true rfl⟩ dX0_read_71 rfl (ci := 1) rfl h25 ⟨by decide +kernel, by decide +kernel⟩ oX1_turns.2.2.2 rfl q507 q508 q509 q509 q508 (Nat.le_of_ble_eq_true rfl) (Nat.le_of_ble_eq_true rfl) (g_rV ?_) g_nt rfl
        refine g_iload (pc' := 76) dX0_read_74 rfl rfl ?_
        refine g_aload_n (pc' := 77) dX0_read_76 rfl rfl rfl ?_
        refine g_aload_n (pc' := 78) dX0_read_77 rfl rfl rfl ?_
        refine g_iload_n (pc' := 79) dX0_read_78 rfl rfl rfl ?_
        obtain ⟨q26, hq26, hf⟩ := Option.bind_eq_some_iff.mp hf
        obtain ⟨h27, hq26⟩ := vK_spec hq26
        refine g_callV (pc' := 82) (mx := mdX0_isJust) (as := [.ref b3, .int y2]) (wX0_isJust g _ b0 b3 y2 hq26) oX0_isJust ⟨Nat.le_of_ble_eq_true rfl, Nat.le_of_ble_eq_true rfl⟩ dX0_read_79 rfl (ci := 0) rfl h27 ⟨by decide +kernel, by decide +kernel⟩ oX0_isJust.2.2.2 rfl q985 q987 qs29 qs29 q987 (Nat.le_of_ble_eq_true rfl) (Nat.le_of_ble_eq_true rfl) (g_rI ?_) g_nt rfl
        obtain ⟨q28, hqq28, hf⟩ := Option.bind_eq_some_iff.mp hf
        have hJq28 : bG (g, mdX0_read, n0, u0, Q) q26.2 90 [some (.ref b0), none, some (.int y2), some (.ref b3), none, some (.int y5), some (.int s.2.1)] [.int q28, .int s.1] := by
          refine g_iadd (pc' := 91) dX0_read_90 rfl ?_
          refine g_istore (pc' := 93) (L' := [some (.ref b0), none, some (.int y2), some (.ref b3), some (.int (s.1 + q28)), some (.int y5), some (.int s.2.1)]) dX0_read_91 rfl (Nat.le_of_ble_eq_true rfl) rfl rfl ?_
          refine g_iinc (pc' := 96) (v := s.2.1 + 1) (L' := [some (.ref b0), none, some (.int y2), some (.ref b3), some (.int (s.1 + q28)), some (.int y5), some (.int (s.2.1 + 1))]) dX0_read_93 rfl rfl rfl (Nat.le_of_ble_eq_true rfl) rfl rfl ?_
          refine g_goto (tgt := 38) dX0_read_96 (by decide) ?_
          exact ih _ r hf kx
        replace hf := hqq28
        refine g_if_eq (tgt := 89) (pc' := 85) dX0_read_82 (by decide) rfl (fun h29 => ?_) (fun h29 => ?_)
        · replace hf := (if_pos h29).symm.trans hf
          refine g_iconst (pc' := 90) (v := 0) dX0_read_89 rfl (by decide) ?_
          obtain rfl := Option.some.inj hf
          refine g_drop [4] (L' := [some (.ref b0), none, some (.int y2), some (.ref b3), none, some (.int y5), some (.int s.2.1)]) rfl ?_
          exact hJq28
        · replace hf := (if_neg h29).symm.trans hf
          refine g_iconst (pc' := 86) (v := 1) dX0_read_85 rfl (by decide) ?_
          refine g_goto (tgt := 90) dX0_read_86 (by decide) ?_
          obtain rfl := Option.some.inj hf
          refine g_drop [4] (L' := [some (.ref b0), none, some (.int y2), some (.ref b3), none, some (.int y5), some (.int s.2.1)]) rfl ?_
          exact hJq28
set_option maxHeartbeats 4000000 in
theorem wX0_read_l23 {g : bGh} {n0 u0 : Nat} {Q : Outcome → bWl → Prop} (b0 : Nat) (y2 : Int32) (b3 : Nat) : ∀ (n : Nat) (s : Int32 × Int32 × bWl) (r : (Int32 × Int32 × bWl)), lpF (fX0_read_l23 b0 y2 b3) n s = some r → bG (g, mdX0_read, n0, u0, Q) r.2.2 105 [some (.ref b0), none, some (.int y2), some (.ref b3), some (.int r.1), some (.int r.2.1)] [] → bG (g, mdX0_read, n0, u0, Q) s.2.2 23 [some (.ref b0), none, some (.int y2), some (.ref b3), some (.int s.1), some (.int s.2.1)] [] := by
  intro n
  induction n with
  | zero => intro s r hf; cases hf
  | succ n ih =>
    intro s r hf kx
    rw [lpF_s] at hf
    unfold fX0_read_l23 at hf
    refine g_iload (pc' := 25) dX0_read_23 rfl rfl ?_
    refine g_aload_n (pc' := 26) dX0_read_25 rfl rfl rfl ?_
    obtain ⟨v12, hv12, hf⟩ := Option.bind_eq_some_iff.mp hf
    refine g_get (pc' := 29) (fok_0 0 (by decide)) (Or.inl rfl) dX0_read_26 rfl q171 (hR_spec hv12) ?_
    obtain ⟨v13, hv13, hf⟩ := Option.bind_eq_some_iff.mp hf
    refine g_get (pc' := 32) (fok_1 2 (by decide)) (Or.inl rfl) dX0_read_29 rfl q141 (hI_spec hv13) ?_
    refine g_icmp_ge (tgt := 105) (pc' := 35) dX0_read_32 (by decide) rfl (fun h14 => ?_) (fun h14 => ?_)
    · replace hf := (if_pos h14).symm.trans hf
      obtain rfl := Option.some.inj hf
      exact kx
    · replace hf := (if_neg h14).symm.trans hf
      refine g_iconst (pc' := 36) (v := 0) dX0_read_35 rfl (by decide) ?_
      refine g_istore (pc' := 38) (L' := [some (.ref b0), none, some (.int y2), some (.ref b3), some (.int s.1), some (.int s.2.1), some (.int 0)]) dX0_read_36 rfl (Nat.le_of_ble_eq_true rfl) rfl rfl ?_
      obtain ⟨q30, hq30, hf⟩ := Option.bind_eq_some_iff.mp hf
      refine wX0_read_l38 b0 y2 b3 s.2.1 FU (s.1, 0, s.2.2) q30 hq30 ?_
      refine g_iinc (pc' := 102) (v := s.2.1 + 1) (L' := [some (.ref b0), none, some (.int y2), some (.ref b3), some (.int q30.1), some (.int (s.2.1 + 1)), some (.int q30.2.1)]) dX0_read_99 rfl rfl rfl (Nat.le_of_ble_eq_true rfl) rfl rfl ?_
      refine g_goto (tgt := 23) dX0_read_102 (by decide) ?_
      refine g_drop [6] (L' := [some (.ref b0), none, some (.int y2), some (.ref b3), some (.int q30.1), some (.int (s.2.1 + 1)), none]) rfl ?_
      refine g_cut (L := [some (.ref b0), none, some (.int y2), some (.ref b3), some (.int q30.1), some (.int (s.2.1 + 1))]) 1 rfl ?_
      exact ih _ r hf kx
set_option maxHeartbeats 4000000 in
theorem wX0_read (g : bGh) (w : bWl) (a0 : Nat) (x1 : Int32) (x2 : Int32) {r : (Int32 × bWl)} (hf : fX0_read w a0 x1 x2 = some r) : bM g mdX0_read w [.ref a0, .int x1, .int x2] (q_ (eI r.1) r.2) := by
  unfold fX0_read at hf
  change bG _ _ 0 [some (.ref a0), some (.int x1), some (.int x2)] []
  refine g_iload_n (pc' := 1) dX0_read_0 rfl rfl rfl ?_
  obtain ⟨q1, hq1, hf⟩ := Option.bind_eq_some_iff.mp hf
  obtain ⟨zq1, wq1⟩ := q1
  cases zq1 with
  | inl v2 =>
    replace hf : _ = some _ := hf
    refine g_callS (pc' := 4) (as := [.int x1]) (wX0_sheetAt g _ x1 hq1) oX0_sheetAt ⟨Nat.le_of_ble_eq_true rfl, Nat.le_of_ble_eq_true rfl⟩ dX0_read_1 rfl q958 q959 q83 (Nat.le_of_ble_eq_true rfl) (Nat.le_of_ble_eq_true rfl) (g_rV ?_) g_nt rfl
    refine g_aload_n (pc' := 5) dX0_read_4 rfl rfl rfl ?_
    refine g_iload_n (pc' := 6) dX0_read_5 rfl rfl rfl ?_
    obtain ⟨q4, hq4, hf⟩ := Option.bind_eq_some_iff.mp hf
    obtain ⟨h5, hq4⟩ := vK_spec hq4
    obtain ⟨zq4, wq4⟩ := q4
    cases zq4 with
    | inl v6 =>
      replace hf : _ = some _ := hf
      refine g_callV (pc' := 9) (mx := mdX0_there) (as := [.int x1]) (wX0_there g _ a0 x1 hq4) oX0_there ⟨Nat.le_of_ble_eq_true rfl, Nat.le_of_ble_eq_true rfl⟩ dX0_read_6 rfl (ci := 0) rfl h5 ⟨by decide +kernel, by decide +kernel⟩ oX0_there.2.2.2 rfl q961 q963 qs28 qs28 q963 (Nat.le_of_ble_eq_true rfl) (Nat.le_of_ble_eq_true rfl) (g_rA ?_) g_nt rfl
      refine g_astore_n (pc' := 10) (L' := [some (.ref a0), some (.int x1), some (.int x2), some (.ref v6)]) dX0_read_9 rfl rfl (Nat.le_of_ble_eq_true rfl) rfl rfl ?_
      refine g_iload_n (pc' := 11) dX0_read_10 rfl rfl rfl ?_
      obtain ⟨q8, hq8, hf⟩ := Option.bind_eq_some_iff.mp hf
      refine g_callS (pc' := 14) (as := [.int x2]) (wX0_isHouse g _ x2 hq8) oX0_isHouse ⟨Nat.le_of_ble_eq_true rfl, Nat.le_of_ble_eq_true rfl⟩ dX0_read_11 rfl q205 q206 q83 (Nat.le_of_ble_eq_true rfl) (Nat.le_of_ble_eq_true rfl) (g_rI ?_) g_nt rfl
      obtain ⟨q9, hq9, hf⟩ := Option.bind_eq_some_iff.mp hf
      obtain ⟨zq9, wq9⟩ := q9
      cases zq9 with
      | inl v10 =>
        replace hf : _ = some _ := hf
        refine g_callS (pc' := 17) (as := [.int q8]) (wX0_isTold g _ q8 hq9) oX0_isTold ⟨Nat.le_of_ble_eq_true rfl, Nat.le_of_ble_eq_true rfl⟩ dX0_read_14 rfl q216 q217 q83 (Nat.le_of_ble_eq_true rfl) (Nat.le_of_ble_eq_true rfl) (g_rV ?_) g_nt rfl
        refine g_iconst (pc' := 18) (v := 0) dX0_read_17 rfl (by decide) ?_
        refine g_istore (pc' := 20) (L' := [some (.ref a0), some (.int x1), some (.int x2), some (.ref v6), some (.int 0)]) dX0_read_18 rfl (Nat.le_of_ble_eq_true rfl) rfl rfl ?_
        refine g_iconst (pc' := 21) (v := 0) dX0_read_20 rfl (by decide) ?_
        refine g_istore (pc' := 23) (L' := [some (.ref a0), some (.int x1), some (.int x2), some (.ref v6), some (.int 0), some (.int 0)]) dX0_read_21 rfl (Nat.le_of_ble_eq_true rfl) rfl rfl ?_
        refine g_drop [1] (L' := [some (.ref a0), none, some (.int x2), some (.ref v6), some (.int 0), some (.int 0)]) rfl ?_
        obtain ⟨q31, hq31, hf⟩ := Option.bind_eq_some_iff.mp hf
        refine wX0_read_l23 a0 x2 v6 FU (0, 0, wq9) q31 hq31 ?_
        refine g_iload (pc' := 107) dX0_read_105 rfl rfl ?_
        obtain rfl := Option.some.inj hf
        exact g_iret dX0_read_107 rfl rfl ⟨rfl, rfl⟩
      | inr a11 =>
        replace hf : _ = some _ := hf
        refine g_callS (pc' := 17) (as := [.int q8]) (wX0_isTold g _ q8 hq9) oX0_isTold ⟨Nat.le_of_ble_eq_true rfl, Nat.le_of_ble_eq_true rfl⟩ dX0_read_14 rfl q216 q217 q83 (Nat.le_of_ble_eq_true rfl) (Nat.le_of_ble_eq_true rfl) g_nr (g_tt ?_) rfl
        obtain ⟨h32, hf⟩ := vK_spec hf
        refine t_catch (ci := 4) rfl (by decide) q204 rfl h32 ?_
        refine g_astore_n (pc' := 109) (L' := [some (.ref a0), some (.int x1), some (.int x2), some (.ref a11)]) dX0_read_108 rfl rfl (Nat.le_of_ble_eq_true rfl) rfl rfl ?_
        refine g_aload_n (pc' := 110) dX0_read_109 rfl rfl rfl ?_
        refine g_aload_n (pc' := 111) dX0_read_110 rfl rfl rfl ?_
        obtain ⟨q33, hq33, hf⟩ := Option.bind_eq_some_iff.mp hf
        obtain ⟨h34, hq33⟩ := vK_spec hq33
        refine g_callV (pc' := 114) (mx := mdX0_finds) (as := [.ref a11]) (wX0_finds g _ a0 a11 hq33) oX0_finds ⟨Nat.le_of_ble_eq_true rfl, Nat.le_of_ble_eq_true rfl⟩ dX0_read_111 rfl (ci := 0) rfl h34 ⟨by decide +kernel, by decide +kernel⟩ oX0_finds.2.2.2 rfl q289 q291 qs1 qs1 q291 (Nat.le_of_ble_eq_true rfl) (Nat.le_of_ble_eq_true rfl) (g_rI ?_) g_nt rfl
        obtain rfl := Option.some.inj hf
        exact g_iret dX0_read_114 rfl rfl ⟨rfl, rfl⟩
    | inr a7 =>
      replace hf : _ = some _ := hf
      refine g_callV (pc' := 9) (mx := mdX0_there) (as := [.int x1]) (wX0_there g _ a0 x1 hq4) oX0_there ⟨Nat.le_of_ble_eq_true rfl, Nat.le_of_ble_eq_true rfl⟩ dX0_read_6 rfl (ci := 0) rfl h5 ⟨by decide +kernel, by decide +kernel⟩ oX0_there.2.2.2 rfl q961 q963 qs28 qs28 q963 (Nat.le_of_ble_eq_true rfl) (Nat.le_of_ble_eq_true rfl) g_nr (g_tt ?_) rfl
      obtain ⟨h35, hf⟩ := vK_spec hf
      refine t_catch (ci := 4) rfl (by decide) q204 rfl h35 ?_
      refine g_astore_n (pc' := 109) (L' := [some (.ref a0), some (.int x1), some (.int x2), some (.ref a7)]) dX0_read_108 rfl rfl (Nat.le_of_ble_eq_true rfl) rfl rfl ?_
      refine g_aload_n (pc' := 110) dX0_read_109 rfl rfl rfl ?_
      refine g_aload_n (pc' := 111) dX0_read_110 rfl rfl rfl ?_
      obtain ⟨q36, hq36, hf⟩ := Option.bind_eq_some_iff.mp hf
      obtain ⟨h37, hq36⟩ := vK_spec hq36
      refine g_callV (pc' := 114) (mx := mdX0_finds) (as := [.ref a7]) (wX0_finds g _ a0 a7 hq36) oX0_finds ⟨Nat.le_of_ble_eq_true rfl, Nat.le_of_ble_eq_true rfl⟩ dX0_read_111 rfl (ci := 0) rfl h37 ⟨by decide +kernel, by decide +kernel⟩ oX0_finds.2.2.2 rfl q289 q291 qs1 qs1 q291 (Nat.le_of_ble_eq_true rfl) (Nat.le_of_ble_eq_true rfl) (g_rI ?_) g_nt rfl
      obtain rfl := Option.some.inj hf
      exact g_iret dX0_read_114 rfl rfl ⟨rfl, rfl⟩
  | inr a3 =>
    replace hf : _ = some _ := hf
    refine g_callS (pc' := 4) (as := [.int x1]) (wX0_sheetAt g _ x1 hq1) oX0_sheetAt ⟨Nat.le_of_ble_eq_true rfl, Nat.le_of_ble_eq_true rfl⟩ dX0_read_1 rfl q958 q959 q83 (Nat.le_of_ble_eq_true rfl) (Nat.le_of_ble_eq_true rfl) g_nr (g_tt ?_) rfl
    obtain ⟨h38, hf⟩ := vK_spec hf
    refine t_catch (ci := 4) rfl (by decide) q204 rfl h38 ?_
    refine g_astore_n (pc' := 109) (L' := [some (.ref a0), some (.int x1), some (.int x2), some (.ref a3)]) dX0_read_108 rfl rfl (Nat.le_of_ble_eq_true rfl) rfl rfl ?_
    refine g_aload_n (pc' := 110) dX0_read_109 rfl rfl rfl ?_
    refine g_aload_n (pc' := 111) dX0_read_110 rfl rfl rfl ?_
    obtain ⟨q39, hq39, hf⟩ := Option.bind_eq_some_iff.mp hf
    obtain ⟨h40, hq39⟩ := vK_spec hq39
    refine g_callV (pc' := 114) (mx := mdX0_finds) (as := [.ref a3]) (wX0_finds g _ a0 a3 hq39) oX0_finds ⟨Nat.le_of_ble_eq_true rfl, Nat.le_of_ble_eq_true rfl⟩ dX0_read_111 rfl (ci := 0) rfl h40 ⟨by decide +kernel, by decide +kernel⟩ oX0_finds.2.2.2 rfl q289 q291 qs1 qs1 q291 (Nat.le_of_ble_eq_true rfl) (Nat.le_of_ble_eq_true rfl) (g_rI ?_) g_nt rfl
    obtain rfl := Option.some.inj hf
    exact g_iret dX0_read_114 rfl rfl ⟨rfl, rfl⟩
def mdX0_made : bMD := (yX0_made, cX0_made, 2, (some (FieldType.object "java/lang/Object")), [], 1, 12)
theorem oX0_made : bOkc mdX0_made 2 := ⟨by decide +kernel, ⟨by decide +kernel, by decide +kernel⟩, by decide +kernel, q995⟩
def fX0_made (w : bWl) (x0 : Int32) (x1 : Int32) : Option (Option Nat × bWl) :=
  (if x0 = 8 then
  Option.bind (nI0 w 1 x1) fun v2 =>
  some ((some v2.1), v2.2)
else
  (if x0 = 16 then
  Option.bind (nI0 w 2 x1) fun v4 =>
  some ((some v4.1), v4.2)
else
  (if x0 = 64 then
  Option.bind (nJ0 w x1) fun v6 =>
  some ((some v6.1), v6.2)
else
  some (none, w))))
set_option maxHeartbeats 4000000 in
theorem wX0_made (g : bGh) (w : bWl) (x0 : Int32) (x1 : Int32) {r : (Option Nat × bWl)} (hf : fX0_made w x0 x1 = some r) : bM g mdX0_made w [.int x0, .int x1] (q_ (eN r.1) r.2) := by
  unfold fX0_made at hf
  change bG _ _ 0 [some (.int x0), some (.int x1)] []
  refine g_iload_n (pc' := 1) dX0_made_0 rfl rfl rfl ?_
  by_cases h1 : x0 = 8
  · replace hf := (if_pos h1).symm.trans hf
    refine g_lookup (tgt := 36) (off := 35) dX0_made_1 (by decide) (by rw [h1]; first | done | rfl) (by decide) ?_
    refine g_iload_n (pc' := 37) dX0_made_36 rfl rfl rfl ?_
    obtain ⟨v2, hv2, hf⟩ := Option.bind_eq_some_iff.mp hf
    refine g_newB (pc' := 39) dX0_made_37 rfl hv2 q199 ?_
    obtain rfl := Option.some.inj hf
    exact g_aret dX0_made_39 rfl (Or.inl ⟨_, rfl⟩) (Or.inr ⟨_, rfl⟩) ⟨rfl, rfl⟩
  · replace hf := (if_neg h1).symm.trans hf
    by_cases h3 : x0 = 16
    · replace hf := (if_pos h3).symm.trans hf
      refine g_lookup (tgt := 40) (off := 39) dX0_made_1 (by decide) (by rw [h3]; first | done | rfl) (by decide) ?_
      refine g_iload_n (pc' := 41) dX0_made_40 rfl rfl rfl ?_
      obtain ⟨v4, hv4, hf⟩ := Option.bind_eq_some_iff.mp hf
      refine g_newS (pc' := 43) dX0_made_41 rfl hv4 q996 ?_
      obtain rfl := Option.some.inj hf
      exact g_aret dX0_made_43 rfl (Or.inl ⟨_, rfl⟩) (Or.inr ⟨_, rfl⟩) ⟨rfl, rfl⟩
    · replace hf := (if_neg h3).symm.trans hf
      by_cases h5 : x0 = 64
      · replace hf := (if_pos h5).symm.trans hf
        refine g_lookup (tgt := 44) (off := 43) dX0_made_1 (by decide) (by rw [h5]; first | done | rfl) (by decide) ?_
        refine g_iload_n (pc' := 45) dX0_made_44 rfl rfl rfl ?_
        obtain ⟨v6, hv6, hf⟩ := Option.bind_eq_some_iff.mp hf
        refine g_newJ (pc' := 47) dX0_made_45 rfl hv6 q997 ?_
        obtain rfl := Option.some.inj hf
        exact g_aret dX0_made_47 rfl (Or.inl ⟨_, rfl⟩) (Or.inr ⟨_, rfl⟩) ⟨rfl, rfl⟩
      · replace hf := (if_neg h5).symm.trans hf
        refine g_lookup (tgt := 48) (off := 47) dX0_made_1 (by decide) ((lv_osw h1 (a := 8) rfl).trans ((lv_osw h3 (a := 16) rfl).trans ((lv_osw h5 (a := 64) rfl).trans (rfl)))) (by decide) ?_
        refine g_null (pc' := 49) dX0_made_48 rfl ?_
        obtain rfl := Option.some.inj hf
        exact g_aret dX0_made_49 rfl (Or.inl ⟨_, rfl⟩) (Or.inl rfl) ⟨rfl, rfl⟩
def mdX0_sheet : bMD := (yX0_sheet, cX0_sheet, 5, (some FieldType.int), [(0, 87, 88, 1)], 7, 157)
theorem oX0_sheet : bOkc mdX0_sheet 3 := ⟨by decide +kernel, ⟨by decide +kernel, by decide +kernel⟩, by decide +kernel, q992⟩
def fX0_sheet (w : bWl) (a0 : Nat) (x1 : Int32) (x2 : Int32) (x3 : Int32) : Option (Int32 × bWl) :=
  Option.bind (fX0_sheetAt w x1) fun q1 => sm q1.1 (fun v2 =>
  Option.bind (α := Int32) ((if x2 = 0 then
  some 1
else
  (if x2 = 8 then
  some 1
else
  (if x2 = 16 then
  some 1
else
  (if x2 = 64 then
  some 1
else
  some 0))))) fun q4 =>
  Option.bind (fX0_need q1.2 q4 0) fun q9 => sm q9.1 (fun v10 =>
  Option.bind (α := Int32) ((if x3 < 0 then
  some 0
else
  some 1)) fun q12 =>
  Option.bind (fX0_need q9.2 q12 6) fun q14 => sm q14.1 (fun v15 =>
  Option.bind (α := Int32) ((if 40 < x3 then
  some 0
else
  some 1)) fun q17 =>
  Option.bind (fX0_need q14.2 q17 0) fun q19 => sm q19.1 (fun v20 =>
  Option.bind (hR q19.2 (okc 0) a0 7) fun v22 =>
  Option.bind (aR q19.2 v22 x1) fun v23 =>
  Option.bind (fX0_made q19.2 x2 x3) fun q24 => nz q24.1 (fun q24a =>
  Option.bind (hP q24.2 (okc 2) v23 0 (.ref q24a)) fun w25 =>
  (if x2 = 0 then
  some (0, w25)
else
  some (x3, w25))) (Option.bind (hP q24.2 (okc 2) v23 0 (.null)) fun w27 =>
  (if x2 = 0 then
  some (0, w27)
else
  some (x3, w27)))) (fun a21 => vK 4 q19.2 a21 (Option.bind (vK 0 q19.2 a0 (fX0_finds q19.2 a0 a21)) fun q31 =>
  some (q31.1, q31.2)))) (fun a16 => vK 4 q14.2 a16 (Option.bind (vK 0 q14.2 a0 (fX0_finds q14.2 a0 a16)) fun q34 =>
  some (q34.1, q34.2)))) (fun a11 => vK 4 q9.2 a11 (Option.bind (vK 0 q9.2 a0 (fX0_finds q9.2 a0 a11)) fun q37 =>
  some (q37.1, q37.2)))) (fun a3 => vK 4 q1.2 a3 (Option.bind (vK 0 q1.2 a0 (fX0_finds q1.2 a0 a3)) fun q40 =>
  some (q40.1, q40.2)))
set_option maxHeartbeats 4000000 in
theorem wX0_sheet (g : bGh) (w : bWl) (a0 : Nat) (x1 : Int32) (x2 : Int32) (x3 : Int32) {r : (Int32 × bWl)} (hf : fX0_sheet w a0 x1 x2 x3 = some r) : bM g mdX0_sheet w [.ref a0, .int x1, .int x2, .int x3] (q_ (eI r.1) r.2) := by
  unfold fX0_sheet at hf
  change bG _ _ 0 [some (.ref a0), some (.int x1), some (.int x2), some (.int x3)] []
  refine g_iload_n (pc' := 1) dX0_sheet_0 rfl rfl rfl ?_
  obtain ⟨q1, hq1, hf⟩ := Option.bind_eq_some_iff.mp hf
  obtain ⟨zq1, wq1⟩ := q1
  cases zq1 with
  | inl v2 =>
    replace hf : _ = some _ := hf
    refine g_callS (pc' := 4) (as := [.int x1]) (wX0_sheetAt g _ x1 hq1) oX0_sheetAt ⟨Nat.le_of_ble_eq_true rfl, Nat.le_of_ble_eq_true rfl⟩ dX0_sheet_1 rfl q958 q959 q83 (Nat.le_of_ble_eq_true rfl) (Nat.le_of_ble_eq_true rfl) (g_rV ?_) g_nt rfl
    refine g_iload_n (pc' := 5) dX0_sheet_4 rfl rfl rfl ?_
    obtain ⟨q4, hqq4, hf⟩ := Option.bind_eq_some_iff.mp hf
    have hJq4 : bG (g, mdX0_sheet, w.2.1, w.2.2.1, (q_ (eI r.1) r.2)) wq1 31 [some (.ref a0), some (.int x1), some (.int x2), some (.int x3)] [.int q4] := by
      refine g_iconst (pc' := 32) (v := 0) dX0_sheet_31 rfl (by decide) ?_
      obtain ⟨q9, hq9, hf⟩ := Option.bind_eq_some_iff.mp hf
      obtain ⟨zq9, wq9⟩ := q9
      cases zq9 with
      | inl v10 =>
        replace hf : _ = some _ := hf
        refine g_callS (pc' := 35) (as := [.int q4, .int 0]) (wX0_need g _ q4 0 hq9) oX0_need ⟨Nat.le_of_ble_eq_true rfl, Nat.le_of_ble_eq_true rfl⟩ dX0_sheet_32 rfl q219 q220 q83 (Nat.le_of_ble_eq_true rfl) (Nat.le_of_ble_eq_true rfl) (g_rV ?_) g_nt rfl
        refine g_iload_n (pc' := 36) dX0_sheet_35 rfl rfl rfl ?_
        obtain ⟨q12, hqq12, hf⟩ := Option.bind_eq_some_iff.mp hf
        have hJq12 : bG (g, mdX0_sheet, w.2.1, w.2.2.1, (q_ (eI r.1) r.2)) wq9 44 [some (.ref a0), some (.int x1), some (.int x2), some (.int x3)] [.int q12] := by
          refine g_bipush (pc' := 46) (v := 6) dX0_sheet_44 rfl (by decide) ?_
          obtain ⟨q14, hq14, hf⟩ := Option.bind_eq_some_iff.mp hf
          obtain ⟨zq14, wq14⟩ := q14
          cases zq14 with
          | inl v15 =>
            replace hf : _ = some _ := hf
            refine g_callS (pc' := 49) (as := [.int q12, .int 6]) (wX0_need g _ q12 6 hq14) oX0_need ⟨Nat.le_of_ble_eq_true rfl, Nat.le_of_ble_eq_true rfl⟩ dX0_sheet_46 rfl q219 q220 q83 (Nat.le_of_ble_eq_true rfl) (Nat.le_of_ble_eq_true rfl) (g_rV ?_) g_nt rfl
            refine g_iload_n (pc' := 50) dX0_sheet_49 rfl rfl rfl ?_
            refine g_bipush (pc' := 52) (v := 40) dX0_sheet_50 rfl (by decide) ?_
            obtain ⟨q17, hqq17, hf⟩ := Option.bind_eq_some_iff.mp hf
            have hJq17 : bG (g, mdX0_sheet, w.2.1, w.2.2.1, (q_ (eI r.1) r.2)) wq14 60 [some (.ref a0), some (.int x1), some (.int x2), some (.int x3)] [.int q17] := by
              refine g_iconst (pc' := 61) (v := 0) dX0_sheet_60 rfl (by decide) ?_
              obtain ⟨q19, hq19, hf⟩ := Option.bind_eq_some_iff.mp hf
              obtain ⟨zq19, wq19⟩ := q19
              cases zq19 with
              | inl v20 =>
                replace hf : _ = some _ := hf
                refine g_callS (pc' := 64) (as := [.int q17, .int 0]) (wX0_need g _ q17 0 hq19) oX0_need ⟨Nat.le_of_ble_eq_true rfl, Nat.le_of_ble_eq_true rfl⟩ dX0_sheet_61 rfl q219 q220 q83 (Nat.le_of_ble_eq_true rfl) (Nat.le_of_ble_eq_true rfl) (g_rV ?_) g_nt rfl
                refine g_aload_n (pc' := 65) dX0_sheet_64 rfl rfl rfl ?_
                obtain ⟨v22, hv22, hf⟩ := Option.bind_eq_some_iff.mp hf
                refine g_get (pc' := 68) (fok_0 7 (by decide)) (Or.inl rfl) dX0_sheet_65 rfl q178 (hR_spec hv22) ?_
                refine g_iload_n (pc' := 69) dX0_sheet_68 rfl rfl rfl ?_
                obtain ⟨v23, hv23, hf⟩ := Option.bind_eq_some_iff.mp hf
                refine g_aald (pc' := 70) dX0_sheet_69 rfl hv23 ?_
                refine g_iload_n (pc' := 71) dX0_sheet_70 rfl rfl rfl ?_
                refine g_iload_n (pc' := 72) dX0_sheet_71 rfl rfl rfl ?_
                obtain ⟨q24, hq24, hf⟩ := Option.bind_eq_some_iff.mp hf
                obtain ⟨z29, wz29⟩ := q24
                cases z29 with
                | some q24a =>
                  simp only [nz] at hf
                  refine g_callS (pc' := 75) (as := [.int x2, .int x3]) (wX0_made g _ x2 x3 hq24) oX0_made ⟨Nat.le_of_ble_eq_true rfl, Nat.le_of_ble_eq_true rfl⟩ dX0_sheet_72 rfl q993 q994 q83 (Nat.le_of_ble_eq_true rfl) (Nat.le_of_ble_eq_true rfl) (g_rA ?_) g_nt rfl
                  obtain ⟨w25, hw25, hf⟩ := Option.bind_eq_some_iff.mp hf
                  refine g_put (ty := (.object "java/lang/Object")) (pc' := 78) (fok_2 0 (by decide)) (Or.inl rfl) dX0_sheet_75 rfl q130 (by decide +kernel) rfl rfl hw25 ?_
                  refine g_iload_n (pc' := 79) dX0_sheet_78 rfl rfl rfl ?_
                  refine g_if_ne (tgt := 86) (pc' := 82) dX0_sheet_79 (by decide) rfl (fun h26 => ?_) (fun h26 => ?_)
                  · replace hf := (if_neg h26).symm.trans hf
                    refine g_iload_n (pc' := 87) dX0_sheet_86 rfl rfl rfl ?_
                    obtain rfl := Option.some.inj hf
                    exact g_iret dX0_sheet_87 rfl rfl ⟨rfl, rfl⟩
                  · replace hf := (if_pos h26).symm.trans hf
                    refine g_iconst (pc' := 83) (v := 0) dX0_sheet_82 rfl (by decide) ?_
                    refine g_goto (tgt := 87) dX0_sheet_83 (by decide) ?_
                    obtain rfl := Option.some.inj hf
                    exact g_iret dX0_sheet_87 rfl rfl ⟨rfl, rfl⟩
                | none =>
                  simp only [nz] at hf
                  refine g_callS (pc' := 75) (as := [.int x2, .int x3]) (wX0_made g _ x2 x3 hq24) oX0_made ⟨Nat.le_of_ble_eq_true rfl, Nat.le_of_ble_eq_true rfl⟩ dX0_sheet_72 rfl q993 q994 q83 (Nat.le_of_ble_eq_true rfl) (Nat.le_of_ble_eq_true rfl) (g_rN ?_) g_nt rfl
                  obtain ⟨w27, hw27, hf⟩ := Option.bind_eq_some_iff.mp hf
                  refine g_put (ty := (.object "java/lang/Object")) (pc' := 78) (fok_2 0 (by decide)) (Or.inl rfl) dX0_sheet_75 rfl q130 (by decide +kernel) rfl rfl hw27 ?_
                  refine g_iload_n (pc' := 79) dX0_sheet_78 rfl rfl rfl ?_
                  refine g_if_ne (tgt := 86) (pc' := 82) dX0_sheet_79 (by decide) rfl (fun h28 => ?_) (fun h28 => ?_)
                  · replace hf := (if_neg h28).symm.trans hf
                    refine g_iload_n (pc' := 87) dX0_sheet_86 rfl rfl rfl ?_
                    obtain rfl := Option.some.inj hf
                    exact g_iret dX0_sheet_87 rfl rfl ⟨rfl, rfl⟩
                  · replace hf := (if_pos h28).symm.trans hf
                    refine g_iconst (pc' := 83) (v := 0) dX0_sheet_82 rfl (by decide) ?_
                    refine g_goto (tgt := 87) dX0_sheet_83 (by decide) ?_
                    obtain rfl := Option.some.inj hf
                    exact g_iret dX0_sheet_87 rfl rfl ⟨rfl, rfl⟩
              | inr a21 =>
                replace hf : _ = some _ := hf
                refine g_callS (pc' := 64) (as := [.int q17, .int 0]) (wX0_need g _ q17 0 hq19) oX0_need ⟨Nat.le_of_ble_eq_true rfl, Nat.le_of_ble_eq_true rfl⟩ dX0_sheet_61 rfl q219 q220 q83 (Nat.le_of_ble_eq_true rfl) (Nat.le_of_ble_eq_true rfl) g_nr (g_tt ?_) rfl
                obtain ⟨h30, hf⟩ := vK_spec hf
                refine t_catch (ci := 4) rfl (by decide) q204 rfl h30 ?_
                refine g_astore (pc' := 90) (L' := [some (.ref a0), some (.int x1), some (.int x2), some (.int x3), some (.ref a21)]) dX0_sheet_88 rfl (Nat.le_of_ble_eq_true rfl) rfl rfl ?_
                refine g_aload_n (pc' := 91) dX0_sheet_90 rfl rfl rfl ?_
                refine g_aload (pc' := 93) dX0_sheet_91 rfl rfl ?_
                obtain ⟨q31, hq31, hf⟩ := Option.bind_eq_some_iff.mp hf
                obtain ⟨h32, hq31⟩ := vK_spec hq31
                refine g_callV (pc' := 96) (mx := mdX0_finds) (as := [.ref a21]) (wX0_finds g _ a0 a21 hq31) oX0_finds ⟨Nat.le_of_ble_eq_true rfl, Nat.le_of_ble_eq_true rfl⟩ dX0_sheet_93 rfl (ci := 0) rfl h32 ⟨by decide +kernel, by decide +kernel⟩ oX0_finds.2.2.2 rfl q289 q291 qs1 qs1 q291 (Nat.le_of_ble_eq_true rfl) (Nat.le_of_ble_eq_true rfl) (g_rI ?_) g_nt rfl
                obtain rfl := Option.some.inj hf
                exact g_iret dX0_sheet_96 rfl rfl ⟨rfl, rfl⟩
            replace hf := hqq17
            refine g_icmp_gt (tgt := 59) (pc' := 55) dX0_sheet_52 (by decide) rfl (fun h18 => ?_) (fun h18 => ?_)
            · replace hf := (if_pos h18).symm.trans hf
              refine g_iconst (pc' := 60) (v := 0) dX0_sheet_59 rfl (by decide) ?_
              obtain rfl := Option.some.inj hf
              exact hJq17
            · replace hf := (if_neg h18).symm.trans hf
              refine g_iconst (pc' := 56) (v := 1) dX0_sheet_55 rfl (by decide) ?_
              refine g_goto (tgt := 60) dX0_sheet_56 (by decide) ?_
              obtain rfl := Option.some.inj hf
              exact hJq17
          | inr a16 =>
            replace hf : _ = some _ := hf
            refine g_callS (pc' := 49) (as := [.int q12, .int 6]) (wX0_need g _ q12 6 hq14) oX0_need ⟨Nat.le_of_ble_eq_true rfl, Nat.le_of_ble_eq_true rfl⟩ dX0_sheet_46 rfl q219 q220 q83 (Nat.le_of_ble_eq_true rfl) (Nat.le_of_ble_eq_true rfl) g_nr (g_tt ?_) rfl
            obtain ⟨h33, hf⟩ := vK_spec hf
            refine t_catch (ci := 4) rfl (by decide) q204 rfl h33 ?_
            refine g_astore (pc' := 90) (L' := [some (.ref a0), some (.int x1), some (.int x2), some (.int x3), some (.ref a16)]) dX0_sheet_88 rfl (Nat.le_of_ble_eq_true rfl) rfl rfl ?_
            refine g_aload_n (pc' := 91) dX0_sheet_90 rfl rfl rfl ?_
            refine g_aload (pc' := 93) dX0_sheet_91 rfl rfl ?_
            obtain ⟨q34, hq34, hf⟩ := Option.bind_eq_some_iff.mp hf
            obtain ⟨h35, hq34⟩ := vK_spec hq34
            refine g_callV (pc' := 96) (mx := mdX0_finds) (as := [.ref a16]) (wX0_finds g _ a0 a16 hq34) oX0_finds ⟨Nat.le_of_ble_eq_true rfl, Nat.le_of_ble_eq_true rfl⟩ dX0_sheet_93 rfl (ci := 0) rfl h35 ⟨by decide +kernel, by decide +kernel⟩ oX0_finds.2.2.2 rfl q289 q291 qs1 qs1 q291 (Nat.le_of_ble_eq_true rfl) (Nat.le_of_ble_eq_true rfl) (g_rI ?_) g_nt rfl
            obtain rfl := Option.some.inj hf
            exact g_iret dX0_sheet_96 rfl rfl ⟨rfl, rfl⟩
        replace hf := hqq12
        refine g_if_lt (tgt := 43) (pc' := 39) dX0_sheet_36 (by decide) rfl (fun h13 => ?_) (fun h13 => ?_)
        · replace hf := (if_pos h13).symm.trans hf
          refine g_iconst (pc' := 44) (v := 0) dX0_sheet_43 rfl (by decide) ?_
          obtain rfl := Option.some.inj hf
          exact hJq12
        · replace hf := (if_neg h13).symm.trans hf
          refine g_iconst (pc' := 40) (v := 1) dX0_sheet_39 rfl (by decide) ?_
          refine g_goto (tgt := 44) dX0_sheet_40 (by decide) ?_
          obtain rfl := Option.some.inj hf
          exact hJq12
      | inr a11 =>
        replace hf : _ = some _ := hf
        refine g_callS (pc' := 35) (as := [.int q4, .int 0]) (wX0_need g _ q4 0 hq9) oX0_need ⟨Nat.le_of_ble_eq_true rfl, Nat.le_of_ble_eq_true rfl⟩ dX0_sheet_32 rfl q219 q220 q83 (Nat.le_of_ble_eq_true rfl) (Nat.le_of_ble_eq_true rfl) g_nr (g_tt ?_) rfl
        obtain ⟨h36, hf⟩ := vK_spec hf
        refine t_catch (ci := 4) rfl (by decide) q204 rfl h36 ?_
        refine g_astore (pc' := 90) (L' := [some (.ref a0), some (.int x1), some (.int x2), some (.int x3), some (.ref a11)]) dX0_sheet_88 rfl (Nat.le_of_ble_eq_true rfl) rfl rfl ?_
        refine g_aload_n (pc' := 91) dX0_sheet_90 rfl rfl rfl ?_
        refine g_aload (pc' := 93) dX0_sheet_91 rfl rfl ?_
        obtain ⟨q37, hq37, hf⟩ := Option.bind_eq_some_iff.mp hf
        obtain ⟨h38, hq37⟩ := vK_spec hq37
        refine g_callV (pc' := 96) (mx := mdX0_finds) (as := [.ref a11]) (wX0_finds g _ a0 a11 hq37) oX0_finds ⟨Nat.le_of_ble_eq_true rfl, Nat.le_of_ble_eq_true rfl⟩ dX0_sheet_93 rfl (ci := 0) rfl h38 ⟨by decide +kernel, by decide +kernel⟩ oX0_finds.2.2.2 rfl q289 q291 qs1 qs1 q291 (Nat.le_of_ble_eq_true rfl) (Nat.le_of_ble_eq_true rfl) (g_rI ?_) g_nt rfl
        obtain rfl := Option.some.inj hf
        exact g_iret dX0_sheet_96 rfl rfl ⟨rfl, rfl⟩
    replace hf := hqq4
    refine g_if_eq (tgt := 26) (pc' := 8) dX0_sheet_5 (by decide) rfl (fun h5 => ?_) (fun h5 => ?_)
    · replace hf := (if_pos h5).symm.trans hf
      refine g_iconst (pc' := 27) (v := 1) dX0_sheet_26 rfl (by decide) ?_
      refine g_goto (tgt := 31) dX0_sheet_27 (by decide) ?_
      obtain rfl := Option.some.inj hf
      exact hJq4
    · replace hf := (if_neg h5).symm.trans hf
      refine g_iload_n (pc' := 9) dX0_sheet_8 rfl rfl rfl ?_
      refine g_bipush (pc' := 11) (v := 8) dX0_sheet_9 rfl (by decide) ?_
      refine g_icmp_eq (tgt := 26) (pc' := 14) dX0_sheet_11 (by decide) rfl (fun h6 => ?_) (fun h6 => ?_)
      · replace hf := (if_pos h6).symm.trans hf
        refine g_iconst (pc' := 27) (v := 1) dX0_sheet_26 rfl (by decide) ?_
        refine g_goto (tgt := 31) dX0_sheet_27 (by decide) ?_
        obtain rfl := Option.some.inj hf
        exact hJq4
      · replace hf := (if_neg h6).symm.trans hf
        refine g_iload_n (pc' := 15) dX0_sheet_14 rfl rfl rfl ?_
        refine g_bipush (pc' := 17) (v := 16) dX0_sheet_15 rfl (by decide) ?_
        refine g_icmp_eq (tgt := 26) (pc' := 20) dX0_sheet_17 (by decide) rfl (fun h7 => ?_) (fun h7 => ?_)
        · replace hf := (if_pos h7).symm.trans hf
          refine g_iconst (pc' := 27) (v := 1) dX0_sheet_26 rfl (by decide) ?_
          refine g_goto (tgt := 31) dX0_sheet_27 (by decide) ?_
          obtain rfl := Option.some.inj hf
          exact hJq4
        · replace hf := (if_neg h7).symm.trans hf
          refine g_iload_n (pc' := 21) dX0_sheet_20 rfl rfl rfl ?_
          refine g_bipush (pc' := 23) (v := 64) dX0_sheet_21 rfl (by decide) ?_
          refine g_icmp_ne (tgt := 30) (pc' := 26) dX0_sheet_23 (by decide) rfl (fun h8 => ?_) (fun h8 => ?_)
          · replace hf := (if_neg h8).symm.trans hf
            refine g_iconst (pc' := 31) (v := 0) dX0_sheet_30 rfl (by decide) ?_
            obtain rfl := Option.some.inj hf
            exact hJq4
          · replace hf := (if_pos h8).symm.trans hf
            refine g_iconst (pc' := 27) (v := 1) dX0_sheet_26 rfl (by decide) ?_
            refine g_goto (tgt := 31) dX0_sheet_27 (by decide) ?_
            obtain rfl := Option.some.inj hf
            exact hJq4
  | inr a3 =>
    replace hf : _ = some _ := hf
    refine g_callS (pc' := 4) (as := [.int x1]) (wX0_sheetAt g _ x1 hq1) oX0_sheetAt ⟨Nat.le_of_ble_eq_true rfl, Nat.le_of_ble_eq_true rfl⟩ dX0_sheet_1 rfl q958 q959 q83 (Nat.le_of_ble_eq_true rfl) (Nat.le_of_ble_eq_true rfl) g_nr (g_tt ?_) rfl
    obtain ⟨h39, hf⟩ := vK_spec hf
    refine t_catch (ci := 4) rfl (by decide) q204 rfl h39 ?_
    refine g_astore (pc' := 90) (L' := [some (.ref a0), some (.int x1), some (.int x2), some (.int x3), some (.ref a3)]) dX0_sheet_88 rfl (Nat.le_of_ble_eq_true rfl) rfl rfl ?_
    refine g_aload_n (pc' := 91) dX0_sheet_90 rfl rfl rfl ?_
    refine g_aload (pc' := 93) dX0_sheet_91 rfl rfl ?_
    obtain ⟨q40, hq40, hf⟩ := Option.bind_eq_some_iff.mp hf
    obtain ⟨h41, hq40⟩ := vK_spec hq40
    refine g_callV (pc' := 96) (mx := mdX0_finds) (as := [.ref a3]) (wX0_finds g _ a0 a3 hq40) oX0_finds ⟨Nat.le_of_ble_eq_true rfl, Nat.le_of_ble_eq_true rfl⟩ dX0_sheet_93 rfl (ci := 0) rfl h41 ⟨by decide +kernel, by decide +kernel⟩ oX0_finds.2.2.2 rfl q289 q291 qs1 qs1 q291 (Nat.le_of_ble_eq_true rfl) (Nat.le_of_ble_eq_true rfl) (g_rI ?_) g_nt rfl
    obtain rfl := Option.some.inj hf
    exact g_iret dX0_sheet_96 rfl rfl ⟨rfl, rfl⟩
def mdX0_numberAt : bMD := (yX0_numberAt, cX0_numberAt, 4, (some (FieldType.object "java/lang/Object")), [], 7, 159)
theorem oX0_numberAt : bOkc mdX0_numberAt 2 := ⟨by decide +kernel, ⟨by decide +kernel, by decide +kernel⟩, by decide +kernel, q1005⟩
def fX0_numberAt (w : bWl) (a0 : Nat) (x1 : Int32) (x2 : Int32) : Option ((Nat ⊕ Nat) × bWl) :=
  Option.bind (fX0_sheetAt w x1) fun q1 => sm q1.1 (fun v2 =>
  Option.bind (vK 0 q1.2 a0 (fX0_there q1.2 a0 x1)) fun q4 => sm q4.1 (fun v6 =>
  Option.bind (fX0_length q4.2 v6) fun q8 =>
  Option.bind (fX0_in ((x2 : Int32).toInt64) 0 (((q8 - 1) : Int32).toInt64)) fun q9 =>
  Option.bind (fX0_need q4.2 q9 0) fun q10 => sm q10.1 (fun v11 =>
  some (Sum.inl v6, q10.2)) (fun a12 => some (Sum.inr a12, q10.2))) (fun a7 => some (Sum.inr a7, q4.2))) (fun a3 => some (Sum.inr a3, q1.2))
set_option maxHeartbeats 4000000 in
theorem wX0_numberAt (g : bGh) (w : bWl) (a0 : Nat) (x1 : Int32) (x2 : Int32) {r : ((Nat ⊕ Nat) × bWl)} (hf : fX0_numberAt w a0 x1 x2 = some r) : bM g mdX0_numberAt w [.ref a0, .int x1, .int x2] (qX eA r.1 r.2) := by
  unfold fX0_numberAt at hf
  change bG _ _ 0 [some (.ref a0), some (.int x1), some (.int x2)] []
  refine g_iload_n (pc' := 1) dX0_numberAt_0 rfl rfl rfl ?_
  obtain ⟨q1, hq1, hf⟩ := Option.bind_eq_some_iff.mp hf
  obtain ⟨zq1, wq1⟩ := q1
  cases zq1 with
  | inl v2 =>
    replace hf : _ = some _ := hf
    refine g_callS (pc' := 4) (as := [.int x1]) (wX0_sheetAt g _ x1 hq1) oX0_sheetAt ⟨Nat.le_of_ble_eq_true rfl, Nat.le_of_ble_eq_true rfl⟩ dX0_numberAt_1 rfl q958 q959 q83 (Nat.le_of_ble_eq_true rfl) (Nat.le_of_ble_eq_true rfl) (g_rV ?_) g_nt rfl
    refine g_aload_n (pc' := 5) dX0_numberAt_4 rfl rfl rfl ?_
    refine g_iload_n (pc' := 6) dX0_numberAt_5 rfl rfl rfl ?_
    obtain ⟨q4, hq4, hf⟩ := Option.bind_eq_some_iff.mp hf
    obtain ⟨h5, hq4⟩ := vK_spec hq4
    obtain ⟨zq4, wq4⟩ := q4
    cases zq4 with
    | inl v6 =>
      replace hf : _ = some _ := hf
      refine g_callV (pc' := 9) (mx := mdX0_there) (as := [.int x1]) (wX0_there g _ a0 x1 hq4) oX0_there ⟨Nat.le_of_ble_eq_true rfl, Nat.le_of_ble_eq_true rfl⟩ dX0_numberAt_6 rfl (ci := 0) rfl h5 ⟨by decide +kernel, by decide +kernel⟩ oX0_there.2.2.2 rfl q961 q963 qs28 qs28 q963 (Nat.le_of_ble_eq_true rfl) (Nat.le_of_ble_eq_true rfl) (g_rA ?_) g_nt rfl
      refine g_astore_n (pc' := 10) (L' := [some (.ref a0), some (.int x1), some (.int x2), some (.ref v6)]) dX0_numberAt_9 rfl rfl (Nat.le_of_ble_eq_true rfl) rfl rfl ?_
      refine g_iload_n (pc' := 11) dX0_numberAt_10 rfl rfl rfl ?_
      refine g_i2l (pc' := 12) dX0_numberAt_11 rfl ?_
      refine g_lconst (pc' := 13) (v := 0) dX0_numberAt_12 rfl (by decide) ?_
      refine g_aload_n (pc' := 14) dX0_numberAt_13 rfl rfl rfl ?_
      obtain ⟨q8, hq8, hf⟩ := Option.bind_eq_some_iff.mp hf
      refine g_callS (pc' := 17) (as := [.ref v6]) (wX0_length g _ v6 hq8) oX0_length ⟨Nat.le_of_ble_eq_true rfl, Nat.le_of_ble_eq_true rfl⟩ dX0_numberAt_14 rfl q965 q966 q83 (Nat.le_of_ble_eq_true rfl) (Nat.le_of_ble_eq_true rfl) (g_rI ?_) g_nt rfl
      refine g_iconst (pc' := 18) (v := 1) dX0_numberAt_17 rfl (by decide) ?_
      refine g_isub (pc' := 19) dX0_numberAt_18 rfl ?_
      refine g_i2l (pc' := 20) dX0_numberAt_19 rfl ?_
      obtain ⟨q9, hq9, hf⟩ := Option.bind_eq_some_iff.mp hf
      refine g_callS (pc' := 23) (as := [.long ((x2 : Int32).toInt64), .long 0, .long (((q8 - 1) : Int32).toInt64)]) (wX0_in g _ ((x2 : Int32).toInt64) 0 (((q8 - 1) : Int32).toInt64) hq9) oX0_in ⟨Nat.le_of_ble_eq_true rfl, Nat.le_of_ble_eq_true rfl⟩ dX0_numberAt_20 rfl q209 q210 q83 (Nat.le_of_ble_eq_true rfl) (Nat.le_of_ble_eq_true rfl) (g_rI ?_) g_nt rfl
      refine g_iconst (pc' := 24) (v := 0) dX0_numberAt_23 rfl (by decide) ?_
      obtain ⟨q10, hq10, hf⟩ := Option.bind_eq_some_iff.mp hf
      obtain ⟨zq10, wq10⟩ := q10
      cases zq10 with
      | inl v11 =>
        replace hf : _ = some _ := hf
        refine g_callS (pc' := 27) (as := [.int q9, .int 0]) (wX0_need g _ q9 0 hq10) oX0_need ⟨Nat.le_of_ble_eq_true rfl, Nat.le_of_ble_eq_true rfl⟩ dX0_numberAt_24 rfl q219 q220 q83 (Nat.le_of_ble_eq_true rfl) (Nat.le_of_ble_eq_true rfl) (g_rV ?_) g_nt rfl
        refine g_aload_n (pc' := 28) dX0_numberAt_27 rfl rfl rfl ?_
        obtain rfl := Option.some.inj hf
        exact g_aret dX0_numberAt_28 rfl (Or.inl ⟨_, rfl⟩) (Or.inr ⟨_, rfl⟩) ⟨rfl, rfl⟩
      | inr a12 =>
        replace hf : _ = some _ := hf
        refine g_callS (pc' := 27) (as := [.int q9, .int 0]) (wX0_need g _ q9 0 hq10) oX0_need ⟨Nat.le_of_ble_eq_true rfl, Nat.le_of_ble_eq_true rfl⟩ dX0_numberAt_24 rfl q219 q220 q83 (Nat.le_of_ble_eq_true rfl) (Nat.le_of_ble_eq_true rfl) g_nr (g_tt ?_) rfl
        obtain rfl := Option.some.inj hf
        exact t_leave rfl ⟨rfl, rfl⟩
    | inr a7 =>
      replace hf : _ = some _ := hf
      refine g_callV (pc' := 9) (mx := mdX0_there) (as := [.int x1]) (wX0_there g _ a0 x1 hq4) oX0_there ⟨Nat.le_of_ble_eq_true rfl, Nat.le_of_ble_eq_true rfl⟩ dX0_numberAt_6 rfl (ci := 0) rfl h5 ⟨by decide +kernel, by decide +kernel⟩ oX0_there.2.2.2 rfl q961 q963 qs28 qs28 q963 (Nat.le_of_ble_eq_true rfl) (Nat.le_of_ble_eq_true rfl) g_nr (g_tt ?_) rfl
      obtain rfl := Option.some.inj hf
      exact t_leave rfl ⟨rfl, rfl⟩
  | inr a3 =>
    replace hf : _ = some _ := hf
    refine g_callS (pc' := 4) (as := [.int x1]) (wX0_sheetAt g _ x1 hq1) oX0_sheetAt ⟨Nat.le_of_ble_eq_true rfl, Nat.le_of_ble_eq_true rfl⟩ dX0_numberAt_1 rfl q958 q959 q83 (Nat.le_of_ble_eq_true rfl) (Nat.le_of_ble_eq_true rfl) g_nr (g_tt ?_) rfl
    obtain rfl := Option.some.inj hf
    exact t_leave rfl ⟨rfl, rfl⟩
def mdX0_write : bMD := (yX0_write, cX0_write, 8, (some FieldType.long), [(0, 25, 26, 1)], 8, 182)
theorem oX0_write : bOkc mdX0_write 3 := ⟨by decide +kernel, ⟨by decide +kernel, by decide +kernel⟩, by decide +kernel, q1001⟩
def fX0_write (w : bWl) (a0 : Nat) (x1 : Int32) (x2 : Int32) (x3 : Int64) : Option (Int64 × bWl) :=
  Option.bind (vK 0 w a0 (fX0_numberAt w a0 x1 x2)) fun q1 => sm q1.1 (fun v3 =>
  Option.bind (fX0_get q1.2 v3 x2) fun q5 =>
  Option.bind (fX0_put q1.2 v3 x2 x3) fun q6 =>
  some (q5, q6)) (fun a4 => vK 4 q1.2 a4 (Option.bind (vK 0 q1.2 a0 (fX0_finds q1.2 a0 a4)) fun q8 =>
  some ((q8.1 : Int32).toInt64, q8.2)))
set_option maxHeartbeats 4000000 in
theorem wX0_write (g : bGh) (w : bWl) (a0 : Nat) (x1 : Int32) (x2 : Int32) (x3 : Int64) {r : (Int64 × bWl)} (hf : fX0_write w a0 x1 x2 x3 = some r) : bM g mdX0_write w [.ref a0, .int x1, .int x2, .long x3] (q_ (eJ r.1) r.2) := by
  unfold fX0_write at hf
  change bG _ _ 0 [some (.ref a0), some (.int x1), some (.int x2), some (.long x3), none] []
  refine g_aload_n (pc' := 1) dX0_write_0 rfl rfl rfl ?_
  refine g_iload_n (pc' := 2) dX0_write_1 rfl rfl rfl ?_
  refine g_iload_n (pc' := 3) dX0_write_2 rfl rfl rfl ?_
  obtain ⟨q1, hq1, hf⟩ := Option.bind_eq_some_iff.mp hf
  obtain ⟨h2, hq1⟩ := vK_spec hq1
  obtain ⟨zq1, wq1⟩ := q1
  cases zq1 with
  | inl v3 =>
    replace hf : _ = some _ := hf
    refine g_callV (pc' := 6) (mx := mdX0_numberAt) (as := [.int x1, .int x2]) (wX0_numberAt g _ a0 x1 x2 hq1) oX0_numberAt ⟨Nat.le_of_ble_eq_true rfl, Nat.le_of_ble_eq_true rfl⟩ dX0_write_3 rfl (ci := 0) rfl h2 ⟨by decide +kernel, by decide +kernel⟩ oX0_numberAt.2.2.2 rfl q1002 q1004 qs30 qs30 q1004 (Nat.le_of_ble_eq_true rfl) (Nat.le_of_ble_eq_true rfl) (g_rA ?_) g_nt rfl
    refine g_astore (pc' := 8) (L' := [some (.ref a0), some (.int x1), some (.int x2), some (.long x3), none, some (.ref v3)]) dX0_write_6 rfl (Nat.le_of_ble_eq_true rfl) rfl rfl ?_
    refine g_aload (pc' := 10) dX0_write_8 rfl rfl ?_
    refine g_iload_n (pc' := 11) dX0_write_10 rfl rfl rfl ?_
    obtain ⟨q5, hq5, hf⟩ := Option.bind_eq_some_iff.mp hf
    refine g_callS (pc' := 14) (as := [.ref v3, .int x2]) (wX0_get g _ v3 x2 hq5) oX0_get ⟨Nat.le_of_ble_eq_true rfl, Nat.le_of_ble_eq_true rfl⟩ dX0_write_11 rfl q971 q972 q83 (Nat.le_of_ble_eq_true rfl) (Nat.le_of_ble_eq_true rfl) (g_rJ ?_) g_nt rfl
    refine g_lstore (pc' := 16) (L' := [some (.ref a0), some (.int x1), some (.int x2), some (.long x3), none, some (.ref v3), some (.long q5), none]) dX0_write_14 rfl (Nat.le_of_ble_eq_true rfl) rfl rfl ?_
    refine g_aload (pc' := 18) dX0_write_16 rfl rfl ?_
    refine g_iload_n (pc' := 19) dX0_write_18 rfl rfl rfl ?_
    refine g_lload_n (pc' := 20) dX0_write_19 rfl rfl rfl ?_
    obtain ⟨q6, hq6, hf⟩ := Option.bind_eq_some_iff.mp hf
    refine g_callS (pc' := 23) (as := [.ref v3, .int x2, .long x3]) (wX0_put g _ v3 x2 x3 hq6) oX0_put ⟨Nat.le_of_ble_eq_true rfl, Nat.le_of_ble_eq_true rfl⟩ dX0_write_20 rfl q978 q979 q83 (Nat.le_of_ble_eq_true rfl) (Nat.le_of_ble_eq_true rfl) (g_rV ?_) g_nt rfl
    refine g_lload (pc' := 25) dX0_write_23 rfl rfl ?_
    obtain rfl := Option.some.inj hf
    exact g_lret dX0_write_25 rfl ⟨rfl, rfl⟩
  | inr a4 =>
    replace hf : _ = some _ := hf
    refine g_callV (pc' := 6) (mx := mdX0_numberAt) (as := [.int x1, .int x2]) (wX0_numberAt g _ a0 x1 x2 hq1) oX0_numberAt ⟨Nat.le_of_ble_eq_true rfl, Nat.le_of_ble_eq_true rfl⟩ dX0_write_3 rfl (ci := 0) rfl h2 ⟨by decide +kernel, by decide +kernel⟩ oX0_numberAt.2.2.2 rfl q1002 q1004 qs30 qs30 q1004 (Nat.le_of_ble_eq_true rfl) (Nat.le_of_ble_eq_true rfl) g_nr (g_tt ?_) rfl
    obtain ⟨h7, hf⟩ := vK_spec hf
    refine t_catch (ci := 4) rfl (by decide) q204 rfl h7 ?_
    refine g_astore (pc' := 28) (L' := [some (.ref a0), some (.int x1), some (.int x2), some (.long x3), none, some (.ref a4)]) dX0_write_26 rfl (Nat.le_of_ble_eq_true rfl) rfl rfl ?_
    refine g_aload_n (pc' := 29) dX0_write_28 rfl rfl rfl ?_
    refine g_aload (pc' := 31) dX0_write_29 rfl rfl ?_
    obtain ⟨q8, hq8, hf⟩ := Option.bind_eq_some_iff.mp hf
    obtain ⟨h9, hq8⟩ := vK_spec hq8
    refine g_callV (pc' := 34) (mx := mdX0_finds) (as := [.ref a4]) (wX0_finds g _ a0 a4 hq8) oX0_finds ⟨Nat.le_of_ble_eq_true rfl, Nat.le_of_ble_eq_true rfl⟩ dX0_write_31 rfl (ci := 0) rfl h9 ⟨by decide +kernel, by decide +kernel⟩ oX0_finds.2.2.2 rfl q289 q291 qs1 qs1 q291 (Nat.le_of_ble_eq_true rfl) (Nat.le_of_ble_eq_true rfl) (g_rI ?_) g_nt rfl
    refine g_i2l (pc' := 35) dX0_write_34 rfl ?_
    obtain rfl := Option.some.inj hf
    exact g_lret dX0_write_35 rfl ⟨rfl, rfl⟩
def mdX0_wide : bMD := (yX0_wide, cX0_wide, 1, (some FieldType.int), [], 1, 12)
theorem oX0_wide : bOkc mdX0_wide 1 := ⟨by decide +kernel, ⟨by decide +kernel, by decide +kernel⟩, by decide +kernel, q1012⟩
def fX0_wide (w : bWl) (a0 : Nat) : Option Int32 :=
  Option.bind (iT 1 w a0) fun v1 =>
  (if v1 = 0 then
  Option.bind (iT 2 w a0) fun v3 =>
  (if v3 = 0 then
  some 64
else
  some 16)
else
  some 8)
set_option maxHeartbeats 4000000 in
theorem wX0_wide (g : bGh) (w : bWl) (a0 : Nat) {r : Int32} (hf : fX0_wide w a0 = some r) : bM g mdX0_wide w [.ref a0] (q_ (eI r) w) := by
  unfold fX0_wide at hf
  change bG _ _ 0 [some (.ref a0)] []
  refine g_aload_n (pc' := 1) dX0_wide_0 rfl rfl rfl ?_
  obtain ⟨v1, hv1, hf⟩ := Option.bind_eq_some_iff.mp hf
  refine g_inst1 (pc' := 4) dX0_wide_1 rfl q968 hv1 ?_
  refine g_if_eq (tgt := 12) (pc' := 7) dX0_wide_4 (by decide) rfl (fun h2 => ?_) (fun h2 => ?_)
  · replace hf := (if_pos h2).symm.trans hf
    refine g_aload_n (pc' := 13) dX0_wide_12 rfl rfl rfl ?_
    obtain ⟨v3, hv3, hf⟩ := Option.bind_eq_some_iff.mp hf
    refine g_inst2 (pc' := 16) dX0_wide_13 rfl q969 hv3 ?_
    refine g_if_eq (tgt := 24) (pc' := 19) dX0_wide_16 (by decide) rfl (fun h4 => ?_) (fun h4 => ?_)
    · replace hf := (if_pos h4).symm.trans hf
      refine g_bipush (pc' := 26) (v := 64) dX0_wide_24 rfl (by decide) ?_
      obtain rfl := Option.some.inj hf
      exact g_iret dX0_wide_26 rfl rfl ⟨rfl, rfl⟩
    · replace hf := (if_neg h4).symm.trans hf
      refine g_bipush (pc' := 21) (v := 16) dX0_wide_19 rfl (by decide) ?_
      refine g_goto (tgt := 26) dX0_wide_21 (by decide) ?_
      obtain rfl := Option.some.inj hf
      exact g_iret dX0_wide_26 rfl rfl ⟨rfl, rfl⟩
  · replace hf := (if_neg h2).symm.trans hf
    refine g_bipush (pc' := 9) (v := 8) dX0_wide_7 rfl (by decide) ?_
    refine g_goto (tgt := 26) dX0_wide_9 (by decide) ?_
    obtain rfl := Option.some.inj hf
    exact g_iret dX0_wide_26 rfl rfl ⟨rfl, rfl⟩
def mdX0_copy : bMD := (yX0_copy, cX0_copy, 8, (some FieldType.int), [(0, 123, 124, 1)], 7, 159)
theorem oX0_copy : bOkc mdX0_copy 5 := ⟨by decide +kernel, ⟨by decide +kernel, by decide +kernel⟩, by decide +kernel, q1009⟩
def fX0_copy (w : bWl) (a0 : Nat) (x1 : Int32) (x2 : Int32) (x3 : Int32) (x4 : Int32) (x5 : Int32) : Option (Int32 × bWl) :=
  Option.bind (fX0_sheetAt w x1) fun q1 => sm q1.1 (fun v2 =>
  Option.bind (fX0_sheetAt q1.2 x3) fun q4 => sm q4.1 (fun v5 =>
  Option.bind (vK 0 q4.2 a0 (fX0_there q4.2 a0 x1)) fun q7 => sm q7.1 (fun v9 =>
  Option.bind (vK 0 q7.2 a0 (fX0_there q7.2 a0 x3)) fun q11 => sm q11.1 (fun v13 =>
  Option.bind (fX0_wide q11.2 v9) fun q15 =>
  Option.bind (fX0_wide q11.2 v13) fun q16 =>
  Option.bind (α := Int32) ((if q15 = q16 then
  some 1
else
  some 0)) fun q17 =>
  Option.bind (fX0_need q11.2 q17 2) fun q19 => sm q19.1 (fun v20 =>
  Option.bind (α := Int32) ((if x2 < 0 then
  some 0
else
  (if x4 < 0 then
  some 0
else
  (if x5 < 0 then
  some 0
else
  some 1)))) fun q22 =>
  Option.bind (fX0_need q19.2 q22 0) fun q26 => sm q26.1 (fun v27 =>
  Option.bind (fX0_length q26.2 v9) fun q29 =>
  Option.bind (α := Int32) ((if 0 < (lg_cmp (((x2 : Int32).toInt64) + ((x5 : Int32).toInt64)) ((q29 : Int32).toInt64)) then
  some 0
else
  Option.bind (fX0_length q26.2 v13) fun q32 =>
  (if 0 < (lg_cmp (((x4 : Int32).toInt64) + ((x5 : Int32).toInt64)) ((q32 : Int32).toInt64)) then
  some 0
else
  some 1))) fun q30 =>
  Option.bind (fX0_need q26.2 q30 0) fun q34 => sm q34.1 (fun v35 =>
  Option.bind (cpy q34.2 v9 x2 v13 x4 x5) fun w37 =>
  some (x5, w37)) (fun a36 => vK 4 q34.2 a36 (Option.bind (vK 0 q34.2 a0 (fX0_finds q34.2 a0 a36)) fun q39 =>
  some (q39.1, q39.2)))) (fun a28 => vK 4 q26.2 a28 (Option.bind (vK 0 q26.2 a0 (fX0_finds q26.2 a0 a28)) fun q42 =>
  some (q42.1, q42.2)))) (fun a21 => vK 4 q19.2 a21 (Option.bind (vK 0 q19.2 a0 (fX0_finds q19.2 a0 a21)) fun q45 =>
  some (q45.1, q45.2)))) (fun a14 => vK 4 q11.2 a14 (Option.bind (vK 0 q11.2 a0 (fX0_finds q11.2 a0 a14)) fun q48 =>
  some (q48.1, q48.2)))) (fun a10 => vK 4 q7.2 a10 (Option.bind (vK 0 q7.2 a0 (fX0_finds q7.2 a0 a10)) fun q51 =>
  some (q51.1, q51.2)))) (fun a6 => vK 4 q4.2 a6 (Option.bind (vK 0 q4.2 a0 (fX0_finds q4.2 a0 a6)) fun q54 =>
  some (q54.1, q54.2)))) (fun a3 => vK 4 q1.2 a3 (Option.bind (vK 0 q1.2 a0 (fX0_finds q1.2 a0 a3)) fun q57 =>
  some (q57.1, q57.2)))
set_option maxHeartbeats 4000000 in
theorem wX0_copy (g : bGh) (w : bWl) (a0 : Nat) (x1 : Int32) (x2 : Int32) (x3 : Int32) (x4 : Int32) (x5 : Int32) {r : (Int32 × bWl)} (hf : fX0_copy w a0 x1 x2 x3 x4 x5 = some r) : bM g mdX0_copy w [.ref a0, .int x1, .int x2, .int x3, .int x4, .int x5] (q_ (eI r.1) r.2) := by
  unfold fX0_copy at hf
  change bG _ _ 0 [some (.ref a0), some (.int x1), some (.int x2), some (.int x3), some (.int x4), some (.int x5)] []
  refine g_iload_n (pc' := 1) dX0_copy_0 rfl rfl rfl ?_
  obtain ⟨q1, hq1, hf⟩ := Option.bind_eq_some_iff.mp hf
  obtain ⟨zq1, wq1⟩ := q1
  cases zq1 with
  | inl v2 =>
    replace hf : _ = some _ := hf
    refine g_callS (pc' := 4) (as := [.int x1]) (wX0_sheetAt g _ x1 hq1) oX0_sheetAt ⟨Nat.le_of_ble_eq_true rfl, Nat.le_of_ble_eq_true rfl⟩ dX0_copy_1 rfl q958 q959 q83 (Nat.le_of_ble_eq_true rfl) (Nat.le_of_ble_eq_true rfl) (g_rV ?_) g_nt rfl
    refine g_iload_n (pc' := 5) dX0_copy_4 rfl rfl rfl ?_
    obtain ⟨q4, hq4, hf⟩ := Option.bind_eq_some_iff.mp hf
    obtain ⟨zq4, wq4⟩ := q4
    cases zq4 with
    | inl v5 =>
      replace hf : _ = some _ := hf
      refine g_callS (pc' := 8) (as := [.int x3]) (wX0_sheetAt g _ x3 hq4) oX0_sheetAt ⟨Nat.le_of_ble_eq_true rfl, Nat.le_of_ble_eq_true rfl⟩ dX0_copy_5 rfl q958 q959 q83 (Nat.le_of_ble_eq_true rfl) (Nat.le_of_ble_eq_true rfl) (g_rV ?_) g_nt rfl
      refine g_aload_n (pc' := 9) dX0_copy_8 rfl rfl rfl ?_
      refine g_iload_n (pc' := 10) dX0_copy_9 rfl rfl rfl ?_
      obtain ⟨q7, hq7, hf⟩ := Option.bind_eq_some_iff.mp hf
      obtain ⟨h8, hq7⟩ := vK_spec hq7
      obtain ⟨zq7, wq7⟩ := q7
      cases zq7 with
      | inl v9 =>
        replace hf : _ = some _ := hf
        refine g_callV (pc' := 13) (mx := mdX0_there) (as := [.int x1]) (wX0_there g _ a0 x1 hq7) oX0_there ⟨Nat.le_of_ble_eq_true rfl, Nat.le_of_ble_eq_true rfl⟩ dX0_copy_10 rfl (ci := 0) rfl h8 ⟨by decide +kernel, by decide +kernel⟩ oX0_there.2.2.2 rfl q961 q963 qs28 qs28 q963 (Nat.le_of_ble_eq_true rfl) (Nat.le_of_ble_eq_true rfl) (g_rA ?_) g_nt rfl
        refine g_astore (pc' := 15) (L' := [some (.ref a0), some (.int x1), some (.int x2), some (.int x3), some (.int x4), some (.int x5), some (.ref v9)]) dX0_copy_13 rfl (Nat.le_of_ble_eq_true rfl) rfl rfl ?_
        refine g_aload_n (pc' := 16) dX0_copy_15 rfl rfl rfl ?_
        refine g_iload_n (pc' := 17) dX0_copy_16 rfl rfl rfl ?_
        obtain ⟨q11, hq11, hf⟩ := Option.bind_eq_some_iff.mp hf
        obtain ⟨h12, hq11⟩ := vK_spec hq11
        obtain ⟨zq11, wq11⟩ := q11
        cases zq11 with
        | inl v13 =>
          replace hf : _ = some _ := hf
          refine g_callV (pc' := 20) (mx := mdX0_there) (as := [.int x3]) (wX0_there g _ a0 x3 hq11) oX0_there ⟨Nat.le_of_ble_eq_true rfl, Nat.le_of_ble_eq_true rfl⟩ dX0_copy_17 rfl (ci := 0) rfl h12 ⟨by decide +kernel, by decide +kernel⟩ oX0_there.2.2.2 rfl q961 q963 qs28 qs28 q963 (Nat.le_of_ble_eq_true rfl) (Nat.le_of_ble_eq_true rfl) (g_rA ?_) g_nt rfl
          refine g_astore (pc' := 22) (L' := [some (.ref a0), some (.int x1), some (.int x2), some (.int x3), some (.int x4), some (.int x5), some (.ref v9), some (.ref v13)]) dX0_copy_20 rfl (Nat.le_of_ble_eq_true rfl) rfl rfl ?_
          refine g_aload (pc' := 24) dX0_copy_22 rfl rfl ?_
          obtain ⟨q15, hq15, hf⟩ := Option.bind_eq_some_iff.mp hf
          refine g_callS (pc' := 27) (as := [.ref v9]) (wX0_wide g _ v9 hq15) oX0_wide ⟨Nat.le_of_ble_eq_true rfl, Nat.le_of_ble_eq_true rfl⟩ dX0_copy_24 rfl q1010 q1011 q83 (Nat.le_of_ble_eq_true rfl) (Nat.le_of_ble_eq_true rfl) (g_rI ?_) g_nt rfl
          refine g_aload (pc' := 29) dX0_copy_27 rfl rfl ?_
          obtain ⟨q16, hq16, hf⟩ := Option.bind_eq_some_iff.mp hf
          refine g_callS (pc' := 32) (as := [.ref v13]) (wX0_wide g _ v13 hq16) oX0_wide ⟨Nat.le_of_ble_eq_true rfl, Nat.le_of_ble_eq_true rfl⟩ dX0_copy_29 rfl q1010 q1011 q83 (Nat.le_of_ble_eq_true rfl) (Nat.le_of_ble_eq_true rfl) (g_rI ?_) g_nt rfl
          obtain ⟨q17, hqq17, hf⟩ := Option.bind_eq_some_iff.mp hf
          have hJq17 : bG (g, mdX0_copy, w.2.1, w.2.2.1, (q_ (eI r.1) r.2)) wq11 40 [some (.ref a0), none, some (.int x2), none, some (.int x4), some (.int x5), some (.ref v9), some (.ref v13)] [.int q17] := by
            refine g_iconst (pc' := 41) (v := 2) dX0_copy_40 rfl (by decide) ?_
            obtain ⟨q19, hq19, hf⟩ := Option.bind_eq_some_iff.mp hf
            obtain ⟨zq19, wq19⟩ := q19
            cases zq19 with
            | inl v20 =>
              replace hf : _ = some _ := hf
              refine g_callS (pc' := 44) (as := [.int q17, .int 2]) (wX0_need g _ q17 2 hq19) oX0_need ⟨Nat.le_of_ble_eq_true rfl, Nat.le_of_ble_eq_true rfl⟩ dX0_copy_41 rfl q219 q220 q83 (Nat.le_of_ble_eq_true rfl) (Nat.le_of_ble_eq_true rfl) (g_rV ?_) g_nt rfl
              refine g_iload_n (pc' := 45) dX0_copy_44 rfl rfl rfl ?_
              obtain ⟨q22, hqq22, hf⟩ := Option.bind_eq_some_iff.mp hf
              have hJq22 : bG (g, mdX0_copy, w.2.1, w.2.2.1, (q_ (eI r.1) r.2)) wq19 63 [some (.ref a0), none, some (.int x2), none, some (.int x4), some (.int x5), some (.ref v9), some (.ref v13)] [.int q22] := by
                refine g_iconst (pc' := 64) (v := 0) dX0_copy_63 rfl (by decide) ?_
                obtain ⟨q26, hq26, hf⟩ := Option.bind_eq_some_iff.mp hf
                obtain ⟨zq26, wq26⟩ := q26
                cases zq26 with
                | inl v27 =>
                  replace hf : _ = some _ := hf
                  refine g_callS (pc' := 67) (as := [.int q22, .int 0]) (wX0_need g _ q22 0 hq26) oX0_need ⟨Nat.le_of_ble_eq_true rfl, Nat.le_of_ble_eq_true rfl⟩ dX0_copy_64 rfl q219 q220 q83 (Nat.le_of_ble_eq_true rfl) (Nat.le_of_ble_eq_true rfl) (g_rV ?_) g_nt rfl
                  refine g_iload_n (pc' := 68) dX0_copy_67 rfl rfl rfl ?_
                  refine g_i2l (pc' := 69) dX0_copy_68 rfl ?_
                  refine g_iload (pc' := 71) dX0_copy_69 rfl rfl ?_
                  refine g_i2l (pc' := 72) dX0_copy_71 rfl ?_
                  refine g_ladd (pc' := 73) dX0_copy_72 rfl ?_
                  refine g_aload (pc' := 75) dX0_copy_73 rfl rfl ?_
                  obtain ⟨q29, hq29, hf⟩ := Option.bind_eq_some_iff.mp hf
                  refine g_callS (pc' := 78) (as := [.ref v9]) (wX0_length g _ v9 hq29) oX0_length ⟨Nat.le_of_ble_eq_true rfl, Nat.le_of_ble_eq_true rfl⟩ dX0_copy_75 rfl q965 q966 q83 (Nat.le_of_ble_eq_true rfl) (Nat.le_of_ble_eq_true rfl) (g_rI ?_) g_nt rfl
                  refine g_i2l (pc' := 79) dX0_copy_78 rfl ?_
                  refine g_lcmp (pc' := 80) dX0_copy_79 rfl ?_
                  obtain ⟨q30, hqq30, hf⟩ := Option.bind_eq_some_iff.mp hf
                  have hJq30 : bG (g, mdX0_copy, w.2.1, w.2.2.1, (q_ (eI r.1) r.2)) wq26 105 [some (.ref a0), none, some (.int x2), none, some (.int x4), some (.int x5), some (.ref v9), some (.ref v13)] [.int q30] := by
                    refine g_iconst (pc' := 106) (v := 0) dX0_copy_105 rfl (by decide) ?_
                    obtain ⟨q34, hq34, hf⟩ := Option.bind_eq_some_iff.mp hf
                    obtain ⟨zq34, wq34⟩ := q34
                    cases zq34 with
                    | inl v35 =>
                      replace hf : _ = some _ := hf
                      refine g_callS (pc' := 109) (as := [.int q30, .int 0]) (wX0_need g _ q30 0 hq34) oX0_need ⟨Nat.le_of_ble_eq_true rfl, Nat.le_of_ble_eq_true rfl⟩ dX0_copy_106 rfl q219 q220 q83 (Nat.le_of_ble_eq_true rfl) (Nat.le_of_ble_eq_true rfl) (g_rV ?_) g_nt rfl
                      refine g_aload (pc' := 111) dX0_copy_109 rfl rfl ?_
                      refine g_iload_n (pc' := 112) dX0_copy_111 rfl rfl rfl ?_
                      refine g_aload (pc' := 114) dX0_copy_112 rfl rfl ?_
                      refine g_iload (pc' := 116) dX0_copy_114 rfl rfl ?_
                      refine g_iload (pc' := 118) dX0_copy_116 rfl rfl ?_
                      obtain ⟨w37, hw37, hf⟩ := Option.bind_eq_some_iff.mp hf
                      refine g_copy (pc' := 121) dX0_copy_118 rfl q1013 q523 q522 q97 ⟨Nat.le_of_ble_eq_true rfl, Nat.le_of_ble_eq_true rfl⟩ (Nat.le_of_ble_eq_true rfl) hw37 ?_
                      refine g_iload (pc' := 123) dX0_copy_121 rfl rfl ?_
                      obtain rfl := Option.some.inj hf
                      exact g_iret dX0_copy_123 rfl rfl ⟨rfl, rfl⟩
                    | inr a36 =>
                      replace hf : _ = some _ := hf
                      refine g_callS (pc' := 109) (as := [.int q30, .int 0]) (wX0_need g _ q30 0 hq34) oX0_need ⟨Nat.le_of_ble_eq_true rfl, Nat.le_of_ble_eq_true rfl⟩ dX0_copy_106 rfl q219 q220 q83 (Nat.le_of_ble_eq_true rfl) (Nat.le_of_ble_eq_true rfl) g_nr (g_tt ?_) rfl
                      obtain ⟨h38, hf⟩ := vK_spec hf
                      refine t_catch (ci := 4) rfl (by decide) q204 rfl h38 ?_
                      refine g_astore (pc' := 126) (L' := [some (.ref a0), none, some (.int x2), none, some (.int x4), some (.int x5), some (.ref a36), some (.ref v13)]) dX0_copy_124 rfl (Nat.le_of_ble_eq_true rfl) rfl rfl ?_
                      refine g_aload_n (pc' := 127) dX0_copy_126 rfl rfl rfl ?_
                      refine g_aload (pc' := 129) dX0_copy_127 rfl rfl ?_
                      obtain ⟨q39, hq39, hf⟩ := Option.bind_eq_some_iff.mp hf
                      obtain ⟨h40, hq39⟩ := vK_spec hq39
                      refine g_callV (pc' := 132) (mx := mdX0_finds) (as := [.ref a36]) (wX0_finds g _ a0 a36 hq39) oX0_finds ⟨Nat.le_of_ble_eq_true rfl, Nat.le_of_ble_eq_true rfl⟩ dX0_copy_129 rfl (ci := 0) rfl h40 ⟨by decide +kernel, by decide +kernel⟩ oX0_finds.2.2.2 rfl q289 q291 qs1 qs1 q291 (Nat.le_of_ble_eq_true rfl) (Nat.le_of_ble_eq_true rfl) (g_rI ?_) g_nt rfl
                      obtain rfl := Option.some.inj hf
                      exact g_iret dX0_copy_132 rfl rfl ⟨rfl, rfl⟩
                  replace hf := hqq30
                  refine g_if_gt (tgt := 104) (pc' := 83) dX0_copy_80 (by decide) rfl (fun h31 => ?_) (fun h31 => ?_)
                  · replace hf := (if_pos h31).symm.trans hf
                    refine g_iconst (pc' := 105) (v := 0) dX0_copy_104 rfl (by decide) ?_
                    obtain rfl := Option.some.inj hf
                    exact hJq30
                  · replace hf := (if_neg h31).symm.trans hf
                    refine g_iload (pc' := 85) dX0_copy_83 rfl rfl ?_
                    refine g_i2l (pc' := 86) dX0_copy_85 rfl ?_
                    refine g_iload (pc' := 88) dX0_copy_86 rfl rfl ?_
                    refine g_i2l (pc' := 89) dX0_copy_88 rfl ?_
                    refine g_ladd (pc' := 90) dX0_copy_89 rfl ?_
                    refine g_aload (pc' := 92) dX0_copy_90 rfl rfl ?_
                    obtain ⟨q32, hq32, hf⟩ := Option.bind_eq_some_iff.mp hf
                    refine g_callS (pc' := 95) (as := [.ref v13]) (wX0_length g _ v13 hq32) oX0_length ⟨Nat.le_of_ble_eq_true rfl, Nat.le_of_ble_eq_true rfl⟩ dX0_copy_92 rfl q965 q966 q83 (Nat.le_of_ble_eq_true rfl) (Nat.le_of_ble_eq_true rfl) (g_rI ?_) g_nt rfl
                    refine g_i2l (pc' := 96) dX0_copy_95 rfl ?_
                    refine g_lcmp (pc' := 97) dX0_copy_96 rfl ?_
                    refine g_if_gt (tgt := 104) (pc' := 100) dX0_copy_97 (by decide) rfl (fun h33 => ?_) (fun h33 => ?_)
                    · replace hf := (if_pos h33).symm.trans hf
                      refine g_iconst (pc' := 105) (v := 0) dX0_copy_104 rfl (by decide) ?_
                      obtain rfl := Option.some.inj hf
                      exact hJq30
                    · replace hf := (if_neg h33).symm.trans hf
                      refine g_iconst (pc' := 101) (v := 1) dX0_copy_100 rfl (by decide) ?_
                      refine g_goto (tgt := 105) dX0_copy_101 (by decide) ?_
                      obtain rfl := Option.some.inj hf
                      exact hJq30
                | inr a28 =>
                  replace hf : _ = some _ := hf
                  refine g_callS (pc' := 67) (as := [.int q22, .int 0]) (wX0_need g _ q22 0 hq26) oX0_need ⟨Nat.le_of_ble_eq_true rfl, Nat.le_of_ble_eq_true rfl⟩ dX0_copy_64 rfl q219 q220 q83 (Nat.le_of_ble_eq_true rfl) (Nat.le_of_ble_eq_true rfl) g_nr (g_tt ?_) rfl
                  obtain ⟨h41, hf⟩ := vK_spec hf
                  refine t_catch (ci := 4) rfl (by decide) q204 rfl h41 ?_
                  refine g_astore (pc' := 126) (L' := [some (.ref a0), none, some (.int x2), none, some (.int x4), some (.int x5), some (.ref a28), some (.ref v13)]) dX0_copy_124 rfl (Nat.le_of_ble_eq_true rfl) rfl rfl ?_
                  refine g_aload_n (pc' := 127) dX0_copy_126 rfl rfl rfl ?_
                  refine g_aload (pc' := 129) dX0_copy_127 rfl rfl ?_
                  obtain ⟨q42, hq42, hf⟩ := Option.bind_eq_some_iff.mp hf
                  obtain ⟨h43, hq42⟩ := vK_spec hq42
                  refine g_callV (pc' := 132) (mx := mdX0_finds) (as := [.ref a28]) (wX0_finds g _ a0 a28 hq42) oX0_finds ⟨Nat.le_of_ble_eq_true rfl, Nat.le_of_ble_eq_true rfl⟩ dX0_copy_129 rfl (ci := 0) rfl h43 ⟨by decide +kernel, by decide +kernel⟩ oX0_finds.2.2.2 rfl q289 q291 qs1 qs1 q291 (Nat.le_of_ble_eq_true rfl) (Nat.le_of_ble_eq_true rfl) (g_rI ?_) g_nt rfl
                  obtain rfl := Option.some.inj hf
                  exact g_iret dX0_copy_132 rfl rfl ⟨rfl, rfl⟩
              replace hf := hqq22
              refine g_if_lt (tgt := 62) (pc' := 48) dX0_copy_45 (by decide) rfl (fun h23 => ?_) (fun h23 => ?_)
              · replace hf := (if_pos h23).symm.trans hf
                refine g_iconst (pc' := 63) (v := 0) dX0_copy_62 rfl (by decide) ?_
                obtain rfl := Option.some.inj hf
                exact hJq22
              · replace hf := (if_neg h23).symm.trans hf
                refine g_iload (pc' := 50) dX0_copy_48 rfl rfl ?_
                refine g_if_lt (tgt := 62) (pc' := 53) dX0_copy_50 (by decide) rfl (fun h24 => ?_) (fun h24 => ?_)
                · replace hf := (if_pos h24).symm.trans hf
                  refine g_iconst (pc' := 63) (v := 0) dX0_copy_62 rfl (by decide) ?_
                  obtain rfl := Option.some.inj hf
                  exact hJq22
                · replace hf := (if_neg h24).symm.trans hf
                  refine g_iload (pc' := 55) dX0_copy_53 rfl rfl ?_
                  refine g_if_lt (tgt := 62) (pc' := 58) dX0_copy_55 (by decide) rfl (fun h25 => ?_) (fun h25 => ?_)
                  · replace hf := (if_pos h25).symm.trans hf
                    refine g_iconst (pc' := 63) (v := 0) dX0_copy_62 rfl (by decide) ?_
                    obtain rfl := Option.some.inj hf
                    exact hJq22
                  · replace hf := (if_neg h25).symm.trans hf
                    refine g_iconst (pc' := 59) (v := 1) dX0_copy_58 rfl (by decide) ?_
                    refine g_goto (tgt := 63) dX0_copy_59 (by decide) ?_
                    obtain rfl := Option.some.inj hf
                    exact hJq22
            | inr a21 =>
              replace hf : _ = some _ := hf
              refine g_callS (pc' := 44) (as := [.int q17, .int 2]) (wX0_need g _ q17 2 hq19) oX0_need ⟨Nat.le_of_ble_eq_true rfl, Nat.le_of_ble_eq_true rfl⟩ dX0_copy_41 rfl q219 q220 q83 (Nat.le_of_ble_eq_true rfl) (Nat.le_of_ble_eq_true rfl) g_nr (g_tt ?_) rfl
              obtain ⟨h44, hf⟩ := vK_spec hf
              refine t_catch (ci := 4) rfl (by decide) q204 rfl h44 ?_
              refine g_astore (pc' := 126) (L' := [some (.ref a0), none, some (.int x2), none, some (.int x4), some (.int x5), some (.ref a21), some (.ref v13)]) dX0_copy_124 rfl (Nat.le_of_ble_eq_true rfl) rfl rfl ?_
              refine g_aload_n (pc' := 127) dX0_copy_126 rfl rfl rfl ?_
              refine g_aload (pc' := 129) dX0_copy_127 rfl rfl ?_
              obtain ⟨q45, hq45, hf⟩ := Option.bind_eq_some_iff.mp hf
              obtain ⟨h46, hq45⟩ := vK_spec hq45
              refine g_callV (pc' := 132) (mx := mdX0_finds) (as := [.ref a21]) (wX0_finds g _ a0 a21 hq45) oX0_finds ⟨Nat.le_of_ble_eq_true rfl, Nat.le_of_ble_eq_true rfl⟩ dX0_copy_129 rfl (ci := 0) rfl h46 ⟨by decide +kernel, by decide +kernel⟩ oX0_finds.2.2.2 rfl q289 q291 qs1 qs1 q291 (Nat.le_of_ble_eq_true rfl) (Nat.le_of_ble_eq_true rfl) (g_rI ?_) g_nt rfl
              obtain rfl := Option.some.inj hf
              exact g_iret dX0_copy_132 rfl rfl ⟨rfl, rfl⟩
          replace hf := hqq17
          refine g_icmp_ne (tgt := 39) (pc' := 35) dX0_copy_32 (by decide) rfl (fun h18 => ?_) (fun h18 => ?_)
          · replace hf := (if_neg h18).symm.trans hf
            refine g_iconst (pc' := 40) (v := 0) dX0_copy_39 rfl (by decide) ?_
            obtain rfl := Option.some.inj hf
            refine g_drop [1, 3] (L' := [some (.ref a0), none, some (.int x2), none, some (.int x4), some (.int x5), some (.ref v9), some (.ref v13)]) rfl ?_
            exact hJq17
          · replace hf := (if_pos h18).symm.trans hf
            refine g_iconst (pc' := 36) (v := 1) dX0_copy_35 rfl (by decide) ?_
            refine g_goto (tgt := 40) dX0_copy_36 (by decide) ?_
            obtain rfl := Option.some.inj hf
            refine g_drop [1, 3] (L' := [some (.ref a0), none, some (.int x2), none, some (.int x4), some (.int x5), some (.ref v9), some (.ref v13)]) rfl ?_
            exact hJq17
        | inr a14 =>
          replace hf : _ = some _ := hf
          refine g_callV (pc' := 20) (mx := mdX0_there) (as := [.int x3]) (wX0_there g _ a0 x3 hq11) oX0_there ⟨Nat.le_of_ble_eq_true rfl, Nat.le_of_ble_eq_true rfl⟩ dX0_copy_17 rfl (ci := 0) rfl h12 ⟨by decide +kernel, by decide +kernel⟩ oX0_there.2.2.2 rfl q961 q963 qs28 qs28 q963 (Nat.le_of_ble_eq_true rfl) (Nat.le_of_ble_eq_true rfl) g_nr (g_tt ?_) rfl
          obtain ⟨h47, hf⟩ := vK_spec hf
          refine t_catch (ci := 4) rfl (by decide) q204 rfl h47 ?_
          refine g_astore (pc' := 126) (L' := [some (.ref a0), some (.int x1), some (.int x2), some (.int x3), some (.int x4), some (.int x5), some (.ref a14)]) dX0_copy_124 rfl (Nat.le_of_ble_eq_true rfl) rfl rfl ?_
          refine g_aload_n (pc' := 127) dX0_copy_126 rfl rfl rfl ?_
          refine g_aload (pc' := 129) dX0_copy_127 rfl rfl ?_
          obtain ⟨q48, hq48, hf⟩ := Option.bind_eq_some_iff.mp hf
          obtain ⟨h49, hq48⟩ := vK_spec hq48
          refine g_callV (pc' := 132) (mx := mdX0_finds) (as := [.ref a14]) (wX0_finds g _ a0 a14 hq48) oX0_finds ⟨Nat.le_of_ble_eq_true rfl, Nat.le_of_ble_eq_true rfl⟩ dX0_copy_129 rfl (ci := 0) rfl h49 ⟨by decide +kernel, by decide +kernel⟩ oX0_finds.2.2.2 rfl q289 q291 qs1 qs1 q291 (Nat.le_of_ble_eq_true rfl) (Nat.le_of_ble_eq_true rfl) (g_rI ?_) g_nt rfl
          obtain rfl := Option.some.inj hf
          exact g_iret dX0_copy_132 rfl rfl ⟨rfl, rfl⟩
      | inr a10 =>
        replace hf : _ = some _ := hf
        refine g_callV (pc' := 13) (mx := mdX0_there) (as := [.int x1]) (wX0_there g _ a0 x1 hq7) oX0_there ⟨Nat.le_of_ble_eq_true rfl, Nat.le_of_ble_eq_true rfl⟩ dX0_copy_10 rfl (ci := 0) rfl h8 ⟨by decide +kernel, by decide +kernel⟩ oX0_there.2.2.2 rfl q961 q963 qs28 qs28 q963 (Nat.le_of_ble_eq_true rfl) (Nat.le_of_ble_eq_true rfl) g_nr (g_tt ?_) rfl
        obtain ⟨h50, hf⟩ := vK_spec hf
        refine t_catch (ci := 4) rfl (by decide) q204 rfl h50 ?_
        refine g_astore (pc' := 126) (L' := [some (.ref a0), some (.int x1), some (.int x2), some (.int x3), some (.int x4), some (.int x5), some (.ref a10)]) dX0_copy_124 rfl (Nat.le_of_ble_eq_true rfl) rfl rfl ?_
        refine g_aload_n (pc' := 127) dX0_copy_126 rfl rfl rfl ?_
        refine g_aload (pc' := 129) dX0_copy_127 rfl rfl ?_
        obtain ⟨q51, hq51, hf⟩ := Option.bind_eq_some_iff.mp hf
        obtain ⟨h52, hq51⟩ := vK_spec hq51
        refine g_callV (pc' := 132) (mx := mdX0_finds) (as := [.ref a10]) (wX0_finds g _ a0 a10 hq51) oX0_finds ⟨Nat.le_of_ble_eq_true rfl, Nat.le_of_ble_eq_true rfl⟩ dX0_copy_129 rfl (ci := 0) rfl h52 ⟨by decide +kernel, by decide +kernel⟩ oX0_finds.2.2.2 rfl q289 q291 qs1 qs1 q291 (Nat.le_of_ble_eq_true rfl) (Nat.le_of_ble_eq_true rfl) (g_rI ?_) g_nt rfl
        obtain rfl := Option.some.inj hf
        exact g_iret dX0_copy_132 rfl rfl ⟨rfl, rfl⟩
    | inr a6 =>
      replace hf : _ = some _ := hf
      refine g_callS (pc' := 8) (as := [.int x3]) (wX0_sheetAt g _ x3 hq4) oX0_sheetAt ⟨Nat.le_of_ble_eq_true rfl, Nat.le_of_ble_eq_true rfl⟩ dX0_copy_5 rfl q958 q959 q83 (Nat.le_of_ble_eq_true rfl) (Nat.le_of_ble_eq_true rfl) g_nr (g_tt ?_) rfl
      obtain ⟨h53, hf⟩ := vK_spec hf
      refine t_catch (ci := 4) rfl (by decide) q204 rfl h53 ?_
      refine g_astore (pc' := 126) (L' := [some (.ref a0), some (.int x1), some (.int x2), some (.int x3), some (.int x4), some (.int x5), some (.ref a6)]) dX0_copy_124 rfl (Nat.le_of_ble_eq_true rfl) rfl rfl ?_
      refine g_aload_n (pc' := 127) dX0_copy_126 rfl rfl rfl ?_
      refine g_aload (pc' := 129) dX0_copy_127 rfl rfl ?_
      obtain ⟨q54, hq54, hf⟩ := Option.bind_eq_some_iff.mp hf
      obtain ⟨h55, hq54⟩ := vK_spec hq54
      refine g_callV (pc' := 132) (mx := mdX0_finds) (as := [.ref a6]) (wX0_finds g _ a0 a6 hq54) oX0_finds ⟨Nat.le_of_ble_eq_true rfl, Nat.le_of_ble_eq_true rfl⟩ dX0_copy_129 rfl (ci := 0) rfl h55 ⟨by decide +kernel, by decide +kernel⟩ oX0_finds.2.2.2 rfl q289 q291 qs1 qs1 q291 (Nat.le_of_ble_eq_true rfl) (Nat.le_of_ble_eq_true rfl) (g_rI ?_) g_nt rfl
      obtain rfl := Option.some.inj hf
      exact g_iret dX0_copy_132 rfl rfl ⟨rfl, rfl⟩
  | inr a3 =>
    replace hf : _ = some _ := hf
    refine g_callS (pc' := 4) (as := [.int x1]) (wX0_sheetAt g _ x1 hq1) oX0_sheetAt ⟨Nat.le_of_ble_eq_true rfl, Nat.le_of_ble_eq_true rfl⟩ dX0_copy_1 rfl q958 q959 q83 (Nat.le_of_ble_eq_true rfl) (Nat.le_of_ble_eq_true rfl) g_nr (g_tt ?_) rfl
    obtain ⟨h56, hf⟩ := vK_spec hf
    refine t_catch (ci := 4) rfl (by decide) q204 rfl h56 ?_
    refine g_astore (pc' := 126) (L' := [some (.ref a0), some (.int x1), some (.int x2), some (.int x3), some (.int x4), some (.int x5), some (.ref a3)]) dX0_copy_124 rfl (Nat.le_of_ble_eq_true rfl) rfl rfl ?_
    refine g_aload_n (pc' := 127) dX0_copy_126 rfl rfl rfl ?_
    refine g_aload (pc' := 129) dX0_copy_127 rfl rfl ?_
    obtain ⟨q57, hq57, hf⟩ := Option.bind_eq_some_iff.mp hf
    obtain ⟨h58, hq57⟩ := vK_spec hq57
    refine g_callV (pc' := 132) (mx := mdX0_finds) (as := [.ref a3]) (wX0_finds g _ a0 a3 hq57) oX0_finds ⟨Nat.le_of_ble_eq_true rfl, Nat.le_of_ble_eq_true rfl⟩ dX0_copy_129 rfl (ci := 0) rfl h58 ⟨by decide +kernel, by decide +kernel⟩ oX0_finds.2.2.2 rfl q289 q291 qs1 qs1 q291 (Nat.le_of_ble_eq_true rfl) (Nat.le_of_ble_eq_true rfl) (g_rI ?_) g_nt rfl
    obtain rfl := Option.some.inj hf
    exact g_iret dX0_copy_132 rfl rfl ⟨rfl, rfl⟩
def mdX0_image : bMD := (yX0_image, cX0_image, 1, (some FieldType.int), [], 8, 186)
theorem oX0_image : bOkc mdX0_image 0 := ⟨by decide +kernel, ⟨by decide +kernel, by decide +kernel⟩, by decide +kernel, q1017⟩
def fX0_image (w : bWl) (a0 : Nat) : Option (Int32 × bWl) :=
  Option.bind (hR w (okc 0) a0 1) fun v1 =>
  Option.bind (hR w (okc 0) a0 0) fun v2 =>
  Option.bind (vK 1 w v1 (fX1_become w v1 v2)) fun q3 =>
  Option.bind (hP q3 (okc 0) a0 4 (.int 1)) fun w5 =>
  some (1, w5)
set_option maxHeartbeats 4000000 in
theorem wX0_image (g : bGh) (w : bWl) (a0 : Nat) {r : (Int32 × bWl)} (hf : fX0_image w a0 = some r) : bM g mdX0_image w [.ref a0] (q_ (eI r.1) r.2) := by
  unfold fX0_image at hf
  change bG _ _ 0 [some (.ref a0)] []
  refine g_aload_n (pc' := 1) dX0_image_0 rfl rfl rfl ?_
  obtain ⟨v1, hv1, hf⟩ := Option.bind_eq_some_iff.mp hf
  refine g_get (pc' := 4) (fok_0 1 (by decide)) (Or.inl rfl) dX0_image_1 rfl q172 (hR_spec hv1) ?_
  refine g_aload_n (pc' := 5) dX0_image_4 rfl rfl rfl ?_
  obtain ⟨v2, hv2, hf⟩ := Option.bind_eq_some_iff.mp hf
  refine g_get (pc' := 8) (fok_0 0 (by decide)) (Or.inl rfl) dX0_image_5 rfl q171 (hR_spec hv2) ?_
  obtain ⟨q3, hq3, hf⟩ := Option.bind_eq_some_iff.mp hf
  obtain ⟨h4, hq3⟩ := vK_spec hq3
  refine g_callV (pc' := 11) (mx := mdX1_become) (as := [.ref v2]) (wX1_become g _ v1 v2 hq3) oX1_become ⟨Nat.le_of_ble_eq_true rfl, Nat.le_of_ble_eq_true rfl⟩ dX0_image_8 rfl (ci := 1) rfl h4 ⟨by decide +kernel, by decide +kernel⟩ oX1_become.2.2.2 rfl q706 q707 q708 q708 q707 (Nat.le_of_ble_eq_true rfl) (Nat.le_of_ble_eq_true rfl) (g_rV ?_) g_nt rfl
  refine g_aload_n (pc' := 12) dX0_image_11 rfl rfl rfl ?_
  refine g_iconst (pc' := 13) (v := 1) dX0_image_12 rfl (by decide) ?_
  obtain ⟨w5, hw5, hf⟩ := Option.bind_eq_some_iff.mp hf
  refine g_put (ty := .boolean) (pc' := 16) (fok_0 4 (by decide)) (Or.inl rfl) dX0_image_13 rfl q175 (by decide +kernel) (by decide +kernel) (by decide +kernel) hw5 ?_
  refine g_iconst (pc' := 17) (v := 1) dX0_image_16 rfl (by decide) ?_
  obtain rfl := Option.some.inj hf
  exact g_iret dX0_image_17 rfl rfl ⟨rfl, rfl⟩
def mdX0_undo : bMD := (yX0_undo, cX0_undo, 2, (some FieldType.int), [(0, 26, 27, 1)], 8, 186)
theorem oX0_undo : bOkc mdX0_undo 0 := ⟨by decide +kernel, ⟨by decide +kernel, by decide +kernel⟩, by decide +kernel, q1021⟩
def fX0_undo (w : bWl) (a0 : Nat) : Option (Int32 × bWl) :=
  Option.bind (hI w (okc 0) a0 4) fun v1 =>
  Option.bind (fX0_need w v1 3) fun q2 => sm q2.1 (fun v3 =>
  Option.bind (hR q2.2 (okc 0) a0 0) fun v5 =>
  Option.bind (hR q2.2 (okc 0) a0 1) fun v6 =>
  Option.bind (vK 1 q2.2 v5 (fX1_become q2.2 v5 v6)) fun q7 =>
  Option.bind (hR q7 (okc 0) a0 0) fun v9 =>
  Option.bind (hI q7 (okc 1) v9 2) fun v10 =>
  some (v10, q7)) (fun a4 => vK 4 q2.2 a4 (Option.bind (vK 0 q2.2 a0 (fX0_finds q2.2 a0 a4)) fun q12 =>
  some (q12.1, q12.2)))
set_option maxHeartbeats 4000000 in
theorem wX0_undo (g : bGh) (w : bWl) (a0 : Nat) {r : (Int32 × bWl)} (hf : fX0_undo w a0 = some r) : bM g mdX0_undo w [.ref a0] (q_ (eI r.1) r.2) := by
  unfold fX0_undo at hf
  change bG _ _ 0 [some (.ref a0)] []
  refine g_aload_n (pc' := 1) dX0_undo_0 rfl rfl rfl ?_
  obtain ⟨v1, hv1, hf⟩ := Option.bind_eq_some_iff.mp hf
  refine g_get (pc' := 4) (fok_0 4 (by decide)) (Or.inl rfl) dX0_undo_1 rfl q175 (hI_spec hv1) ?_
  refine g_iconst (pc' := 5) (v := 3) dX0_undo_4 rfl (by decide) ?_
  obtain ⟨q2, hq2, hf⟩ := Option.bind_eq_some_iff.mp hf
  obtain ⟨zq2, wq2⟩ := q2
  cases zq2 with
  | inl v3 =>
    replace hf : _ = some _ := hf
    refine g_callS (pc' := 8) (as := [.int v1, .int 3]) (wX0_need g _ v1 3 hq2) oX0_need ⟨Nat.le_of_ble_eq_true rfl, Nat.le_of_ble_eq_true rfl⟩ dX0_undo_5 rfl q219 q220 q83 (Nat.le_of_ble_eq_true rfl) (Nat.le_of_ble_eq_true rfl) (g_rV ?_) g_nt rfl
    refine g_aload_n (pc' := 9) dX0_undo_8 rfl rfl rfl ?_
    obtain ⟨v5, hv5, hf⟩ := Option.bind_eq_some_iff.mp hf
    refine g_get (pc' := 12) (fok_0 0 (by decide)) (Or.inl rfl) dX0_undo_9 rfl q171 (hR_spec hv5) ?_
    refine g_aload_n (pc' := 13) dX0_undo_12 rfl rfl rfl ?_
    obtain ⟨v6, hv6, hf⟩ := Option.bind_eq_some_iff.mp hf
    refine g_get (pc' := 16) (fok_0 1 (by decide)) (Or.inl rfl) dX0_undo_13 rfl q172 (hR_spec hv6) ?_
    obtain ⟨q7, hq7, hf⟩ := Option.bind_eq_some_iff.mp hf
    obtain ⟨h8, hq7⟩ := vK_spec hq7
    refine g_callV (pc' := 19) (mx := mdX1_become) (as := [.ref v6]) (wX1_become g _ v5 v6 hq7) oX1_become ⟨Nat.le_of_ble_eq_true rfl, Nat.le_of_ble_eq_true rfl⟩ dX0_undo_16 rfl (ci := 1) rfl h8 ⟨by decide +kernel, by decide +kernel⟩ oX1_become.2.2.2 rfl q706 q707 q708 q708 q707 (Nat.le_of_ble_eq_true rfl) (Nat.le_of_ble_eq_true rfl) (g_rV ?_) g_nt rfl
    refine g_aload_n (pc' := 20) dX0_undo_19 rfl rfl rfl ?_
    obtain ⟨v9, hv9, hf⟩ := Option.bind_eq_some_iff.mp hf
    refine g_get (pc' := 23) (fok_0 0 (by decide)) (Or.inl rfl) dX0_undo_20 rfl q171 (hR_spec hv9) ?_
    obtain ⟨v10, hv10, hf⟩ := Option.bind_eq_some_iff.mp hf
    refine g_get (pc' := 26) (fok_1 2 (by decide)) (Or.inl rfl) dX0_undo_23 rfl q141 (hI_spec hv10) ?_
    obtain rfl := Option.some.inj hf
    exact g_iret dX0_undo_26 rfl rfl ⟨rfl, rfl⟩
  | inr a4 =>
    replace hf : _ = some _ := hf
    refine g_callS (pc' := 8) (as := [.int v1, .int 3]) (wX0_need g _ v1 3 hq2) oX0_need ⟨Nat.le_of_ble_eq_true rfl, Nat.le_of_ble_eq_true rfl⟩ dX0_undo_5 rfl q219 q220 q83 (Nat.le_of_ble_eq_true rfl) (Nat.le_of_ble_eq_true rfl) g_nr (g_tt ?_) rfl
    obtain ⟨h11, hf⟩ := vK_spec hf
    refine t_catch (ci := 4) rfl (by decide) q204 rfl h11 ?_
    refine g_astore_n (pc' := 28) (L' := [some (.ref a0), some (.ref a4)]) dX0_undo_27 rfl rfl (Nat.le_of_ble_eq_true rfl) rfl rfl ?_
    refine g_aload_n (pc' := 29) dX0_undo_28 rfl rfl rfl ?_
    refine g_aload_n (pc' := 30) dX0_undo_29 rfl rfl rfl ?_
    obtain ⟨q12, hq12, hf⟩ := Option.bind_eq_some_iff.mp hf
    obtain ⟨h13, hq12⟩ := vK_spec hq12
    refine g_callV (pc' := 33) (mx := mdX0_finds) (as := [.ref a4]) (wX0_finds g _ a0 a4 hq12) oX0_finds ⟨Nat.le_of_ble_eq_true rfl, Nat.le_of_ble_eq_true rfl⟩ dX0_undo_30 rfl (ci := 0) rfl h13 ⟨by decide +kernel, by decide +kernel⟩ oX0_finds.2.2.2 rfl q289 q291 qs1 qs1 q291 (Nat.le_of_ble_eq_true rfl) (Nat.le_of_ble_eq_true rfl) (g_rI ?_) g_nt rfl
    obtain rfl := Option.some.inj hf
    exact g_iret dX0_undo_33 rfl rfl ⟨rfl, rfl⟩
def mdX0_tear : bMD := (yX0_tear, cX0_tear, 2, (some FieldType.int), [], 1, 12)
theorem oX0_tear : bOkc mdX0_tear 0 := ⟨by decide +kernel, ⟨by decide +kernel, by decide +kernel⟩, by decide +kernel, q1025⟩
def fX0_tear (w : bWl) (a0 : Nat) : Option (Int32 × bWl) :=
  Option.bind (hI w (okc 0) a0 4) fun v1 =>
  Option.bind (α := Int32) ((if v1 = 0 then
  some 0
else
  some 1)) fun q2 =>
  Option.bind (hP w (okc 0) a0 4 (.int 0)) fun w4 =>
  some (q2, w4)
set_option maxHeartbeats 4000000 in
theorem wX0_tear (g : bGh) (w : bWl) (a0 : Nat) {r : (Int32 × bWl)} (hf : fX0_tear w a0 = some r) : bM g mdX0_tear w [.ref a0] (q_ (eI r.1) r.2) := by
  unfold fX0_tear at hf
  change bG _ _ 0 [some (.ref a0)] []
  refine g_aload_n (pc' := 1) dX0_tear_0 rfl rfl rfl ?_
  obtain ⟨v1, hv1, hf⟩ := Option.bind_eq_some_iff.mp hf
  refine g_get (pc' := 4) (fok_0 4 (by decide)) (Or.inl rfl) dX0_tear_1 rfl q175 (hI_spec hv1) ?_
  obtain ⟨q2, hqq2, hf⟩ := Option.bind_eq_some_iff.mp hf
  have hJq2 : bG (g, mdX0_tear, w.2.1, w.2.2.1, (q_ (eI r.1) r.2)) w 12 [some (.ref a0)] [.int q2] := by
    refine g_istore_n (pc' := 13) (L' := [some (.ref a0), some (.int q2)]) dX0_tear_12 rfl rfl (Nat.le_of_ble_eq_true rfl) rfl rfl ?_
    refine g_aload_n (pc' := 14) dX0_tear_13 rfl rfl rfl ?_
    refine g_iconst (pc' := 15) (v := 0) dX0_tear_14 rfl (by decide) ?_
    obtain ⟨w4, hw4, hf⟩ := Option.bind_eq_some_iff.mp hf
    refine g_put (ty := .boolean) (pc' := 18) (fok_0 4 (by decide)) (Or.inl rfl) dX0_tear_15 rfl q175 (by decide +kernel) (by decide +kernel) (by decide +kernel) hw4 ?_
    refine g_iload_n (pc' := 19) dX0_tear_18 rfl rfl rfl ?_
    obtain rfl := Option.some.inj hf
    exact g_iret dX0_tear_19 rfl rfl ⟨rfl, rfl⟩
  replace hf := hqq2
  refine g_if_eq (tgt := 11) (pc' := 7) dX0_tear_4 (by decide) rfl (fun h3 => ?_) (fun h3 => ?_)
  · replace hf := (if_pos h3).symm.trans hf
    refine g_iconst (pc' := 12) (v := 0) dX0_tear_11 rfl (by decide) ?_
    obtain rfl := Option.some.inj hf
    exact hJq2
  · replace hf := (if_neg h3).symm.trans hf
    refine g_iconst (pc' := 8) (v := 1) dX0_tear_7 rfl (by decide) ?_
    refine g_goto (tgt := 12) dX0_tear_8 (by decide) ?_
    obtain rfl := Option.some.inj hf
    exact hJq2
def mdX0_allBeds : bMD := (yX0_allBeds, cX0_allBeds, 3, (some FieldType.int), [], 1, 12)
theorem oX0_allBeds : bOkc mdX0_allBeds 0 := ⟨by decide +kernel, ⟨by decide +kernel, by decide +kernel⟩, by decide +kernel, q1033⟩
def fX0_allBeds_l4 (w : bWl) (b0 : Nat) (rec : (Int32 × Int32) → Option (Int32 × Int32)) (s : Int32 × Int32) : Option (Int32 × Int32) :=
  (if 8 ≤ s.2 then
  some (s.1, s.2)
else
  Option.bind (hR w (okc 0) b0 0) fun v2 =>
  Option.bind (hR w (okc 1) v2 3) fun v3 =>
  Option.bind (aI w 0 v3 s.2) fun v4 =>
  rec ((s.1 + v4), (s.2 + 1)))
def fX0_allBeds (w : bWl) (a0 : Nat) : Option Int32 :=
  Option.bind (lpF (fX0_allBeds_l4 w a0) FU (0, 0)) fun q5 =>
  some q5.1
set_option maxHeartbeats 4000000 in
theorem wX0_allBeds_l4 {g : bGh} {w : bWl} {n0 u0 : Nat} {Q : Outcome → bWl → Prop} (b0 : Nat) : ∀ (n : Nat) (s : Int32 × Int32) (r : (Int32 × Int32)), lpF (fX0_allBeds_l4 w b0) n s = some r → bG (g, mdX0_allBeds, n0, u0, Q) w 28 [some (.ref b0), some (.int r.1), some (.int r.2)] [] → bG (g, mdX0_allBeds, n0, u0, Q) w 4 [some (.ref b0), some (.int s.1), some (.int s.2)] [] := by
  intro n
  induction n with
  | zero => intro s r hf; cases hf
  | succ n ih =>
    intro s r hf kx
    rw [lpF_s] at hf
    unfold fX0_allBeds_l4 at hf
    refine g_iload_n (pc' := 5) dX0_allBeds_4 rfl rfl rfl ?_
    refine g_bipush (pc' := 7) (v := 8) dX0_allBeds_5 rfl (by decide) ?_
    refine g_icmp_ge (tgt := 28) (pc' := 10) dX0_allBeds_7 (by decide) rfl (fun h1 => ?_) (fun h1 => ?_)
    · replace hf := (if_pos h1).symm.trans hf
      obtain rfl := Option.some.inj hf
      exact kx
    · replace hf := (if_neg h1).symm.trans hf
      refine g_iload_n (pc' := 11) dX0_allBeds_10 rfl rfl rfl ?_
      refine g_aload_n (pc' := 12) dX0_allBeds_11 rfl rfl rfl ?_
      obtain ⟨v2, hv2, hf⟩ := Option.bind_eq_some_iff.mp hf
      refine g_get (pc' := 15) (fok_0 0 (by decide)) (Or.inl rfl) dX0_allBeds_12 rfl q171 (hR_spec hv2) ?_
      obtain ⟨v3, hv3, hf⟩ := Option.bind_eq_some_iff.mp hf
      refine g_get (pc' := 18) (fok_1 3 (by decide)) (Or.inl rfl) dX0_allBeds_15 rfl q144 (hR_spec hv3) ?_
      refine g_iload_n (pc' := 19) dX0_allBeds_18 rfl rfl rfl ?_
      obtain ⟨v4, hv4, hf⟩ := Option.bind_eq_some_iff.mp hf
      refine g_iald (pc' := 20) dX0_allBeds_19 rfl hv4 ?_
      refine g_iadd (pc' := 21) dX0_allBeds_20 rfl ?_
      refine g_istore_n (pc' := 22) (L' := [some (.ref b0), some (.int (s.1 + v4)), some (.int s.2)]) dX0_allBeds_21 rfl rfl (Nat.le_of_ble_eq_true rfl) rfl rfl ?_
      refine g_iinc (pc' := 25) (v := s.2 + 1) (L' := [some (.ref b0), some (.int (s.1 + v4)), some (.int (s.2 + 1))]) dX0_allBeds_22 rfl rfl rfl (Nat.le_of_ble_eq_true rfl) rfl rfl ?_
      refine g_goto (tgt := 4) dX0_allBeds_25 (by decide) ?_
      exact ih _ r hf kx
set_option maxHeartbeats 4000000 in
theorem wX0_allBeds (g : bGh) (w : bWl) (a0 : Nat) {r : Int32} (hf : fX0_allBeds w a0 = some r) : bM g mdX0_allBeds w [.ref a0] (q_ (eI r) w) := by
  unfold fX0_allBeds at hf
  change bG _ _ 0 [some (.ref a0)] []
  refine g_iconst (pc' := 1) (v := 0) dX0_allBeds_0 rfl (by decide) ?_
  refine g_istore_n (pc' := 2) (L' := [some (.ref a0), some (.int 0)]) dX0_allBeds_1 rfl rfl (Nat.le_of_ble_eq_true rfl) rfl rfl ?_
  refine g_iconst (pc' := 3) (v := 0) dX0_allBeds_2 rfl (by decide) ?_
  refine g_istore_n (pc' := 4) (L' := [some (.ref a0), some (.int 0), some (.int 0)]) dX0_allBeds_3 rfl rfl (Nat.le_of_ble_eq_true rfl) rfl rfl ?_
  obtain ⟨q5, hq5, hf⟩ := Option.bind_eq_some_iff.mp hf
  refine wX0_allBeds_l4 a0 FU (0, 0) q5 hq5 ?_
  refine g_iload_n (pc' := 29) dX0_allBeds_28 rfl rfl rfl ?_
  obtain rfl := Option.some.inj hf
  exact g_iret dX0_allBeds_29 rfl rfl ⟨rfl, rfl⟩
def mdX0_count : bMD := (yX0_count, cX0_count, 3, (some FieldType.int), [(0, 70, 71, 1)], 6, 137)
theorem oX0_count : bOkc mdX0_count 1 := ⟨by decide +kernel, ⟨by decide +kernel, by decide +kernel⟩, by decide +kernel, q1029⟩
def fX0_count (w : bWl) (a0 : Nat) (x1 : Int32) : Option (Int32 × bWl) :=
  Option.bind (fX0_in ((x1 : Int32).toInt64) 0 3) fun q1 =>
  Option.bind (fX0_need w q1 0) fun q2 => sm q2.1 (fun v3 =>
  (if x1 = 0 then
  Option.bind (hR q2.2 (okc 0) a0 0) fun v17 =>
  Option.bind (hI q2.2 (okc 1) v17 2) fun v18 =>
  some (v18, q2.2)
else
  (if x1 = 1 then
  Option.bind (hI q2.2 (okc 0) a0 6) fun v16 =>
  some (v16, q2.2)
else
  (if x1 = 2 then
  Option.bind (hR q2.2 (okc 0) a0 0) fun v10 =>
  Option.bind (hI q2.2 (okc 1) v10 2) fun v11 =>
  Option.bind (hR q2.2 (okc 0) a0 0) fun v12 =>
  Option.bind (vK 1 q2.2 v12 (fX1_inside q2.2 v12 (-1))) fun q13 =>
  Option.bind (fJ3_bitCount q13) fun q15 =>
  some ((v11 - q15), q2.2)
else
  Option.bind (vK 0 q2.2 a0 (fX0_allBeds q2.2 a0)) fun q8 =>
  some (q8, q2.2))))) (fun a4 => vK 4 q2.2 a4 (Option.bind (vK 0 q2.2 a0 (fX0_finds q2.2 a0 a4)) fun q20 =>
  some (q20.1, q20.2)))
set_option maxHeartbeats 4000000 in
theorem wX0_count (g : bGh) (w : bWl) (a0 : Nat) (x1 : Int32) {r : (Int32 × bWl)} (hf : fX0_count w a0 x1 = some r) : bM g mdX0_count w [.ref a0, .int x1] (q_ (eI r.1) r.2) := by
  unfold fX0_count at hf
  change bG _ _ 0 [some (.ref a0), some (.int x1)] []
  refine g_iload_n (pc' := 1) dX0_count_0 rfl rfl rfl ?_
  refine g_i2l (pc' := 2) dX0_count_1 rfl ?_
  refine g_lconst (pc' := 3) (v := 0) dX0_count_2 rfl (by decide) ?_
  refine g_ldc2 (pc' := 6) dX0_count_3 rfl q213 ?_
  obtain ⟨q1, hq1, hf⟩ := Option.bind_eq_some_iff.mp hf
  refine g_callS (pc' := 9) (as := [.long ((x1 : Int32).toInt64), .long 0, .long 3]) (wX0_in g _ ((x1 : Int32).toInt64) 0 3 hq1) oX0_in ⟨Nat.le_of_ble_eq_true rfl, Nat.le_of_ble_eq_true rfl⟩ dX0_count_6 rfl q209 q210 q83 (Nat.le_of_ble_eq_true rfl) (Nat.le_of_ble_eq_true rfl) (g_rI ?_) g_nt rfl
  refine g_iconst (pc' := 10) (v := 0) dX0_count_9 rfl (by decide) ?_
  obtain ⟨q2, hq2, hf⟩ := Option.bind_eq_some_iff.mp hf
  obtain ⟨zq2, wq2⟩ := q2
  cases zq2 with
  | inl v3 =>
    replace hf : _ = some _ := hf
    refine g_callS (pc' := 13) (as := [.int q1, .int 0]) (wX0_need g _ q1 0 hq2) oX0_need ⟨Nat.le_of_ble_eq_true rfl, Nat.le_of_ble_eq_true rfl⟩ dX0_count_10 rfl q219 q220 q83 (Nat.le_of_ble_eq_true rfl) (Nat.le_of_ble_eq_true rfl) (g_rV ?_) g_nt rfl
    refine g_iload_n (pc' := 14) dX0_count_13 rfl rfl rfl ?_
    refine g_if_ne (tgt := 27) (pc' := 17) dX0_count_14 (by decide) rfl (fun h5 => ?_) (fun h5 => ?_)
    · replace hf := (if_neg h5).symm.trans hf
      refine g_iload_n (pc' := 28) dX0_count_27 rfl rfl rfl ?_
      refine g_iconst (pc' := 29) (v := 1) dX0_count_28 rfl (by decide) ?_
      refine g_icmp_ne (tgt := 39) (pc' := 32) dX0_count_29 (by decide) rfl (fun h6 => ?_) (fun h6 => ?_)
      · replace hf := (if_neg h6).symm.trans hf
        refine g_iload_n (pc' := 40) dX0_count_39 rfl rfl rfl ?_
        refine g_iconst (pc' := 41) (v := 2) dX0_count_40 rfl (by decide) ?_
        refine g_icmp_ne (tgt := 66) (pc' := 44) dX0_count_41 (by decide) rfl (fun h7 => ?_) (fun h7 => ?_)
        · replace hf := (if_neg h7).symm.trans hf
          refine g_aload_n (pc' := 67) dX0_count_66 rfl rfl rfl ?_
          obtain ⟨q8, hq8, hf⟩ := Option.bind_eq_some_iff.mp hf
          obtain ⟨h9, hq8⟩ := vK_spec hq8
          refine g_callV (pc' := 70) (mx := mdX0_allBeds) (as := []) (wX0_allBeds g _ a0 hq8) oX0_allBeds ⟨Nat.le_of_ble_eq_true rfl, Nat.le_of_ble_eq_true rfl⟩ dX0_count_67 rfl (ci := 0) rfl h9 ⟨by decide +kernel, by decide +kernel⟩ oX0_allBeds.2.2.2 rfl q1030 q1032 qs31 qs31 q1032 (Nat.le_of_ble_eq_true rfl) (Nat.le_of_ble_eq_true rfl) (g_rI ?_) g_nt rfl
          obtain rfl := Option.some.inj hf
          exact g_iret dX0_count_70 rfl rfl ⟨rfl, rfl⟩
        · replace hf := (if_pos h7).symm.trans hf
          refine g_aload_n (pc' := 45) dX0_count_44 rfl rfl rfl ?_
          obtain ⟨v10, hv10, hf⟩ := Option.bind_eq_some_iff.mp hf
          refine g_get (pc' := 48) (fok_0 0 (by decide)) (Or.inl rfl) dX0_count_45 rfl q171 (hR_spec hv10) ?_
          obtain ⟨v11, hv11, hf⟩ := Option.bind_eq_some_iff.mp hf
          refine g_get (pc' := 51) (fok_1 2 (by decide)) (Or.inl rfl) dX0_count_48 rfl q141 (hI_spec hv11) ?_
          refine g_aload_n (pc' := 52) dX0_count_51 rfl rfl rfl ?_
          obtain ⟨v12, hv12, hf⟩ := Option.bind_eq_some_iff.mp hf
          refine g_get (pc' := 55) (fok_0 0 (by decide)) (Or.inl rfl) dX0_count_52 rfl q171 (hR_spec hv12) ?_
          refine g_iconst (pc' := 56) (v := (-1)) dX0_count_55 rfl (by decide) ?_
          obtain ⟨q13, hq13, hf⟩ := Option.bind_eq_some_iff.mp hf
          obtain ⟨h14, hq13⟩ := vK_spec hq13
          refine g_callV (pc' := 59) (mx := mdX1_inside) (as := [.int (-1)]) (wX1_inside g _ v12 (-1) hq13) oX1_inside ⟨Nat.le_of_ble_eq_true rfl, Nat.le_of_ble_eq_true rfl⟩ dX0_count_56 rfl (ci := 1) rfl h14 ⟨by decide +kernel, by decide +kernel⟩ oX1_inside.2.2.2 rfl q303 q304 q305 q305 q304 (Nat.le_of_ble_eq_true rfl) (Nat.le_of_ble_eq_true rfl) (g_rI ?_) g_nt rfl
          obtain ⟨q15, hq15, hf⟩ := Option.bind_eq_some_iff.mp hf
          refine g_callS (pc' := 62) (as := [.int q13]) (wJ3_bitCount g _ q13 hq15) oJ3_bitCount ⟨Nat.le_of_ble_eq_true rfl, Nat.le_of_ble_eq_true rfl⟩ dX0_count_59 rfl q689 q559 q98 (Nat.le_of_ble_eq_true rfl) (Nat.le_of_ble_eq_true rfl) (g_rI ?_) g_nt rfl
          refine g_isub (pc' := 63) dX0_count_62 rfl ?_
          refine g_goto (tgt := 70) dX0_count_63 (by decide) ?_
          obtain rfl := Option.some.inj hf
          exact g_iret dX0_count_70 rfl rfl ⟨rfl, rfl⟩
      · replace hf := (if_pos h6).symm.trans hf
        refine g_aload_n (pc' := 33) dX0_count_32 rfl rfl rfl ?_
        obtain ⟨v16, hv16, hf⟩ := Option.bind_eq_some_iff.mp hf
        refine g_get (pc' := 36) (fok_0 6 (by decide)) (Or.inl rfl) dX0_count_33 rfl q177 (hI_spec hv16) ?_
        refine g_goto (tgt := 70) dX0_count_36 (by decide) ?_
        obtain rfl := Option.some.inj hf
        exact g_iret dX0_count_70 rfl rfl ⟨rfl, rfl⟩
    · replace hf := (if_pos h5).symm.trans hf
      refine g_aload_n (pc' := 18) dX0_count_17 rfl rfl rfl ?_
      obtain ⟨v17, hv17, hf⟩ := Option.bind_eq_some_iff.mp hf
      refine g_get (pc' := 21) (fok_0 0 (by decide)) (Or.inl rfl) dX0_count_18 rfl q171 (hR_spec hv17) ?_
      obtain ⟨v18, hv18, hf⟩ := Option.bind_eq_some_iff.mp hf
      refine g_get (pc' := 24) (fok_1 2 (by decide)) (Or.inl rfl) dX0_count_21 rfl q141 (hI_spec hv18) ?_
      refine g_goto (tgt := 70) dX0_count_24 (by decide) ?_
      obtain rfl := Option.some.inj hf
      exact g_iret dX0_count_70 rfl rfl ⟨rfl, rfl⟩
  | inr a4 =>
    replace hf : _ = some _ := hf
    refine g_callS (pc' := 13) (as := [.int q1, .int 0]) (wX0_need g _ q1 0 hq2) oX0_need ⟨Nat.le_of_ble_eq_true rfl, Nat.le_of_ble_eq_true rfl⟩ dX0_count_10 rfl q219 q220 q83 (Nat.le_of_ble_eq_true rfl) (Nat.le_of_ble_eq_true rfl) g_nr (g_tt ?_) rfl
    obtain ⟨h19, hf⟩ := vK_spec hf
    refine t_catch (ci := 4) rfl (by decide) q204 rfl h19 ?_
    refine g_astore_n (pc' := 72) (L' := [some (.ref a0), some (.int x1), some (.ref a4)]) dX0_count_71 rfl rfl (Nat.le_of_ble_eq_true rfl) rfl rfl ?_
    refine g_aload_n (pc' := 73) dX0_count_72 rfl rfl rfl ?_
    refine g_aload_n (pc' := 74) dX0_count_73 rfl rfl rfl ?_
    obtain ⟨q20, hq20, hf⟩ := Option.bind_eq_some_iff.mp hf
    obtain ⟨h21, hq20⟩ := vK_spec hq20
    refine g_callV (pc' := 77) (mx := mdX0_finds) (as := [.ref a4]) (wX0_finds g _ a0 a4 hq20) oX0_finds ⟨Nat.le_of_ble_eq_true rfl, Nat.le_of_ble_eq_true rfl⟩ dX0_count_74 rfl (ci := 0) rfl h21 ⟨by decide +kernel, by decide +kernel⟩ oX0_finds.2.2.2 rfl q289 q291 qs1 qs1 q291 (Nat.le_of_ble_eq_true rfl) (Nat.le_of_ble_eq_true rfl) (g_rI ?_) g_nt rfl
    obtain rfl := Option.some.inj hf
    exact g_iret dX0_count_77 rfl rfl ⟨rfl, rfl⟩
def mdX0_status : bMD := (yX0_status, cX0_status, 4, (some FieldType.int), [(0, 25, 53, 1), (26, 52, 53, 1)], 6, 137)
theorem oX0_status : bOkc mdX0_status 1 := ⟨by decide +kernel, ⟨by decide +kernel, by decide +kernel⟩, by decide +kernel, q1037⟩
def fX0_status_l30 (w : bWl) (b0 : Nat) (rec : (Int32 × Int32) → Option (Int32 × Int32)) (s : Int32 × Int32) : Option (Int32 × Int32) :=
  (if 7 ≤ s.2 then
  some (s.1, s.2)
else
  Option.bind (hR w (okc 0) b0 8) fun v7 =>
  Option.bind (aI w 0 v7 s.2) fun v8 =>
  rec ((s.1 + v8), (s.2 + 1)))
def fX0_status (w : bWl) (a0 : Nat) (x1 : Int32) : Option (Int32 × bWl) :=
  Option.bind (fX0_in ((x1 : Int32).toInt64) (-1) 6) fun q1 =>
  Option.bind (fX0_need w q1 0) fun q2 => sm q2.1 (fun v3 =>
  (if x1 < 0 then
  Option.bind (lpF (fX0_status_l30 q2.2 a0) FU (0, 0)) fun q9 =>
  some (q9.1, q2.2)
else
  Option.bind (hR q2.2 (okc 0) a0 8) fun v10 =>
  Option.bind (aI q2.2 0 v10 x1) fun v11 =>
  some (v11, q2.2))) (fun a4 => vK 4 q2.2 a4 (Option.bind (vK 0 q2.2 a0 (fX0_finds q2.2 a0 a4)) fun q13 =>
  some (q13.1, q13.2)))
set_option maxHeartbeats 4000000 in
theorem wX0_status_l30 {g : bGh} {w : bWl} {n0 u0 : Nat} {Q : Outcome → bWl → Prop} (b0 : Nat) : ∀ (n : Nat) (s : Int32 × Int32) (r : (Int32 × Int32)), lpF (fX0_status_l30 w b0) n s = some r → bG (g, mdX0_status, n0, u0, Q) w 51 [some (.ref b0), none, some (.int r.1), some (.int r.2)] [] → bG (g, mdX0_status, n0, u0, Q) w 30 [some (.ref b0), none, some (.int s.1), some (.int s.2)] [] := by
  intro n
  induction n with
  | zero => intro s r hf; cases hf
  | succ n ih =>
    intro s r hf kx
    rw [lpF_s] at hf
    unfold fX0_status_l30 at hf
    refine g_iload_n (pc' := 31) dX0_status_30 rfl rfl rfl ?_
    refine g_bipush (pc' := 33) (v := 7) dX0_status_31 rfl (by decide) ?_
    refine g_icmp_ge (tgt := 51) (pc' := 36) dX0_status_33 (by decide) rfl (fun h6 => ?_) (fun h6 => ?_)
    · replace hf := (if_pos h6).symm.trans hf
      obtain rfl := Option.some.inj hf
      exact kx
    · replace hf := (if_neg h6).symm.trans hf
      refine g_iload_n (pc' := 37) dX0_status_36 rfl rfl rfl ?_
      refine g_aload_n (pc' := 38) dX0_status_37 rfl rfl rfl ?_
      obtain ⟨v7, hv7, hf⟩ := Option.bind_eq_some_iff.mp hf
      refine g_get (pc' := 41) (fok_0 8 (by decide)) (Or.inl rfl) dX0_status_38 rfl q179 (hR_spec hv7) ?_
      refine g_iload_n (pc' := 42) dX0_status_41 rfl rfl rfl ?_
      obtain ⟨v8, hv8, hf⟩ := Option.bind_eq_some_iff.mp hf
      refine g_iald (pc' := 43) dX0_status_42 rfl hv8 ?_
      refine g_iadd (pc' := 44) dX0_status_43 rfl ?_
      refine g_istore_n (pc' := 45) (L' := [some (.ref b0), none, some (.int (s.1 + v8)), some (.int s.2)]) dX0_status_44 rfl rfl (Nat.le_of_ble_eq_true rfl) rfl rfl ?_
      refine g_iinc (pc' := 48) (v := s.2 + 1) (L' := [some (.ref b0), none, some (.int (s.1 + v8)), some (.int (s.2 + 1))]) dX0_status_45 rfl rfl rfl (Nat.le_of_ble_eq_true rfl) rfl rfl ?_
      refine g_goto (tgt := 30) dX0_status_48 (by decide) ?_
      exact ih _ r hf kx
set_option maxHeartbeats 4000000 in
theorem wX0_status (g : bGh) (w : bWl) (a0 : Nat) (x1 : Int32) {r : (Int32 × bWl)} (hf : fX0_status w a0 x1 = some r) : bM g mdX0_status w [.ref a0, .int x1] (q_ (eI r.1) r.2) := by
  unfold fX0_status at hf
  change bG _ _ 0 [some (.ref a0), some (.int x1)] []
  refine g_iload_n (pc' := 1) dX0_status_0 rfl rfl rfl ?_
  refine g_i2l (pc' := 2) dX0_status_1 rfl ?_
  refine g_ldc2 (pc' := 5) dX0_status_2 rfl q1038 ?_
  refine g_ldc2 (pc' := 8) dX0_status_5 rfl q676 ?_
  obtain ⟨q1, hq1, hf⟩ := Option.bind_eq_some_iff.mp hf
  refine g_callS (pc' := 11) (as := [.long ((x1 : Int32).toInt64), .long (-1), .long 6]) (wX0_in g _ ((x1 : Int32).toInt64) (-1) 6 hq1) oX0_in ⟨Nat.le_of_ble_eq_true rfl, Nat.le_of_ble_eq_true rfl⟩ dX0_status_8 rfl q209 q210 q83 (Nat.le_of_ble_eq_true rfl) (Nat.le_of_ble_eq_true rfl) (g_rI ?_) g_nt rfl
  refine g_iconst (pc' := 12) (v := 0) dX0_status_11 rfl (by decide) ?_
  obtain ⟨q2, hq2, hf⟩ := Option.bind_eq_some_iff.mp hf
  obtain ⟨zq2, wq2⟩ := q2
  cases zq2 with
  | inl v3 =>
    replace hf : _ = some _ := hf
    refine g_callS (pc' := 15) (as := [.int q1, .int 0]) (wX0_need g _ q1 0 hq2) oX0_need ⟨Nat.le_of_ble_eq_true rfl, Nat.le_of_ble_eq_true rfl⟩ dX0_status_12 rfl q219 q220 q83 (Nat.le_of_ble_eq_true rfl) (Nat.le_of_ble_eq_true rfl) (g_rV ?_) g_nt rfl
    refine g_iload_n (pc' := 16) dX0_status_15 rfl rfl rfl ?_
    refine g_if_lt (tgt := 26) (pc' := 19) dX0_status_16 (by decide) rfl (fun h5 => ?_) (fun h5 => ?_)
    · replace hf := (if_pos h5).symm.trans hf
      refine g_iconst (pc' := 27) (v := 0) dX0_status_26 rfl (by decide) ?_
      refine g_istore_n (pc' := 28) (L' := [some (.ref a0), some (.int x1), some (.int 0)]) dX0_status_27 rfl rfl (Nat.le_of_ble_eq_true rfl) rfl rfl ?_
      refine g_iconst (pc' := 29) (v := 0) dX0_status_28 rfl (by decide) ?_
      refine g_istore_n (pc' := 30) (L' := [some (.ref a0), some (.int x1), some (.int 0), some (.int 0)]) dX0_status_29 rfl rfl (Nat.le_of_ble_eq_true rfl) rfl rfl ?_
      refine g_drop [1] (L' := [some (.ref a0), none, some (.int 0), some (.int 0)]) rfl ?_
      obtain ⟨q9, hq9, hf⟩ := Option.bind_eq_some_iff.mp hf
      refine wX0_status_l30 a0 FU (0, 0) q9 hq9 ?_
      refine g_iload_n (pc' := 52) dX0_status_51 rfl rfl rfl ?_
      obtain rfl := Option.some.inj hf
      exact g_iret dX0_status_52 rfl rfl ⟨rfl, rfl⟩
    · replace hf := (if_neg h5).symm.trans hf
      refine g_aload_n (pc' := 20) dX0_status_19 rfl rfl rfl ?_
      obtain ⟨v10, hv10, hf⟩ := Option.bind_eq_some_iff.mp hf
      refine g_get (pc' := 23) (fok_0 8 (by decide)) (Or.inl rfl) dX0_status_20 rfl q179 (hR_spec hv10) ?_
      refine g_iload_n (pc' := 24) dX0_status_23 rfl rfl rfl ?_
      obtain ⟨v11, hv11, hf⟩ := Option.bind_eq_some_iff.mp hf
      refine g_iald (pc' := 25) dX0_status_24 rfl hv11 ?_
      obtain rfl := Option.some.inj hf
      exact g_iret dX0_status_25 rfl rfl ⟨rfl, rfl⟩
  | inr a4 =>
    replace hf : _ = some _ := hf
    refine g_callS (pc' := 15) (as := [.int q1, .int 0]) (wX0_need g _ q1 0 hq2) oX0_need ⟨Nat.le_of_ble_eq_true rfl, Nat.le_of_ble_eq_true rfl⟩ dX0_status_12 rfl q219 q220 q83 (Nat.le_of_ble_eq_true rfl) (Nat.le_of_ble_eq_true rfl) g_nr (g_tt ?_) rfl
    obtain ⟨h12, hf⟩ := vK_spec hf
    refine t_catch (ci := 4) rfl (by decide) q204 rfl h12 ?_
    refine g_astore_n (pc' := 54) (L' := [some (.ref a0), some (.int x1), some (.ref a4)]) dX0_status_53 rfl rfl (Nat.le_of_ble_eq_true rfl) rfl rfl ?_
    refine g_aload_n (pc' := 55) dX0_status_54 rfl rfl rfl ?_
    refine g_aload_n (pc' := 56) dX0_status_55 rfl rfl rfl ?_
    obtain ⟨q13, hq13, hf⟩ := Option.bind_eq_some_iff.mp hf
    obtain ⟨h14, hq13⟩ := vK_spec hq13
    refine g_callV (pc' := 59) (mx := mdX0_finds) (as := [.ref a4]) (wX0_finds g _ a0 a4 hq13) oX0_finds ⟨Nat.le_of_ble_eq_true rfl, Nat.le_of_ble_eq_true rfl⟩ dX0_status_56 rfl (ci := 0) rfl h14 ⟨by decide +kernel, by decide +kernel⟩ oX0_finds.2.2.2 rfl q289 q291 qs1 qs1 q291 (Nat.le_of_ble_eq_true rfl) (Nat.le_of_ble_eq_true rfl) (g_rI ?_) g_nt rfl
    obtain rfl := Option.some.inj hf
    exact g_iret dX0_status_59 rfl rfl ⟨rfl, rfl⟩
