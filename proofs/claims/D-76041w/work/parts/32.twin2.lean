/-! printed by tools/gen.py: 32.twin2 -/
set_option maxRecDepth 100000
def mdX3_larder : bMD := (yX3_larder, cX3_larder, 3, (some FieldType.int), [], 10, 209)
theorem oX3_larder : bOkc mdX3_larder 2 := ⟨by decide +kernel, ⟨by decide +kernel, by decide +kernel⟩, by decide +kernel, q1325⟩
def fX3_larder (M : tM) (x1 : Int32) (x2 : Int32) : Option (Int32 × tM) :=
  Option.bind (fX3_isHouse x1) fun q1 =>
  (if q1 = 0 then
  Option.bind (fX3_finds M (-1000000001)) fun q3 =>
  some (q3.1, q3.2)
else
  Option.bind (fX3_isAhead x2) fun q4 =>
  (if q4 = 0 then
  Option.bind (fX3_finds M (-1000000001)) fun q6 =>
  some (q6.1, q6.2)
else
  Option.bind (fX3_partOf x1 1) fun q7 =>
  Option.bind (fX3_behind M q7 x2) fun q8 =>
  some (q8.1, q8.2)))
set_option maxHeartbeats 4000000 in
theorem wX3_larder (g : bGh) {A : tA} (hA : tO A) (w : bWl) (M : tM) (x1 : Int32) (x2 : Int32) {r : (Int32 × tM)} (hf : fX3_larder M x1 x2 = some r) : bM g mdX3_larder (tW A M w) [.ref A.1, .int x1, .int x2] (q_ (eI r.1) (tW A r.2 w)) := by
  unfold fX3_larder at hf
  change bG _ _ 0 [some (.ref A.1), some (.int x1), some (.int x2)] []
  refine g_iload_n (pc' := 1) dX3_larder_0 rfl rfl rfl ?_
  obtain ⟨q1, hq1, hf⟩ := Option.bind_eq_some_iff.mp hf
  refine g_callS (pc' := 4) (as := [.int x1]) (wX3_isHouse g _ x1 hq1) oX3_isHouse ⟨Nat.le_of_ble_eq_true rfl, Nat.le_of_ble_eq_true rfl⟩ dX3_larder_1 rfl q1108 q1109 q86 (Nat.le_of_ble_eq_true rfl) (Nat.le_of_ble_eq_true rfl) (g_rI ?_) g_nt rfl
  refine g_if_eq (tgt := 27) (pc' := 7) dX3_larder_4 (by decide) rfl (fun h2 => ?_) (fun h2 => ?_)
  · replace hf := (if_pos h2).symm.trans hf
    refine g_aload_n (pc' := 28) dX3_larder_27 rfl rfl rfl ?_
    refine g_ldc (pc' := 30) dX3_larder_28 rfl q1116 ?_
    obtain ⟨q3, hq3, hf⟩ := Option.bind_eq_some_iff.mp hf
    refine g_callV (pc' := 33) (mx := mdX3_finds) (as := [.int (-1000000001)]) (wX3_finds g hA _ _ (-1000000001) hq3) oX3_finds ⟨Nat.le_of_ble_eq_true rfl, Nat.le_of_ble_eq_true rfl⟩ dX3_larder_30 rfl (ci := 3) rfl tC ⟨by decide +kernel, by decide +kernel⟩ oX3_finds.2.2.2 rfl q1117 q1119 qs33 qs33 q1119 (Nat.le_of_ble_eq_true rfl) (Nat.le_of_ble_eq_true rfl) (g_rI ?_) g_nt rfl
    obtain rfl := Option.some.inj hf
    exact g_iret dX3_larder_33 rfl rfl ⟨rfl, rfl⟩
  · replace hf := (if_neg h2).symm.trans hf
    refine g_iload_n (pc' := 8) dX3_larder_7 rfl rfl rfl ?_
    obtain ⟨q4, hq4, hf⟩ := Option.bind_eq_some_iff.mp hf
    refine g_callS (pc' := 11) (as := [.int x2]) (wX3_isAhead g _ x2 hq4) oX3_isAhead ⟨Nat.le_of_ble_eq_true rfl, Nat.le_of_ble_eq_true rfl⟩ dX3_larder_8 rfl q1307 q1308 q86 (Nat.le_of_ble_eq_true rfl) (Nat.le_of_ble_eq_true rfl) (g_rI ?_) g_nt rfl
    refine g_if_eq (tgt := 27) (pc' := 14) dX3_larder_11 (by decide) rfl (fun h5 => ?_) (fun h5 => ?_)
    · replace hf := (if_pos h5).symm.trans hf
      refine g_aload_n (pc' := 28) dX3_larder_27 rfl rfl rfl ?_
      refine g_ldc (pc' := 30) dX3_larder_28 rfl q1116 ?_
      obtain ⟨q6, hq6, hf⟩ := Option.bind_eq_some_iff.mp hf
      refine g_callV (pc' := 33) (mx := mdX3_finds) (as := [.int (-1000000001)]) (wX3_finds g hA _ _ (-1000000001) hq6) oX3_finds ⟨Nat.le_of_ble_eq_true rfl, Nat.le_of_ble_eq_true rfl⟩ dX3_larder_30 rfl (ci := 3) rfl tC ⟨by decide +kernel, by decide +kernel⟩ oX3_finds.2.2.2 rfl q1117 q1119 qs33 qs33 q1119 (Nat.le_of_ble_eq_true rfl) (Nat.le_of_ble_eq_true rfl) (g_rI ?_) g_nt rfl
      obtain rfl := Option.some.inj hf
      exact g_iret dX3_larder_33 rfl rfl ⟨rfl, rfl⟩
    · replace hf := (if_neg h5).symm.trans hf
      refine g_aload_n (pc' := 15) dX3_larder_14 rfl rfl rfl ?_
      refine g_iload_n (pc' := 16) dX3_larder_15 rfl rfl rfl ?_
      refine g_iconst (pc' := 17) (v := 1) dX3_larder_16 rfl (by decide) ?_
      obtain ⟨q7, hq7, hf⟩ := Option.bind_eq_some_iff.mp hf
      refine g_callS (pc' := 20) (as := [.int x1, .int 1]) (wX3_partOf g _ x1 1 hq7) oX3_partOf ⟨Nat.le_of_ble_eq_true rfl, Nat.le_of_ble_eq_true rfl⟩ dX3_larder_17 rfl q1045 q1046 q86 (Nat.le_of_ble_eq_true rfl) (Nat.le_of_ble_eq_true rfl) (g_rI ?_) g_nt rfl
      refine g_iload_n (pc' := 21) dX3_larder_20 rfl rfl rfl ?_
      obtain ⟨q8, hq8, hf⟩ := Option.bind_eq_some_iff.mp hf
      refine g_callV (pc' := 24) (mx := mdX3_behind) (as := [.int q7, .int x2]) (wX3_behind g hA _ _ q7 x2 hq8) oX3_behind ⟨Nat.le_of_ble_eq_true rfl, Nat.le_of_ble_eq_true rfl⟩ dX3_larder_21 rfl (ci := 3) rfl tC ⟨by decide +kernel, by decide +kernel⟩ oX3_behind.2.2.2 rfl q1310 q1312 qs60 qs60 q1312 (Nat.le_of_ble_eq_true rfl) (Nat.le_of_ble_eq_true rfl) (g_rI ?_) g_nt rfl
      refine g_goto (tgt := 33) dX3_larder_24 (by decide) ?_
      obtain rfl := Option.some.inj hf
      exact g_iret dX3_larder_33 rfl rfl ⟨rfl, rfl⟩
def mdX3_firstAs : bMD := (yX3_firstAs, cX3_firstAs, 5, (some FieldType.int), [], 8, 165)
theorem oX3_firstAs : bOkc mdX3_firstAs 2 := ⟨by decide +kernel, ⟨by decide +kernel, by decide +kernel⟩, by decide +kernel, q1333⟩
def fX3_firstAs_l6 (y1 : Int32) (y2 : Int32) (rec : (Int32 × tM) → Option (Int32 × tM)) (s : Int32 × tM) : Option (Int32 × tM) :=
  (if 60 < s.1 then
  some (s.1, s.2)
else
  Option.bind (rA s.2 0 y1) fun v3 =>
  (if v3 = y2 then
  some (s.1, s.2)
else
  Option.bind (fX3_day s.2) fun q5 =>
  rec ((s.1 + 1), q5)))
def fX3_firstAs (M : tM) (x1 : Int32) (x2 : Int32) : Option (Int32 × tM) :=
  Option.bind (fX3_laysAside M) fun q1 =>
  Option.bind (lpF (fX3_firstAs_l6 x1 x2) FU (0, q1)) fun q6 =>
  Option.bind (fX3_takesBack q6.2 q6.1) fun q7 =>
  (if q7.1 ≤ 60 then
  some (q7.1, q7.2)
else
  Option.bind (fX3_finds q7.2 (-1000000004)) fun q9 =>
  some (q9.1, q9.2))
set_option maxHeartbeats 4000000 in
theorem wX3_firstAs_l6 {g : bGh} {A : tA} (hA : tO A) {w : bWl} {n0 u0 : Nat} {Q : Outcome → bWl → Prop} (y1 : Int32) (y2 : Int32) : ∀ (n : Nat) (s : Int32 × tM) (r : (Int32 × tM)), lpF (fX3_firstAs_l6 y1 y2) n s = some r → bG (g, mdX3_firstAs, n0, u0, Q) (tW A r.2 w) 32 [some (.ref A.1), some (.int y1), some (.int y2), some (.int r.1)] [] → bG (g, mdX3_firstAs, n0, u0, Q) (tW A s.2 w) 6 [some (.ref A.1), some (.int y1), some (.int y2), some (.int s.1)] [] := by
  intro n
  induction n with
  | zero => intro s r hf; cases hf
  | succ n ih =>
    intro s r hf kx
    rw [lpF_s] at hf
    unfold fX3_firstAs_l6 at hf
    refine g_iload_n (pc' := 7) dX3_firstAs_6 rfl rfl rfl ?_
    refine g_bipush (pc' := 9) (v := 60) dX3_firstAs_7 rfl (by decide) ?_
    refine g_icmp_gt (tgt := 32) (pc' := 12) dX3_firstAs_9 (by decide) rfl (fun h2 => ?_) (fun h2 => ?_)
    · replace hf := (if_pos h2).symm.trans hf
      obtain rfl := Option.some.inj hf
      exact kx
    · replace hf := (if_neg h2).symm.trans hf
      refine g_aload_n (pc' := 13) dX3_firstAs_12 rfl rfl rfl ?_
      refine gt_get (k := 0) (pc' := 16) (by decide) dX3_firstAs_13 rfl q1048 rfl ?_
      refine g_iload_n (pc' := 17) dX3_firstAs_16 rfl rfl rfl ?_
      obtain ⟨v3, hv3, hf⟩ := Option.bind_eq_some_iff.mp hf
      refine gt_iald (pc' := 18) hA (by decide) dX3_firstAs_17 rfl hv3 ?_
      refine g_iload_n (pc' := 19) dX3_firstAs_18 rfl rfl rfl ?_
      refine g_icmp_eq (tgt := 32) (pc' := 22) dX3_firstAs_19 (by decide) rfl (fun h4 => ?_) (fun h4 => ?_)
      · replace hf := (if_pos h4).symm.trans hf
        obtain rfl := Option.some.inj hf
        exact kx
      · replace hf := (if_neg h4).symm.trans hf
        refine g_aload_n (pc' := 23) dX3_firstAs_22 rfl rfl rfl ?_
        obtain ⟨q5, hq5, hf⟩ := Option.bind_eq_some_iff.mp hf
        refine g_callV (pc' := 26) (mx := mdX3_day) (as := []) (wX3_day g hA _ _ hq5) oX3_day ⟨Nat.le_of_ble_eq_true rfl, Nat.le_of_ble_eq_true rfl⟩ dX3_firstAs_23 rfl (ci := 3) rfl tC ⟨by decide +kernel, by decide +kernel⟩ oX3_day.2.2.2 rfl q1263 q1265 qs51 qs51 q1265 (Nat.le_of_ble_eq_true rfl) (Nat.le_of_ble_eq_true rfl) (g_rV ?_) g_nt rfl
        refine g_iinc (pc' := 29) (v := s.1 + 1) (L' := [some (.ref A.1), some (.int y1), some (.int y2), some (.int (s.1 + 1))]) dX3_firstAs_26 rfl rfl rfl (Nat.le_of_ble_eq_true rfl) rfl rfl ?_
        refine g_goto (tgt := 6) dX3_firstAs_29 (by decide) ?_
        exact ih _ r hf kx
set_option maxHeartbeats 4000000 in
theorem wX3_firstAs (g : bGh) {A : tA} (hA : tO A) (w : bWl) (M : tM) (x1 : Int32) (x2 : Int32) {r : (Int32 × tM)} (hf : fX3_firstAs M x1 x2 = some r) : bM g mdX3_firstAs (tW A M w) [.ref A.1, .int x1, .int x2] (q_ (eI r.1) (tW A r.2 w)) := by
  unfold fX3_firstAs at hf
  change bG _ _ 0 [some (.ref A.1), some (.int x1), some (.int x2)] []
  refine g_aload_n (pc' := 1) dX3_firstAs_0 rfl rfl rfl ?_
  obtain ⟨q1, hq1, hf⟩ := Option.bind_eq_some_iff.mp hf
  refine g_callV (pc' := 4) (mx := mdX3_laysAside) (as := []) (wX3_laysAside g hA _ _ hq1) oX3_laysAside ⟨Nat.le_of_ble_eq_true rfl, Nat.le_of_ble_eq_true rfl⟩ dX3_firstAs_1 rfl (ci := 3) rfl tC ⟨by decide +kernel, by decide +kernel⟩ oX3_laysAside.2.2.2 rfl q1314 q1316 qs61 qs61 q1316 (Nat.le_of_ble_eq_true rfl) (Nat.le_of_ble_eq_true rfl) (g_rV ?_) g_nt rfl
  refine g_iconst (pc' := 5) (v := 0) dX3_firstAs_4 rfl (by decide) ?_
  refine g_istore_n (pc' := 6) (L' := [some (.ref A.1), some (.int x1), some (.int x2), some (.int 0)]) dX3_firstAs_5 rfl rfl (Nat.le_of_ble_eq_true rfl) rfl rfl ?_
  obtain ⟨q6, hq6, hf⟩ := Option.bind_eq_some_iff.mp hf
  refine wX3_firstAs_l6 hA x1 x2 FU (0, q1) q6 hq6 ?_
  refine g_aload_n (pc' := 33) dX3_firstAs_32 rfl rfl rfl ?_
  refine g_iload_n (pc' := 34) dX3_firstAs_33 rfl rfl rfl ?_
  obtain ⟨q7, hq7, hf⟩ := Option.bind_eq_some_iff.mp hf
  refine g_callV (pc' := 37) (mx := mdX3_takesBack) (as := [.int q6.1]) (wX3_takesBack g hA _ _ q6.1 hq7) oX3_takesBack ⟨Nat.le_of_ble_eq_true rfl, Nat.le_of_ble_eq_true rfl⟩ dX3_firstAs_34 rfl (ci := 3) rfl tC ⟨by decide +kernel, by decide +kernel⟩ oX3_takesBack.2.2.2 rfl q1318 q1320 qs62 qs62 q1320 (Nat.le_of_ble_eq_true rfl) (Nat.le_of_ble_eq_true rfl) (g_rI ?_) g_nt rfl
  refine g_istore (pc' := 39) (L' := [some (.ref A.1), some (.int x1), some (.int x2), some (.int q6.1), some (.int q7.1)]) dX3_firstAs_37 rfl (Nat.le_of_ble_eq_true rfl) rfl rfl ?_
  refine g_iload (pc' := 41) dX3_firstAs_39 rfl rfl ?_
  refine g_bipush (pc' := 43) (v := 60) dX3_firstAs_41 rfl (by decide) ?_
  refine g_icmp_le (tgt := 55) (pc' := 46) dX3_firstAs_43 (by decide) rfl (fun h8 => ?_) (fun h8 => ?_)
  · replace hf := (if_pos h8).symm.trans hf
    refine g_iload (pc' := 57) dX3_firstAs_55 rfl rfl ?_
    obtain rfl := Option.some.inj hf
    exact g_iret dX3_firstAs_57 rfl rfl ⟨rfl, rfl⟩
  · replace hf := (if_neg h8).symm.trans hf
    refine g_aload_n (pc' := 47) dX3_firstAs_46 rfl rfl rfl ?_
    refine g_ldc (pc' := 49) dX3_firstAs_47 rfl q1334 ?_
    obtain ⟨q9, hq9, hf⟩ := Option.bind_eq_some_iff.mp hf
    refine g_callV (pc' := 52) (mx := mdX3_finds) (as := [.int (-1000000004)]) (wX3_finds g hA _ _ (-1000000004) hq9) oX3_finds ⟨Nat.le_of_ble_eq_true rfl, Nat.le_of_ble_eq_true rfl⟩ dX3_firstAs_49 rfl (ci := 3) rfl tC ⟨by decide +kernel, by decide +kernel⟩ oX3_finds.2.2.2 rfl q1117 q1119 qs33 qs33 q1119 (Nat.le_of_ble_eq_true rfl) (Nat.le_of_ble_eq_true rfl) (g_rI ?_) g_nt rfl
    refine g_goto (tgt := 57) dX3_firstAs_52 (by decide) ?_
    obtain rfl := Option.some.inj hf
    exact g_iret dX3_firstAs_57 rfl rfl ⟨rfl, rfl⟩
def mdX3_empty : bMD := (yX3_empty, cX3_empty, 2, (some FieldType.int), [], 9, 189)
theorem oX3_empty : bOkc mdX3_empty 1 := ⟨by decide +kernel, ⟨by decide +kernel, by decide +kernel⟩, by decide +kernel, q1329⟩
def fX3_empty (M : tM) (x1 : Int32) : Option (Int32 × tM) :=
  Option.bind (fX3_isHouse x1) fun q1 =>
  (if q1 = 0 then
  Option.bind (fX3_finds M (-1000000001)) fun q3 =>
  some (q3.1, q3.2)
else
  Option.bind (fX3_partOf x1 1) fun q4 =>
  Option.bind (fX3_firstAs M q4 0) fun q5 =>
  some (q5.1, q5.2))
set_option maxHeartbeats 4000000 in
theorem wX3_empty (g : bGh) {A : tA} (hA : tO A) (w : bWl) (M : tM) (x1 : Int32) {r : (Int32 × tM)} (hf : fX3_empty M x1 = some r) : bM g mdX3_empty (tW A M w) [.ref A.1, .int x1] (q_ (eI r.1) (tW A r.2 w)) := by
  unfold fX3_empty at hf
  change bG _ _ 0 [some (.ref A.1), some (.int x1)] []
  refine g_iload_n (pc' := 1) dX3_empty_0 rfl rfl rfl ?_
  obtain ⟨q1, hq1, hf⟩ := Option.bind_eq_some_iff.mp hf
  refine g_callS (pc' := 4) (as := [.int x1]) (wX3_isHouse g _ x1 hq1) oX3_isHouse ⟨Nat.le_of_ble_eq_true rfl, Nat.le_of_ble_eq_true rfl⟩ dX3_empty_1 rfl q1108 q1109 q86 (Nat.le_of_ble_eq_true rfl) (Nat.le_of_ble_eq_true rfl) (g_rI ?_) g_nt rfl
  refine g_if_eq (tgt := 20) (pc' := 7) dX3_empty_4 (by decide) rfl (fun h2 => ?_) (fun h2 => ?_)
  · replace hf := (if_pos h2).symm.trans hf
    refine g_aload_n (pc' := 21) dX3_empty_20 rfl rfl rfl ?_
    refine g_ldc (pc' := 23) dX3_empty_21 rfl q1116 ?_
    obtain ⟨q3, hq3, hf⟩ := Option.bind_eq_some_iff.mp hf
    refine g_callV (pc' := 26) (mx := mdX3_finds) (as := [.int (-1000000001)]) (wX3_finds g hA _ _ (-1000000001) hq3) oX3_finds ⟨Nat.le_of_ble_eq_true rfl, Nat.le_of_ble_eq_true rfl⟩ dX3_empty_23 rfl (ci := 3) rfl tC ⟨by decide +kernel, by decide +kernel⟩ oX3_finds.2.2.2 rfl q1117 q1119 qs33 qs33 q1119 (Nat.le_of_ble_eq_true rfl) (Nat.le_of_ble_eq_true rfl) (g_rI ?_) g_nt rfl
    obtain rfl := Option.some.inj hf
    exact g_iret dX3_empty_26 rfl rfl ⟨rfl, rfl⟩
  · replace hf := (if_neg h2).symm.trans hf
    refine g_aload_n (pc' := 8) dX3_empty_7 rfl rfl rfl ?_
    refine g_iload_n (pc' := 9) dX3_empty_8 rfl rfl rfl ?_
    refine g_iconst (pc' := 10) (v := 1) dX3_empty_9 rfl (by decide) ?_
    obtain ⟨q4, hq4, hf⟩ := Option.bind_eq_some_iff.mp hf
    refine g_callS (pc' := 13) (as := [.int x1, .int 1]) (wX3_partOf g _ x1 1 hq4) oX3_partOf ⟨Nat.le_of_ble_eq_true rfl, Nat.le_of_ble_eq_true rfl⟩ dX3_empty_10 rfl q1045 q1046 q86 (Nat.le_of_ble_eq_true rfl) (Nat.le_of_ble_eq_true rfl) (g_rI ?_) g_nt rfl
    refine g_iconst (pc' := 14) (v := 0) dX3_empty_13 rfl (by decide) ?_
    obtain ⟨q5, hq5, hf⟩ := Option.bind_eq_some_iff.mp hf
    refine g_callV (pc' := 17) (mx := mdX3_firstAs) (as := [.int q4, .int 0]) (wX3_firstAs g hA _ _ q4 0 hq5) oX3_firstAs ⟨Nat.le_of_ble_eq_true rfl, Nat.le_of_ble_eq_true rfl⟩ dX3_empty_14 rfl (ci := 3) rfl tC ⟨by decide +kernel, by decide +kernel⟩ oX3_firstAs.2.2.2 rfl q1330 q1332 qs63 qs63 q1332 (Nat.le_of_ble_eq_true rfl) (Nat.le_of_ble_eq_true rfl) (g_rI ?_) g_nt rfl
    refine g_goto (tgt := 26) dX3_empty_17 (by decide) ?_
    obtain rfl := Option.some.inj hf
    exact g_iret dX3_empty_26 rfl rfl ⟨rfl, rfl⟩
def mdX3_many : bMD := (yX3_many, cX3_many, 2, (some FieldType.int), [], 10, 209)
theorem oX3_many : bOkc mdX3_many 1 := ⟨by decide +kernel, ⟨by decide +kernel, by decide +kernel⟩, by decide +kernel, q1338⟩
def fX3_many (M : tM) (x1 : Int32) : Option (Int32 × tM) :=
  Option.bind (fX3_isAhead x1) fun q1 =>
  (if q1 = 0 then
  Option.bind (fX3_finds M (-1000000001)) fun q3 =>
  some (q3.1, q3.2)
else
  Option.bind (fX3_behind M 0 x1) fun q4 =>
  some (q4.1, q4.2))
set_option maxHeartbeats 4000000 in
theorem wX3_many (g : bGh) {A : tA} (hA : tO A) (w : bWl) (M : tM) (x1 : Int32) {r : (Int32 × tM)} (hf : fX3_many M x1 = some r) : bM g mdX3_many (tW A M w) [.ref A.1, .int x1] (q_ (eI r.1) (tW A r.2 w)) := by
  unfold fX3_many at hf
  change bG _ _ 0 [some (.ref A.1), some (.int x1)] []
  refine g_iload_n (pc' := 1) dX3_many_0 rfl rfl rfl ?_
  obtain ⟨q1, hq1, hf⟩ := Option.bind_eq_some_iff.mp hf
  refine g_callS (pc' := 4) (as := [.int x1]) (wX3_isAhead g _ x1 hq1) oX3_isAhead ⟨Nat.le_of_ble_eq_true rfl, Nat.le_of_ble_eq_true rfl⟩ dX3_many_1 rfl q1307 q1308 q86 (Nat.le_of_ble_eq_true rfl) (Nat.le_of_ble_eq_true rfl) (g_rI ?_) g_nt rfl
  refine g_if_eq (tgt := 16) (pc' := 7) dX3_many_4 (by decide) rfl (fun h2 => ?_) (fun h2 => ?_)
  · replace hf := (if_pos h2).symm.trans hf
    refine g_aload_n (pc' := 17) dX3_many_16 rfl rfl rfl ?_
    refine g_ldc (pc' := 19) dX3_many_17 rfl q1116 ?_
    obtain ⟨q3, hq3, hf⟩ := Option.bind_eq_some_iff.mp hf
    refine g_callV (pc' := 22) (mx := mdX3_finds) (as := [.int (-1000000001)]) (wX3_finds g hA _ _ (-1000000001) hq3) oX3_finds ⟨Nat.le_of_ble_eq_true rfl, Nat.le_of_ble_eq_true rfl⟩ dX3_many_19 rfl (ci := 3) rfl tC ⟨by decide +kernel, by decide +kernel⟩ oX3_finds.2.2.2 rfl q1117 q1119 qs33 qs33 q1119 (Nat.le_of_ble_eq_true rfl) (Nat.le_of_ble_eq_true rfl) (g_rI ?_) g_nt rfl
    obtain rfl := Option.some.inj hf
    exact g_iret dX3_many_22 rfl rfl ⟨rfl, rfl⟩
  · replace hf := (if_neg h2).symm.trans hf
    refine g_aload_n (pc' := 8) dX3_many_7 rfl rfl rfl ?_
    refine g_iconst (pc' := 9) (v := 0) dX3_many_8 rfl (by decide) ?_
    refine g_iload_n (pc' := 10) dX3_many_9 rfl rfl rfl ?_
    obtain ⟨q4, hq4, hf⟩ := Option.bind_eq_some_iff.mp hf
    refine g_callV (pc' := 13) (mx := mdX3_behind) (as := [.int 0, .int x1]) (wX3_behind g hA _ _ 0 x1 hq4) oX3_behind ⟨Nat.le_of_ble_eq_true rfl, Nat.le_of_ble_eq_true rfl⟩ dX3_many_10 rfl (ci := 3) rfl tC ⟨by decide +kernel, by decide +kernel⟩ oX3_behind.2.2.2 rfl q1310 q1312 qs60 qs60 q1312 (Nat.le_of_ble_eq_true rfl) (Nat.le_of_ble_eq_true rfl) (g_rI ?_) g_nt rfl
    refine g_goto (tgt := 22) dX3_many_13 (by decide) ?_
    obtain rfl := Option.some.inj hf
    exact g_iret dX3_many_22 rfl rfl ⟨rfl, rfl⟩
def mdX3_out : bMD := (yX3_out, cX3_out, 2, (some FieldType.int), [], 9, 189)
theorem oX3_out : bOkc mdX3_out 1 := ⟨by decide +kernel, ⟨by decide +kernel, by decide +kernel⟩, by decide +kernel, q1342⟩
def fX3_out (M : tM) (x1 : Int32) : Option (Int32 × tM) :=
  Option.bind (fX3_isRumour M x1) fun q1 =>
  (if q1 = 0 then
  Option.bind (fX3_finds M (-1000000001)) fun q3 =>
  some (q3.1, q3.2)
else
  Option.bind (fX3_spotOf x1 4) fun q4 =>
  Option.bind (fX3_firstAs M q4 (-1)) fun q5 =>
  some (q5.1, q5.2))
set_option maxHeartbeats 4000000 in
theorem wX3_out (g : bGh) {A : tA} (hA : tO A) (w : bWl) (M : tM) (x1 : Int32) {r : (Int32 × tM)} (hf : fX3_out M x1 = some r) : bM g mdX3_out (tW A M w) [.ref A.1, .int x1] (q_ (eI r.1) (tW A r.2 w)) := by
  unfold fX3_out at hf
  change bG _ _ 0 [some (.ref A.1), some (.int x1)] []
  refine g_aload_n (pc' := 1) dX3_out_0 rfl rfl rfl ?_
  refine g_iload_n (pc' := 2) dX3_out_1 rfl rfl rfl ?_
  obtain ⟨q1, hq1, hf⟩ := Option.bind_eq_some_iff.mp hf
  refine g_callV (pc' := 5) (mx := mdX3_isRumour) (as := [.int x1]) (wX3_isRumour g hA _ _ x1 hq1) oX3_isRumour ⟨Nat.le_of_ble_eq_true rfl, Nat.le_of_ble_eq_true rfl⟩ dX3_out_2 rfl (ci := 3) rfl tC ⟨by decide +kernel, by decide +kernel⟩ oX3_isRumour.2.2.2 rfl q1173 q1175 qs41 qs41 q1175 (Nat.le_of_ble_eq_true rfl) (Nat.le_of_ble_eq_true rfl) (g_rI ?_) g_nt rfl
  refine g_if_eq (tgt := 21) (pc' := 8) dX3_out_5 (by decide) rfl (fun h2 => ?_) (fun h2 => ?_)
  · replace hf := (if_pos h2).symm.trans hf
    refine g_aload_n (pc' := 22) dX3_out_21 rfl rfl rfl ?_
    refine g_ldc (pc' := 24) dX3_out_22 rfl q1116 ?_
    obtain ⟨q3, hq3, hf⟩ := Option.bind_eq_some_iff.mp hf
    refine g_callV (pc' := 27) (mx := mdX3_finds) (as := [.int (-1000000001)]) (wX3_finds g hA _ _ (-1000000001) hq3) oX3_finds ⟨Nat.le_of_ble_eq_true rfl, Nat.le_of_ble_eq_true rfl⟩ dX3_out_24 rfl (ci := 3) rfl tC ⟨by decide +kernel, by decide +kernel⟩ oX3_finds.2.2.2 rfl q1117 q1119 qs33 qs33 q1119 (Nat.le_of_ble_eq_true rfl) (Nat.le_of_ble_eq_true rfl) (g_rI ?_) g_nt rfl
    obtain rfl := Option.some.inj hf
    exact g_iret dX3_out_27 rfl rfl ⟨rfl, rfl⟩
  · replace hf := (if_neg h2).symm.trans hf
    refine g_aload_n (pc' := 9) dX3_out_8 rfl rfl rfl ?_
    refine g_iload_n (pc' := 10) dX3_out_9 rfl rfl rfl ?_
    refine g_iconst (pc' := 11) (v := 4) dX3_out_10 rfl (by decide) ?_
    obtain ⟨q4, hq4, hf⟩ := Option.bind_eq_some_iff.mp hf
    refine g_callS (pc' := 14) (as := [.int x1, .int 4]) (wX3_spotOf g _ x1 4 hq4) oX3_spotOf ⟨Nat.le_of_ble_eq_true rfl, Nat.le_of_ble_eq_true rfl⟩ dX3_out_11 rfl q1138 q1139 q86 (Nat.le_of_ble_eq_true rfl) (Nat.le_of_ble_eq_true rfl) (g_rI ?_) g_nt rfl
    refine g_iconst (pc' := 15) (v := (-1)) dX3_out_14 rfl (by decide) ?_
    obtain ⟨q5, hq5, hf⟩ := Option.bind_eq_some_iff.mp hf
    refine g_callV (pc' := 18) (mx := mdX3_firstAs) (as := [.int q4, .int (-1)]) (wX3_firstAs g hA _ _ q4 (-1) hq5) oX3_firstAs ⟨Nat.le_of_ble_eq_true rfl, Nat.le_of_ble_eq_true rfl⟩ dX3_out_15 rfl (ci := 3) rfl tC ⟨by decide +kernel, by decide +kernel⟩ oX3_firstAs.2.2.2 rfl q1330 q1332 qs63 qs63 q1332 (Nat.le_of_ble_eq_true rfl) (Nat.le_of_ble_eq_true rfl) (g_rI ?_) g_nt rfl
    refine g_goto (tgt := 27) dX3_out_18 (by decide) ?_
    obtain rfl := Option.some.inj hf
    exact g_iret dX3_out_27 rfl rfl ⟨rfl, rfl⟩
def mdX3_wrongLodger : bMD := (yX3_wrongLodger, cX3_wrongLodger, 2, (some FieldType.int), [], 3, 55)
theorem oX3_wrongLodger : bOkc mdX3_wrongLodger 1 := ⟨by decide +kernel, ⟨by decide +kernel, by decide +kernel⟩, by decide +kernel, q1350⟩
def fX3_wrongLodger (M : tM) (x1 : Int32) : Option Int32 :=
  Option.bind (fX3_its M x1 4) fun q1 =>
  (if q1 = (-1) then
  some (-1000000005)
else
  some 0)
set_option maxHeartbeats 4000000 in
theorem wX3_wrongLodger (g : bGh) {A : tA} (hA : tO A) (w : bWl) (M : tM) (x1 : Int32) {r : Int32} (hf : fX3_wrongLodger M x1 = some r) : bM g mdX3_wrongLodger (tW A M w) [.ref A.1, .int x1] (q_ (eI r) (tW A M w)) := by
  unfold fX3_wrongLodger at hf
  change bG _ _ 0 [some (.ref A.1), some (.int x1)] []
  refine g_aload_n (pc' := 1) dX3_wrongLodger_0 rfl rfl rfl ?_
  refine g_iload_n (pc' := 2) dX3_wrongLodger_1 rfl rfl rfl ?_
  refine g_iconst (pc' := 3) (v := 4) dX3_wrongLodger_2 rfl (by decide) ?_
  obtain ⟨q1, hq1, hf⟩ := Option.bind_eq_some_iff.mp hf
  refine g_callV (pc' := 6) (mx := mdX3_its) (as := [.int x1, .int 4]) (wX3_its g hA _ _ x1 4 hq1) oX3_its ⟨Nat.le_of_ble_eq_true rfl, Nat.le_of_ble_eq_true rfl⟩ dX3_wrongLodger_3 rfl (ci := 3) rfl tC ⟨by decide +kernel, by decide +kernel⟩ oX3_its.2.2.2 rfl q1134 q1136 qs36 qs36 q1136 (Nat.le_of_ble_eq_true rfl) (Nat.le_of_ble_eq_true rfl) (g_rI ?_) g_nt rfl
  refine g_iconst (pc' := 7) (v := (-1)) dX3_wrongLodger_6 rfl (by decide) ?_
  refine g_icmp_ne (tgt := 15) (pc' := 10) dX3_wrongLodger_7 (by decide) rfl (fun h2 => ?_) (fun h2 => ?_)
  · replace hf := (if_neg h2).symm.trans hf
    refine g_iconst (pc' := 16) (v := 0) dX3_wrongLodger_15 rfl (by decide) ?_
    obtain rfl := Option.some.inj hf
    exact g_iret dX3_wrongLodger_16 rfl rfl ⟨rfl, rfl⟩
  · replace hf := (if_pos h2).symm.trans hf
    refine g_ldc (pc' := 12) dX3_wrongLodger_10 rfl q1225 ?_
    refine g_goto (tgt := 16) dX3_wrongLodger_12 (by decide) ?_
    obtain rfl := Option.some.inj hf
    exact g_iret dX3_wrongLodger_16 rfl rfl ⟨rfl, rfl⟩
def mdX3_fewest : bMD := (yX3_fewest, cX3_fewest, 5, (some FieldType.int), [], 7, 146)
theorem oX3_fewest : bOkc mdX3_fewest 2 := ⟨by decide +kernel, ⟨by decide +kernel, by decide +kernel⟩, by decide +kernel, q1346⟩
def fX3_fewest_l43 (y1 : Int32) (y2 : Int32) (rec : (Int32 × tM) → Option (Int32 × tM)) (s : Int32 × tM) : Option (Int32 × tM) :=
  (if 40 < s.1 then
  some (s.1, s.2)
else
  Option.bind (fX3_its s.2 y1 4) fun q10 =>
  (if q10 = y2 then
  some (s.1, s.2)
else
  Option.bind (fX3_isImproved s.2 y1 1) fun q12 =>
  rec ((s.1 + 1), q12)))
def fX3_fewest (M : tM) (x1 : Int32) (x2 : Int32) : Option (Int32 × tM) :=
  Option.bind (fX3_isRumour M x1) fun q1 =>
  (if q1 = 0 then
  Option.bind (fX3_finds M (-1000000001)) fun q3 =>
  some (q3.1, q3.2)
else
  Option.bind (fX3_isHouse x2) fun q4 =>
  (if q4 = 0 then
  Option.bind (fX3_finds M (-1000000001)) fun q18 =>
  some (q18.1, q18.2)
else
  Option.bind (fX3_wrongLodger M x1) fun q6 =>
  (if q6 = 0 then
  Option.bind (fX3_laysAside M) fun q8 =>
  Option.bind (lpF (fX3_fewest_l43 x1 x2) FU (0, q8)) fun q13 =>
  Option.bind (fX3_takesBack q13.2 q13.1) fun q14 =>
  (if q14.1 ≤ 40 then
  some (q14.1, q14.2)
else
  Option.bind (fX3_finds q14.2 (-1000000004)) fun q16 =>
  some (q16.1, q16.2))
else
  Option.bind (fX3_finds M (-1000000005)) fun q17 =>
  some (q17.1, q17.2))))
set_option maxHeartbeats 4000000 in
theorem wX3_fewest_l43 {g : bGh} {A : tA} (hA : tO A) {w : bWl} {n0 u0 : Nat} {Q : Outcome → bWl → Prop} (y1 : Int32) (y2 : Int32) : ∀ (n : Nat) (s : Int32 × tM) (r : (Int32 × tM)), lpF (fX3_fewest_l43 y1 y2) n s = some r → bG (g, mdX3_fewest, n0, u0, Q) (tW A r.2 w) 71 [some (.ref A.1), some (.int y1), some (.int y2), some (.int r.1)] [] → bG (g, mdX3_fewest, n0, u0, Q) (tW A s.2 w) 43 [some (.ref A.1), some (.int y1), some (.int y2), some (.int s.1)] [] := by
  intro n
  induction n with
  | zero => intro s r hf; cases hf
  | succ n ih =>
    intro s r hf kx
    rw [lpF_s] at hf
    unfold fX3_fewest_l43 at hf
    refine g_iload_n (pc' := 44) dX3_fewest_43 rfl rfl rfl ?_
    refine g_bipush (pc' := 46) (v := 40) dX3_fewest_44 rfl (by decide) ?_
    refine g_icmp_gt (tgt := 71) (pc' := 49) dX3_fewest_46 (by decide) rfl (fun h9 => ?_) (fun h9 => ?_)
    · replace hf := (if_pos h9).symm.trans hf
      obtain rfl := Option.some.inj hf
      exact kx
    · replace hf := (if_neg h9).symm.trans hf
      refine g_aload_n (pc' := 50) dX3_fewest_49 rfl rfl rfl ?_
      refine g_iload_n (pc' := 51) dX3_fewest_50 rfl rfl rfl ?_
      refine g_iconst (pc' := 52) (v := 4) dX3_fewest_51 rfl (by decide) ?_
      obtain ⟨q10, hq10, hf⟩ := Option.bind_eq_some_iff.mp hf
      refine g_callV (pc' := 55) (mx := mdX3_its) (as := [.int y1, .int 4]) (wX3_its g hA _ _ y1 4 hq10) oX3_its ⟨Nat.le_of_ble_eq_true rfl, Nat.le_of_ble_eq_true rfl⟩ dX3_fewest_52 rfl (ci := 3) rfl tC ⟨by decide +kernel, by decide +kernel⟩ oX3_its.2.2.2 rfl q1134 q1136 qs36 qs36 q1136 (Nat.le_of_ble_eq_true rfl) (Nat.le_of_ble_eq_true rfl) (g_rI ?_) g_nt rfl
      refine g_iload_n (pc' := 56) dX3_fewest_55 rfl rfl rfl ?_
      refine g_icmp_eq (tgt := 71) (pc' := 59) dX3_fewest_56 (by decide) rfl (fun h11 => ?_) (fun h11 => ?_)
      · replace hf := (if_pos h11).symm.trans hf
        obtain rfl := Option.some.inj hf
        exact kx
      · replace hf := (if_neg h11).symm.trans hf
        refine g_aload_n (pc' := 60) dX3_fewest_59 rfl rfl rfl ?_
        refine g_iload_n (pc' := 61) dX3_fewest_60 rfl rfl rfl ?_
        refine g_iconst (pc' := 62) (v := 1) dX3_fewest_61 rfl (by decide) ?_
        obtain ⟨q12, hq12, hf⟩ := Option.bind_eq_some_iff.mp hf
        refine g_callV (pc' := 65) (mx := mdX3_isImproved) (as := [.int y1, .int 1]) (wX3_isImproved g hA _ _ y1 1 hq12) oX3_isImproved ⟨Nat.le_of_ble_eq_true rfl, Nat.le_of_ble_eq_true rfl⟩ dX3_fewest_62 rfl (ci := 3) rfl tC ⟨by decide +kernel, by decide +kernel⟩ oX3_isImproved.2.2.2 rfl q1235 q1237 qs48 qs48 q1237 (Nat.le_of_ble_eq_true rfl) (Nat.le_of_ble_eq_true rfl) (g_rV ?_) g_nt rfl
        refine g_iinc (pc' := 68) (v := s.1 + 1) (L' := [some (.ref A.1), some (.int y1), some (.int y2), some (.int (s.1 + 1))]) dX3_fewest_65 rfl rfl rfl (Nat.le_of_ble_eq_true rfl) rfl rfl ?_
        refine g_goto (tgt := 43) dX3_fewest_68 (by decide) ?_
        exact ih _ r hf kx
set_option maxHeartbeats 4000000 in
theorem wX3_fewest (g : bGh) {A : tA} (hA : tO A) (w : bWl) (M : tM) (x1 : Int32) (x2 : Int32) {r : (Int32 × tM)} (hf : fX3_fewest M x1 x2 = some r) : bM g mdX3_fewest (tW A M w) [.ref A.1, .int x1, .int x2] (q_ (eI r.1) (tW A r.2 w)) := by
  unfold fX3_fewest at hf
  change bG _ _ 0 [some (.ref A.1), some (.int x1), some (.int x2)] []
  refine g_aload_n (pc' := 1) dX3_fewest_0 rfl rfl rfl ?_
  refine g_iload_n (pc' := 2) dX3_fewest_1 rfl rfl rfl ?_
  obtain ⟨q1, hq1, hf⟩ := Option.bind_eq_some_iff.mp hf
  refine g_callV (pc' := 5) (mx := mdX3_isRumour) (as := [.int x1]) (wX3_isRumour g hA _ _ x1 hq1) oX3_isRumour ⟨Nat.le_of_ble_eq_true rfl, Nat.le_of_ble_eq_true rfl⟩ dX3_fewest_2 rfl (ci := 3) rfl tC ⟨by decide +kernel, by decide +kernel⟩ oX3_isRumour.2.2.2 rfl q1173 q1175 qs41 qs41 q1175 (Nat.le_of_ble_eq_true rfl) (Nat.le_of_ble_eq_true rfl) (g_rI ?_) g_nt rfl
  refine g_if_eq (tgt := 15) (pc' := 8) dX3_fewest_5 (by decide) rfl (fun h2 => ?_) (fun h2 => ?_)
  · replace hf := (if_pos h2).symm.trans hf
    refine g_aload_n (pc' := 16) dX3_fewest_15 rfl rfl rfl ?_
    refine g_ldc (pc' := 18) dX3_fewest_16 rfl q1116 ?_
    obtain ⟨q3, hq3, hf⟩ := Option.bind_eq_some_iff.mp hf
    refine g_callV (pc' := 21) (mx := mdX3_finds) (as := [.int (-1000000001)]) (wX3_finds g hA _ _ (-1000000001) hq3) oX3_finds ⟨Nat.le_of_ble_eq_true rfl, Nat.le_of_ble_eq_true rfl⟩ dX3_fewest_18 rfl (ci := 3) rfl tC ⟨by decide +kernel, by decide +kernel⟩ oX3_finds.2.2.2 rfl q1117 q1119 qs33 qs33 q1119 (Nat.le_of_ble_eq_true rfl) (Nat.le_of_ble_eq_true rfl) (g_rI ?_) g_nt rfl
    obtain rfl := Option.some.inj hf
    exact g_iret dX3_fewest_21 rfl rfl ⟨rfl, rfl⟩
  · replace hf := (if_neg h2).symm.trans hf
    refine g_iload_n (pc' := 9) dX3_fewest_8 rfl rfl rfl ?_
    obtain ⟨q4, hq4, hf⟩ := Option.bind_eq_some_iff.mp hf
    refine g_callS (pc' := 12) (as := [.int x2]) (wX3_isHouse g _ x2 hq4) oX3_isHouse ⟨Nat.le_of_ble_eq_true rfl, Nat.le_of_ble_eq_true rfl⟩ dX3_fewest_9 rfl q1108 q1109 q86 (Nat.le_of_ble_eq_true rfl) (Nat.le_of_ble_eq_true rfl) (g_rI ?_) g_nt rfl
    refine g_if_ne (tgt := 22) (pc' := 15) dX3_fewest_12 (by decide) rfl (fun h5 => ?_) (fun h5 => ?_)
    · replace hf := (if_neg h5).symm.trans hf
      refine g_aload_n (pc' := 23) dX3_fewest_22 rfl rfl rfl ?_
      refine g_iload_n (pc' := 24) dX3_fewest_23 rfl rfl rfl ?_
      obtain ⟨q6, hq6, hf⟩ := Option.bind_eq_some_iff.mp hf
      refine g_callV (pc' := 27) (mx := mdX3_wrongLodger) (as := [.int x1]) (wX3_wrongLodger g hA _ _ x1 hq6) oX3_wrongLodger ⟨Nat.le_of_ble_eq_true rfl, Nat.le_of_ble_eq_true rfl⟩ dX3_fewest_24 rfl (ci := 3) rfl tC ⟨by decide +kernel, by decide +kernel⟩ oX3_wrongLodger.2.2.2 rfl q1347 q1349 qs64 qs64 q1349 (Nat.le_of_ble_eq_true rfl) (Nat.le_of_ble_eq_true rfl) (g_rI ?_) g_nt rfl
      refine g_if_eq (tgt := 37) (pc' := 30) dX3_fewest_27 (by decide) rfl (fun h7 => ?_) (fun h7 => ?_)
      · replace hf := (if_pos h7).symm.trans hf
        refine g_aload_n (pc' := 38) dX3_fewest_37 rfl rfl rfl ?_
        obtain ⟨q8, hq8, hf⟩ := Option.bind_eq_some_iff.mp hf
        refine g_callV (pc' := 41) (mx := mdX3_laysAside) (as := []) (wX3_laysAside g hA _ _ hq8) oX3_laysAside ⟨Nat.le_of_ble_eq_true rfl, Nat.le_of_ble_eq_true rfl⟩ dX3_fewest_38 rfl (ci := 3) rfl tC ⟨by decide +kernel, by decide +kernel⟩ oX3_laysAside.2.2.2 rfl q1314 q1316 qs61 qs61 q1316 (Nat.le_of_ble_eq_true rfl) (Nat.le_of_ble_eq_true rfl) (g_rV ?_) g_nt rfl
        refine g_iconst (pc' := 42) (v := 0) dX3_fewest_41 rfl (by decide) ?_
        refine g_istore_n (pc' := 43) (L' := [some (.ref A.1), some (.int x1), some (.int x2), some (.int 0)]) dX3_fewest_42 rfl rfl (Nat.le_of_ble_eq_true rfl) rfl rfl ?_
        obtain ⟨q13, hq13, hf⟩ := Option.bind_eq_some_iff.mp hf
        refine wX3_fewest_l43 hA x1 x2 FU (0, q8) q13 hq13 ?_
        refine g_aload_n (pc' := 72) dX3_fewest_71 rfl rfl rfl ?_
        refine g_iload_n (pc' := 73) dX3_fewest_72 rfl rfl rfl ?_
        obtain ⟨q14, hq14, hf⟩ := Option.bind_eq_some_iff.mp hf
        refine g_callV (pc' := 76) (mx := mdX3_takesBack) (as := [.int q13.1]) (wX3_takesBack g hA _ _ q13.1 hq14) oX3_takesBack ⟨Nat.le_of_ble_eq_true rfl, Nat.le_of_ble_eq_true rfl⟩ dX3_fewest_73 rfl (ci := 3) rfl tC ⟨by decide +kernel, by decide +kernel⟩ oX3_takesBack.2.2.2 rfl q1318 q1320 qs62 qs62 q1320 (Nat.le_of_ble_eq_true rfl) (Nat.le_of_ble_eq_true rfl) (g_rI ?_) g_nt rfl
        refine g_istore (pc' := 78) (L' := [some (.ref A.1), some (.int x1), some (.int x2), some (.int q13.1), some (.int q14.1)]) dX3_fewest_76 rfl (Nat.le_of_ble_eq_true rfl) rfl rfl ?_
        refine g_iload (pc' := 80) dX3_fewest_78 rfl rfl ?_
        refine g_bipush (pc' := 82) (v := 40) dX3_fewest_80 rfl (by decide) ?_
        refine g_icmp_le (tgt := 94) (pc' := 85) dX3_fewest_82 (by decide) rfl (fun h15 => ?_) (fun h15 => ?_)
        · replace hf := (if_pos h15).symm.trans hf
          refine g_iload (pc' := 96) dX3_fewest_94 rfl rfl ?_
          obtain rfl := Option.some.inj hf
          exact g_iret dX3_fewest_96 rfl rfl ⟨rfl, rfl⟩
        · replace hf := (if_neg h15).symm.trans hf
          refine g_aload_n (pc' := 86) dX3_fewest_85 rfl rfl rfl ?_
          refine g_ldc (pc' := 88) dX3_fewest_86 rfl q1334 ?_
          obtain ⟨q16, hq16, hf⟩ := Option.bind_eq_some_iff.mp hf
          refine g_callV (pc' := 91) (mx := mdX3_finds) (as := [.int (-1000000004)]) (wX3_finds g hA _ _ (-1000000004) hq16) oX3_finds ⟨Nat.le_of_ble_eq_true rfl, Nat.le_of_ble_eq_true rfl⟩ dX3_fewest_88 rfl (ci := 3) rfl tC ⟨by decide +kernel, by decide +kernel⟩ oX3_finds.2.2.2 rfl q1117 q1119 qs33 qs33 q1119 (Nat.le_of_ble_eq_true rfl) (Nat.le_of_ble_eq_true rfl) (g_rI ?_) g_nt rfl
          refine g_goto (tgt := 96) dX3_fewest_91 (by decide) ?_
          obtain rfl := Option.some.inj hf
          exact g_iret dX3_fewest_96 rfl rfl ⟨rfl, rfl⟩
      · replace hf := (if_neg h7).symm.trans hf
        refine g_aload_n (pc' := 31) dX3_fewest_30 rfl rfl rfl ?_
        refine g_ldc (pc' := 33) dX3_fewest_31 rfl q1225 ?_
        obtain ⟨q17, hq17, hf⟩ := Option.bind_eq_some_iff.mp hf
        refine g_callV (pc' := 36) (mx := mdX3_finds) (as := [.int (-1000000005)]) (wX3_finds g hA _ _ (-1000000005) hq17) oX3_finds ⟨Nat.le_of_ble_eq_true rfl, Nat.le_of_ble_eq_true rfl⟩ dX3_fewest_33 rfl (ci := 3) rfl tC ⟨by decide +kernel, by decide +kernel⟩ oX3_finds.2.2.2 rfl q1117 q1119 qs33 qs33 q1119 (Nat.le_of_ble_eq_true rfl) (Nat.le_of_ble_eq_true rfl) (g_rI ?_) g_nt rfl
        obtain rfl := Option.some.inj hf
        exact g_iret dX3_fewest_36 rfl rfl ⟨rfl, rfl⟩
    · replace hf := (if_pos h5).symm.trans hf
      refine g_aload_n (pc' := 16) dX3_fewest_15 rfl rfl rfl ?_
      refine g_ldc (pc' := 18) dX3_fewest_16 rfl q1116 ?_
      obtain ⟨q18, hq18, hf⟩ := Option.bind_eq_some_iff.mp hf
      refine g_callV (pc' := 21) (mx := mdX3_finds) (as := [.int (-1000000001)]) (wX3_finds g hA _ _ (-1000000001) hq18) oX3_finds ⟨Nat.le_of_ble_eq_true rfl, Nat.le_of_ble_eq_true rfl⟩ dX3_fewest_18 rfl (ci := 3) rfl tC ⟨by decide +kernel, by decide +kernel⟩ oX3_finds.2.2.2 rfl q1117 q1119 qs33 qs33 q1119 (Nat.le_of_ble_eq_true rfl) (Nat.le_of_ble_eq_true rfl) (g_rI ?_) g_nt rfl
      obtain rfl := Option.some.inj hf
      exact g_iret dX3_fewest_21 rfl rfl ⟨rfl, rfl⟩
def mdX3_least : bMD := (yX3_least, cX3_least, 5, (some FieldType.int), [], 7, 146)
theorem oX3_least : bOkc mdX3_least 1 := ⟨by decide +kernel, ⟨by decide +kernel, by decide +kernel⟩, by decide +kernel, q1354⟩
def fX3_least_l46 (y1 : Int32) (y2 : Int32) (rec : (Int32 × Int32 × tM) → Option (Int32 × Int32 × tM)) (s : Int32 × Int32 × tM) : Option (Int32 × Int32 × tM) :=
  (if 20 < s.2.1 then
  some (s.1, s.2.1, s.2.2)
else
  (if 0 ≤ s.1 then
  some (s.1, s.2.1, s.2.2)
else
  Option.bind (fX3_isImproved s.2.2 y1 s.2.1) fun q9 =>
  Option.bind (fX3_its q9 y1 4) fun q10 =>
  Option.bind (α := Int32) ((if q10 = y2 then
  some (-1)
else
  some s.2.1)) fun q11 =>
  Option.bind (fX3_takesBack q9 q11) fun q13 =>
  rec (q13.1, (s.2.1 + 1), q13.2)))
def fX3_least (M : tM) (x1 : Int32) : Option (Int32 × tM) :=
  Option.bind (fX3_isRumour M x1) fun q1 =>
  (if q1 = 0 then
  Option.bind (fX3_finds M (-1000000001)) fun q18 =>
  some (q18.1, q18.2)
else
  Option.bind (fX3_wrongLodger M x1) fun q3 =>
  (if q3 = 0 then
  Option.bind (fX3_its M x1 4) fun q5 =>
  Option.bind (fX3_laysAside M) fun q6 =>
  Option.bind (lpF (fX3_least_l46 x1 q5) FU ((-1), 1, q6)) fun q14 =>
  (if 0 ≤ q14.1 then
  some (q14.1, q14.2.2)
else
  Option.bind (fX3_finds q14.2.2 (-1000000004)) fun q16 =>
  some (q16.1, q16.2))
else
  Option.bind (fX3_finds M (-1000000005)) fun q17 =>
  some (q17.1, q17.2)))
set_option maxHeartbeats 4000000 in
theorem wX3_least_l46 {g : bGh} {A : tA} (hA : tO A) {w : bWl} {n0 u0 : Nat} {Q : Outcome → bWl → Prop} (y1 : Int32) (y2 : Int32) : ∀ (n : Nat) (s : Int32 × Int32 × tM) (r : (Int32 × Int32 × tM)), lpF (fX3_least_l46 y1 y2) n s = some r → bG (g, mdX3_least, n0, u0, Q) (tW A r.2.2 w) 91 [some (.ref A.1), some (.int y1), some (.int y2), some (.int r.1), some (.int r.2.1)] [] → bG (g, mdX3_least, n0, u0, Q) (tW A s.2.2 w) 46 [some (.ref A.1), some (.int y1), some (.int y2), some (.int s.1), some (.int s.2.1)] [] := by
  intro n
  induction n with
  | zero => intro s r hf; cases hf
  | succ n ih =>
    intro s r hf kx
    rw [lpF_s] at hf
    unfold fX3_least_l46 at hf
    refine g_iload (pc' := 48) dX3_least_46 rfl rfl ?_
    refine g_bipush (pc' := 50) (v := 20) dX3_least_48 rfl (by decide) ?_
    refine g_icmp_gt (tgt := 91) (pc' := 53) dX3_least_50 (by decide) rfl (fun h7 => ?_) (fun h7 => ?_)
    · replace hf := (if_pos h7).symm.trans hf
      obtain rfl := Option.some.inj hf
      exact kx
    · replace hf := (if_neg h7).symm.trans hf
      refine g_iload_n (pc' := 54) dX3_least_53 rfl rfl rfl ?_
      refine g_if_ge (tgt := 91) (pc' := 57) dX3_least_54 (by decide) rfl (fun h8 => ?_) (fun h8 => ?_)
      · replace hf := (if_pos h8).symm.trans hf
        obtain rfl := Option.some.inj hf
        exact kx
      · replace hf := (if_neg h8).symm.trans hf
        refine g_aload_n (pc' := 58) dX3_least_57 rfl rfl rfl ?_
        refine g_iload_n (pc' := 59) dX3_least_58 rfl rfl rfl ?_
        refine g_iload (pc' := 61) dX3_least_59 rfl rfl ?_
        obtain ⟨q9, hq9, hf⟩ := Option.bind_eq_some_iff.mp hf
        refine g_callV (pc' := 64) (mx := mdX3_isImproved) (as := [.int y1, .int s.2.1]) (wX3_isImproved g hA _ _ y1 s.2.1 hq9) oX3_isImproved ⟨Nat.le_of_ble_eq_true rfl, Nat.le_of_ble_eq_true rfl⟩ dX3_least_61 rfl (ci := 3) rfl tC ⟨by decide +kernel, by decide +kernel⟩ oX3_isImproved.2.2.2 rfl q1235 q1237 qs48 qs48 q1237 (Nat.le_of_ble_eq_true rfl) (Nat.le_of_ble_eq_true rfl) (g_rV ?_) g_nt rfl
        refine g_aload_n (pc' := 65) dX3_least_64 rfl rfl rfl ?_
        refine g_aload_n (pc' := 66) dX3_least_65 rfl rfl rfl ?_
        refine g_iload_n (pc' := 67) dX3_least_66 rfl rfl rfl ?_
        refine g_iconst (pc' := 68) (v := 4) dX3_least_67 rfl (by decide) ?_
        obtain ⟨q10, hq10, hf⟩ := Option.bind_eq_some_iff.mp hf
        refine g_callV (pc' := 71) (mx := mdX3_its) (as := [.int y1, .int 4]) (wX3_its g hA _ _ y1 4 hq10) oX3_its ⟨Nat.le_of_ble_eq_true rfl, Nat.le_of_ble_eq_true rfl⟩ dX3_least_68 rfl (ci := 3) rfl tC ⟨by decide +kernel, by decide +kernel⟩ oX3_its.2.2.2 rfl q1134 q1136 qs36 qs36 q1136 (Nat.le_of_ble_eq_true rfl) (Nat.le_of_ble_eq_true rfl) (g_rI ?_) g_nt rfl
        refine g_iload_n (pc' := 72) dX3_least_71 rfl rfl rfl ?_
        obtain ⟨q11, hqq11, hf⟩ := Option.bind_eq_some_iff.mp hf
        have hJq11 : bG (g, mdX3_least, n0, u0, Q) (tW A q9 w) 81 [some (.ref A.1), some (.int y1), some (.int y2), none, some (.int s.2.1)] [.int q11, .ref A.1] := by
          obtain ⟨q13, hq13, hf⟩ := Option.bind_eq_some_iff.mp hf
          refine g_callV (pc' := 84) (mx := mdX3_takesBack) (as := [.int q11]) (wX3_takesBack g hA _ _ q11 hq13) oX3_takesBack ⟨Nat.le_of_ble_eq_true rfl, Nat.le_of_ble_eq_true rfl⟩ dX3_least_81 rfl (ci := 3) rfl tC ⟨by decide +kernel, by decide +kernel⟩ oX3_takesBack.2.2.2 rfl q1318 q1320 qs62 qs62 q1320 (Nat.le_of_ble_eq_true rfl) (Nat.le_of_ble_eq_true rfl) (g_rI ?_) g_nt rfl
          refine g_istore_n (pc' := 85) (L' := [some (.ref A.1), some (.int y1), some (.int y2), some (.int q13.1), some (.int s.2.1)]) dX3_least_84 rfl rfl (Nat.le_of_ble_eq_true rfl) rfl rfl ?_
          refine g_iinc (pc' := 88) (v := s.2.1 + 1) (L' := [some (.ref A.1), some (.int y1), some (.int y2), some (.int q13.1), some (.int (s.2.1 + 1))]) dX3_least_85 rfl rfl rfl (Nat.le_of_ble_eq_true rfl) rfl rfl ?_
          refine g_goto (tgt := 46) dX3_least_88 (by decide) ?_
          exact ih _ r hf kx
        replace hf := hqq11
        refine g_icmp_eq (tgt := 80) (pc' := 75) dX3_least_72 (by decide) rfl (fun h12 => ?_) (fun h12 => ?_)
        · replace hf := (if_pos h12).symm.trans hf
          refine g_iconst (pc' := 81) (v := (-1)) dX3_least_80 rfl (by decide) ?_
          obtain rfl := Option.some.inj hf
          refine g_drop [3] (L' := [some (.ref A.1), some (.int y1), some (.int y2), none, some (.int s.2.1)]) rfl ?_
          exact hJq11
        · replace hf := (if_neg h12).symm.trans hf
          refine g_iload (pc' := 77) dX3_least_75 rfl rfl ?_
          refine g_goto (tgt := 81) dX3_least_77 (by decide) ?_
          obtain rfl := Option.some.inj hf
          refine g_drop [3] (L' := [some (.ref A.1), some (.int y1), some (.int y2), none, some (.int s.2.1)]) rfl ?_
          exact hJq11
set_option maxHeartbeats 4000000 in
theorem wX3_least (g : bGh) {A : tA} (hA : tO A) (w : bWl) (M : tM) (x1 : Int32) {r : (Int32 × tM)} (hf : fX3_least M x1 = some r) : bM g mdX3_least (tW A M w) [.ref A.1, .int x1] (q_ (eI r.1) (tW A r.2 w)) := by
  unfold fX3_least at hf
  change bG _ _ 0 [some (.ref A.1), some (.int x1)] []
  refine g_aload_n (pc' := 1) dX3_least_0 rfl rfl rfl ?_
  refine g_iload_n (pc' := 2) dX3_least_1 rfl rfl rfl ?_
  obtain ⟨q1, hq1, hf⟩ := Option.bind_eq_some_iff.mp hf
  refine g_callV (pc' := 5) (mx := mdX3_isRumour) (as := [.int x1]) (wX3_isRumour g hA _ _ x1 hq1) oX3_isRumour ⟨Nat.le_of_ble_eq_true rfl, Nat.le_of_ble_eq_true rfl⟩ dX3_least_2 rfl (ci := 3) rfl tC ⟨by decide +kernel, by decide +kernel⟩ oX3_isRumour.2.2.2 rfl q1173 q1175 qs41 qs41 q1175 (Nat.le_of_ble_eq_true rfl) (Nat.le_of_ble_eq_true rfl) (g_rI ?_) g_nt rfl
  refine g_if_ne (tgt := 15) (pc' := 8) dX3_least_5 (by decide) rfl (fun h2 => ?_) (fun h2 => ?_)
  · replace hf := (if_neg h2).symm.trans hf
    refine g_aload_n (pc' := 16) dX3_least_15 rfl rfl rfl ?_
    refine g_iload_n (pc' := 17) dX3_least_16 rfl rfl rfl ?_
    obtain ⟨q3, hq3, hf⟩ := Option.bind_eq_some_iff.mp hf
    refine g_callV (pc' := 20) (mx := mdX3_wrongLodger) (as := [.int x1]) (wX3_wrongLodger g hA _ _ x1 hq3) oX3_wrongLodger ⟨Nat.le_of_ble_eq_true rfl, Nat.le_of_ble_eq_true rfl⟩ dX3_least_17 rfl (ci := 3) rfl tC ⟨by decide +kernel, by decide +kernel⟩ oX3_wrongLodger.2.2.2 rfl q1347 q1349 qs64 qs64 q1349 (Nat.le_of_ble_eq_true rfl) (Nat.le_of_ble_eq_true rfl) (g_rI ?_) g_nt rfl
    refine g_if_eq (tgt := 30) (pc' := 23) dX3_least_20 (by decide) rfl (fun h4 => ?_) (fun h4 => ?_)
    · replace hf := (if_pos h4).symm.trans hf
      refine g_aload_n (pc' := 31) dX3_least_30 rfl rfl rfl ?_
      refine g_iload_n (pc' := 32) dX3_least_31 rfl rfl rfl ?_
      refine g_iconst (pc' := 33) (v := 4) dX3_least_32 rfl (by decide) ?_
      obtain ⟨q5, hq5, hf⟩ := Option.bind_eq_some_iff.mp hf
      refine g_callV (pc' := 36) (mx := mdX3_its) (as := [.int x1, .int 4]) (wX3_its g hA _ _ x1 4 hq5) oX3_its ⟨Nat.le_of_ble_eq_true rfl, Nat.le_of_ble_eq_true rfl⟩ dX3_least_33 rfl (ci := 3) rfl tC ⟨by decide +kernel, by decide +kernel⟩ oX3_its.2.2.2 rfl q1134 q1136 qs36 qs36 q1136 (Nat.le_of_ble_eq_true rfl) (Nat.le_of_ble_eq_true rfl) (g_rI ?_) g_nt rfl
      refine g_istore_n (pc' := 37) (L' := [some (.ref A.1), some (.int x1), some (.int q5)]) dX3_least_36 rfl rfl (Nat.le_of_ble_eq_true rfl) rfl rfl ?_
      refine g_aload_n (pc' := 38) dX3_least_37 rfl rfl rfl ?_
      obtain ⟨q6, hq6, hf⟩ := Option.bind_eq_some_iff.mp hf
      refine g_callV (pc' := 41) (mx := mdX3_laysAside) (as := []) (wX3_laysAside g hA _ _ hq6) oX3_laysAside ⟨Nat.le_of_ble_eq_true rfl, Nat.le_of_ble_eq_true rfl⟩ dX3_least_38 rfl (ci := 3) rfl tC ⟨by decide +kernel, by decide +kernel⟩ oX3_laysAside.2.2.2 rfl q1314 q1316 qs61 qs61 q1316 (Nat.le_of_ble_eq_true rfl) (Nat.le_of_ble_eq_true rfl) (g_rV ?_) g_nt rfl
      refine g_iconst (pc' := 42) (v := (-1)) dX3_least_41 rfl (by decide) ?_
      refine g_istore_n (pc' := 43) (L' := [some (.ref A.1), some (.int x1), some (.int q5), some (.int (-1))]) dX3_least_42 rfl rfl (Nat.le_of_ble_eq_true rfl) rfl rfl ?_
      refine g_iconst (pc' := 44) (v := 1) dX3_least_43 rfl (by decide) ?_
      refine g_istore (pc' := 46) (L' := [some (.ref A.1), some (.int x1), some (.int q5), some (.int (-1)), some (.int 1)]) dX3_least_44 rfl (Nat.le_of_ble_eq_true rfl) rfl rfl ?_
      obtain ⟨q14, hq14, hf⟩ := Option.bind_eq_some_iff.mp hf
      refine wX3_least_l46 hA x1 q5 FU ((-1), 1, q6) q14 hq14 ?_
      refine g_iload_n (pc' := 92) dX3_least_91 rfl rfl rfl ?_
      refine g_if_ge (tgt := 104) (pc' := 95) dX3_least_92 (by decide) rfl (fun h15 => ?_) (fun h15 => ?_)
      · replace hf := (if_pos h15).symm.trans hf
        refine g_iload_n (pc' := 105) dX3_least_104 rfl rfl rfl ?_
        obtain rfl := Option.some.inj hf
        exact g_iret dX3_least_105 rfl rfl ⟨rfl, rfl⟩
      · replace hf := (if_neg h15).symm.trans hf
        refine g_aload_n (pc' := 96) dX3_least_95 rfl rfl rfl ?_
        refine g_ldc (pc' := 98) dX3_least_96 rfl q1334 ?_
        obtain ⟨q16, hq16, hf⟩ := Option.bind_eq_some_iff.mp hf
        refine g_callV (pc' := 101) (mx := mdX3_finds) (as := [.int (-1000000004)]) (wX3_finds g hA _ _ (-1000000004) hq16) oX3_finds ⟨Nat.le_of_ble_eq_true rfl, Nat.le_of_ble_eq_true rfl⟩ dX3_least_98 rfl (ci := 3) rfl tC ⟨by decide +kernel, by decide +kernel⟩ oX3_finds.2.2.2 rfl q1117 q1119 qs33 qs33 q1119 (Nat.le_of_ble_eq_true rfl) (Nat.le_of_ble_eq_true rfl) (g_rI ?_) g_nt rfl
        refine g_goto (tgt := 105) dX3_least_101 (by decide) ?_
        obtain rfl := Option.some.inj hf
        exact g_iret dX3_least_105 rfl rfl ⟨rfl, rfl⟩
    · replace hf := (if_neg h4).symm.trans hf
      refine g_aload_n (pc' := 24) dX3_least_23 rfl rfl rfl ?_
      refine g_ldc (pc' := 26) dX3_least_24 rfl q1225 ?_
      obtain ⟨q17, hq17, hf⟩ := Option.bind_eq_some_iff.mp hf
      refine g_callV (pc' := 29) (mx := mdX3_finds) (as := [.int (-1000000005)]) (wX3_finds g hA _ _ (-1000000005) hq17) oX3_finds ⟨Nat.le_of_ble_eq_true rfl, Nat.le_of_ble_eq_true rfl⟩ dX3_least_26 rfl (ci := 3) rfl tC ⟨by decide +kernel, by decide +kernel⟩ oX3_finds.2.2.2 rfl q1117 q1119 qs33 qs33 q1119 (Nat.le_of_ble_eq_true rfl) (Nat.le_of_ble_eq_true rfl) (g_rI ?_) g_nt rfl
      obtain rfl := Option.some.inj hf
      exact g_iret dX3_least_29 rfl rfl ⟨rfl, rfl⟩
  · replace hf := (if_pos h2).symm.trans hf
    refine g_aload_n (pc' := 9) dX3_least_8 rfl rfl rfl ?_
    refine g_ldc (pc' := 11) dX3_least_9 rfl q1116 ?_
    obtain ⟨q18, hq18, hf⟩ := Option.bind_eq_some_iff.mp hf
    refine g_callV (pc' := 14) (mx := mdX3_finds) (as := [.int (-1000000001)]) (wX3_finds g hA _ _ (-1000000001) hq18) oX3_finds ⟨Nat.le_of_ble_eq_true rfl, Nat.le_of_ble_eq_true rfl⟩ dX3_least_11 rfl (ci := 3) rfl tC ⟨by decide +kernel, by decide +kernel⟩ oX3_finds.2.2.2 rfl q1117 q1119 qs33 qs33 q1119 (Nat.le_of_ble_eq_true rfl) (Nat.le_of_ble_eq_true rfl) (g_rI ?_) g_nt rfl
    obtain rfl := Option.some.inj hf
    exact g_iret dX3_least_14 rfl rfl ⟨rfl, rfl⟩
def mdX3_isSoon : bMD := (yX3_isSoon, cX3_isSoon, 1, (some FieldType.boolean), [], 2, 37)
theorem oX3_isSoon : bOkc mdX3_isSoon 1 := ⟨by decide +kernel, ⟨by decide +kernel, by decide +kernel⟩, by decide +kernel, q1361⟩
def fX3_isSoon (x0 : Int32) : Option Int32 :=
  Option.bind (fX3_in ((x0 : Int32).toInt64) 0 20) fun q1 =>
  bz q1 (some q1)
set_option maxHeartbeats 4000000 in
theorem wX3_isSoon (g : bGh) (w : bWl) (x0 : Int32) {r : Int32} (hf : fX3_isSoon x0 = some r) : bM g mdX3_isSoon w [.int x0] (q_ (eI r) w) := by
  unfold fX3_isSoon at hf
  change bG _ _ 0 [some (.int x0)] []
  refine g_iload_n (pc' := 1) dX3_isSoon_0 rfl rfl rfl ?_
  refine g_i2l (pc' := 2) dX3_isSoon_1 rfl ?_
  refine g_lconst (pc' := 3) (v := 0) dX3_isSoon_2 rfl (by decide) ?_
  refine g_ldc2 (pc' := 6) dX3_isSoon_3 rfl q1234 ?_
  obtain ⟨q1, hq1, hf⟩ := Option.bind_eq_some_iff.mp hf
  refine g_callS (pc' := 9) (as := [.long ((x0 : Int32).toInt64), .long 0, .long 20]) (wX3_in g _ ((x0 : Int32).toInt64) 0 20 hq1) oX3_in ⟨Nat.le_of_ble_eq_true rfl, Nat.le_of_ble_eq_true rfl⟩ dX3_isSoon_6 rfl q1102 q1103 q86 (Nat.le_of_ble_eq_true rfl) (Nat.le_of_ble_eq_true rfl) (g_rI ?_) g_nt rfl
  obtain ⟨h2, hf⟩ := bz_spec hf
  obtain rfl := Option.some.inj hf
  exact g_iret dX3_isSoon_9 rfl (bz_nar h2) ⟨rfl, rfl⟩
def mdX3_best : bMD := (yX3_best, cX3_best, 7, (some FieldType.int), [], 9, 187)
theorem oX3_best : bOkc mdX3_best 1 := ⟨by decide +kernel, ⟨by decide +kernel, by decide +kernel⟩, by decide +kernel, q1358⟩
def fX3_best_l25 (y1 : Int32) (rec : (Int32 × Int32 × Int32 × tM) → Option (Int32 × Int32 × Int32 × tM)) (s : Int32 × Int32 × Int32 × tM) : Option (Int32 × Int32 × Int32 × tM) :=
  (if 16 ≤ s.2.2.1 then
  some (s.1, s.2.1, s.2.2.1, s.2.2.2)
else
  Option.bind (fX3_becomesTrue s.2.2.2 s.2.2.1) fun q5 =>
  Option.bind (fX3_daysGo q5.2 y1) fun q6 =>
  Option.bind (fX3_larders q6) fun q7 =>
  Option.bind (fX3_takesBack q6 q7) fun q8 =>
  Option.bind (α := Int32) ((if q8.1 ≤ s.2.1 then
  some s.1
else
  some s.2.2.1)) fun q9 =>
  Option.bind (α := Int32) ((if q8.1 ≤ s.2.1 then
  some s.2.1
else
  some q8.1)) fun q11 =>
  rec (q9, q11, (s.2.2.1 + 1), q8.2))
def fX3_best (M : tM) (x1 : Int32) : Option (Int32 × tM) :=
  Option.bind (fX3_isSoon x1) fun q1 =>
  (if q1 = 0 then
  Option.bind (fX3_finds M (-1000000001)) fun q14 =>
  some (q14.1, q14.2)
else
  Option.bind (fX3_laysAside M) fun q3 =>
  Option.bind (lpF (fX3_best_l25 x1) FU (0, (-1), 0, q3)) fun q13 =>
  some (q13.1, q13.2.2.2))
set_option maxHeartbeats 4000000 in
theorem wX3_best_l25 {g : bGh} {A : tA} (hA : tO A) {w : bWl} {n0 u0 : Nat} {Q : Outcome → bWl → Prop} (y1 : Int32) : ∀ (n : Nat) (s : Int32 × Int32 × Int32 × tM) (r : (Int32 × Int32 × Int32 × tM)), lpF (fX3_best_l25 y1) n s = some r → bG (g, mdX3_best, n0, u0, Q) (tW A r.2.2.2 w) 87 [some (.ref A.1), some (.int y1), some (.int r.1), some (.int r.2.1), some (.int r.2.2.1)] [] → bG (g, mdX3_best, n0, u0, Q) (tW A s.2.2.2 w) 25 [some (.ref A.1), some (.int y1), some (.int s.1), some (.int s.2.1), some (.int s.2.2.1)] [] := by
  intro n
  induction n with
  | zero => intro s r hf; cases hf
  | succ n ih =>
    intro s r hf kx
    rw [lpF_s] at hf
    unfold fX3_best_l25 at hf
    refine g_iload (pc' := 27) dX3_best_25 rfl rfl ?_
    refine g_bipush (pc' := 29) (v := 16) dX3_best_27 rfl (by decide) ?_
    refine g_icmp_ge (tgt := 87) (pc' := 32) dX3_best_29 (by decide) rfl (fun h4 => ?_) (fun h4 => ?_)
    · replace hf := (if_pos h4).symm.trans hf
      obtain rfl := Option.some.inj hf
      exact kx
    · replace hf := (if_neg h4).symm.trans hf
      refine g_aload_n (pc' := 33) dX3_best_32 rfl rfl rfl ?_
      refine g_iload (pc' := 35) dX3_best_33 rfl rfl ?_
      obtain ⟨q5, hq5, hf⟩ := Option.bind_eq_some_iff.mp hf
      refine g_callV (pc' := 38) (mx := mdX3_becomesTrue) (as := [.int s.2.2.1]) (wX3_becomesTrue g hA _ _ s.2.2.1 hq5) oX3_becomesTrue ⟨Nat.le_of_ble_eq_true rfl, Nat.le_of_ble_eq_true rfl⟩ dX3_best_35 rfl (ci := 3) rfl tC ⟨by decide +kernel, by decide +kernel⟩ oX3_becomesTrue.2.2.2 rfl q1246 q1248 qs49 qs49 q1248 (Nat.le_of_ble_eq_true rfl) (Nat.le_of_ble_eq_true rfl) (g_rI ?_) g_nt rfl
      refine g_istore (pc' := 40) (L' := [some (.ref A.1), some (.int y1), some (.int s.1), some (.int s.2.1), some (.int s.2.2.1), some (.int q5.1)]) dX3_best_38 rfl (Nat.le_of_ble_eq_true rfl) rfl rfl ?_
      refine g_aload_n (pc' := 41) dX3_best_40 rfl rfl rfl ?_
      refine g_iload_n (pc' := 42) dX3_best_41 rfl rfl rfl ?_
      obtain ⟨q6, hq6, hf⟩ := Option.bind_eq_some_iff.mp hf
      refine g_callV (pc' := 45) (mx := mdX3_daysGo) (as := [.int y1]) (wX3_daysGo g hA _ _ y1 hq6) oX3_daysGo ⟨Nat.le_of_ble_eq_true rfl, Nat.le_of_ble_eq_true rfl⟩ dX3_best_42 rfl (ci := 3) rfl tC ⟨by decide +kernel, by decide +kernel⟩ oX3_daysGo.2.2.2 rfl q1259 q1261 qs50 qs50 q1261 (Nat.le_of_ble_eq_true rfl) (Nat.le_of_ble_eq_true rfl) (g_rV ?_) g_nt rfl
      refine g_aload_n (pc' := 46) dX3_best_45 rfl rfl rfl ?_
      refine g_aload_n (pc' := 47) dX3_best_46 rfl rfl rfl ?_
      obtain ⟨q7, hq7, hf⟩ := Option.bind_eq_some_iff.mp hf
      refine g_callV (pc' := 50) (mx := mdX3_larders) (as := []) (wX3_larders g hA _ _ hq7) oX3_larders ⟨Nat.le_of_ble_eq_true rfl, Nat.le_of_ble_eq_true rfl⟩ dX3_best_47 rfl (ci := 3) rfl tC ⟨by decide +kernel, by decide +kernel⟩ oX3_larders.2.2.2 rfl q1291 q1293 qs57 qs57 q1293 (Nat.le_of_ble_eq_true rfl) (Nat.le_of_ble_eq_true rfl) (g_rI ?_) g_nt rfl
      obtain ⟨q8, hq8, hf⟩ := Option.bind_eq_some_iff.mp hf
      refine g_callV (pc' := 53) (mx := mdX3_takesBack) (as := [.int q7]) (wX3_takesBack g hA _ _ q7 hq8) oX3_takesBack ⟨Nat.le_of_ble_eq_true rfl, Nat.le_of_ble_eq_true rfl⟩ dX3_best_50 rfl (ci := 3) rfl tC ⟨by decide +kernel, by decide +kernel⟩ oX3_takesBack.2.2.2 rfl q1318 q1320 qs62 qs62 q1320 (Nat.le_of_ble_eq_true rfl) (Nat.le_of_ble_eq_true rfl) (g_rI ?_) g_nt rfl
      refine g_istore (pc' := 55) (L' := [some (.ref A.1), some (.int y1), some (.int s.1), some (.int s.2.1), some (.int s.2.2.1), some (.int q5.1), some (.int q8.1)]) dX3_best_53 rfl (Nat.le_of_ble_eq_true rfl) rfl rfl ?_
      refine g_iload (pc' := 57) dX3_best_55 rfl rfl ?_
      refine g_iload_n (pc' := 58) dX3_best_57 rfl rfl rfl ?_
      obtain ⟨q9, hqq9, hf⟩ := Option.bind_eq_some_iff.mp hf
      have hJq9 : bG (g, mdX3_best, n0, u0, Q) (tW A q8.2 w) 67 [some (.ref A.1), some (.int y1), none, some (.int s.2.1), some (.int s.2.2.1), none, some (.int q8.1)] [.int q9] := by
        refine g_istore_n (pc' := 68) (L' := [some (.ref A.1), some (.int y1), some (.int q9), some (.int s.2.1), some (.int s.2.2.1), none, some (.int q8.1)]) dX3_best_67 rfl rfl (Nat.le_of_ble_eq_true rfl) rfl rfl ?_
        refine g_iload (pc' := 70) dX3_best_68 rfl rfl ?_
        refine g_iload_n (pc' := 71) dX3_best_70 rfl rfl rfl ?_
        obtain ⟨q11, hqq11, hf⟩ := Option.bind_eq_some_iff.mp hf
        have hJq11 : bG (g, mdX3_best, n0, u0, Q) (tW A q8.2 w) 80 [some (.ref A.1), some (.int y1), some (.int q9), none, some (.int s.2.2.1), none, none] [.int q11] := by
          refine g_istore_n (pc' := 81) (L' := [some (.ref A.1), some (.int y1), some (.int q9), some (.int q11), some (.int s.2.2.1), none, none]) dX3_best_80 rfl rfl (Nat.le_of_ble_eq_true rfl) rfl rfl ?_
          refine g_iinc (pc' := 84) (v := s.2.2.1 + 1) (L' := [some (.ref A.1), some (.int y1), some (.int q9), some (.int q11), some (.int (s.2.2.1 + 1)), none, none]) dX3_best_81 rfl rfl rfl (Nat.le_of_ble_eq_true rfl) rfl rfl ?_
          refine g_goto (tgt := 25) dX3_best_84 (by decide) ?_
          refine g_cut (L := [some (.ref A.1), some (.int y1), some (.int q9), some (.int q11), some (.int (s.2.2.1 + 1))]) 2 rfl ?_
          exact ih _ r hf kx
        replace hf := hqq11
        refine g_icmp_le (tgt := 79) (pc' := 74) dX3_best_71 (by decide) rfl (fun h12 => ?_) (fun h12 => ?_)
        · replace hf := (if_pos h12).symm.trans hf
          refine g_iload_n (pc' := 80) dX3_best_79 rfl rfl rfl ?_
          obtain rfl := Option.some.inj hf
          refine g_drop [3, 6] (L' := [some (.ref A.1), some (.int y1), some (.int q9), none, some (.int s.2.2.1), none, none]) rfl ?_
          exact hJq11
        · replace hf := (if_neg h12).symm.trans hf
          refine g_iload (pc' := 76) dX3_best_74 rfl rfl ?_
          refine g_goto (tgt := 80) dX3_best_76 (by decide) ?_
          obtain rfl := Option.some.inj hf
          refine g_drop [3, 6] (L' := [some (.ref A.1), some (.int y1), some (.int q9), none, some (.int s.2.2.1), none, none]) rfl ?_
          exact hJq11
      replace hf := hqq9
      refine g_icmp_le (tgt := 66) (pc' := 61) dX3_best_58 (by decide) rfl (fun h10 => ?_) (fun h10 => ?_)
      · replace hf := (if_pos h10).symm.trans hf
        refine g_iload_n (pc' := 67) dX3_best_66 rfl rfl rfl ?_
        obtain rfl := Option.some.inj hf
        refine g_drop [2, 5] (L' := [some (.ref A.1), some (.int y1), none, some (.int s.2.1), some (.int s.2.2.1), none, some (.int q8.1)]) rfl ?_
        exact hJq9
      · replace hf := (if_neg h10).symm.trans hf
        refine g_iload (pc' := 63) dX3_best_61 rfl rfl ?_
        refine g_goto (tgt := 67) dX3_best_63 (by decide) ?_
        obtain rfl := Option.some.inj hf
        refine g_drop [2, 5] (L' := [some (.ref A.1), some (.int y1), none, some (.int s.2.1), some (.int s.2.2.1), none, some (.int q8.1)]) rfl ?_
        exact hJq9
set_option maxHeartbeats 4000000 in
theorem wX3_best (g : bGh) {A : tA} (hA : tO A) (w : bWl) (M : tM) (x1 : Int32) {r : (Int32 × tM)} (hf : fX3_best M x1 = some r) : bM g mdX3_best (tW A M w) [.ref A.1, .int x1] (q_ (eI r.1) (tW A r.2 w)) := by
  unfold fX3_best at hf
  change bG _ _ 0 [some (.ref A.1), some (.int x1)] []
  refine g_iload_n (pc' := 1) dX3_best_0 rfl rfl rfl ?_
  obtain ⟨q1, hq1, hf⟩ := Option.bind_eq_some_iff.mp hf
  refine g_callS (pc' := 4) (as := [.int x1]) (wX3_isSoon g _ x1 hq1) oX3_isSoon ⟨Nat.le_of_ble_eq_true rfl, Nat.le_of_ble_eq_true rfl⟩ dX3_best_1 rfl q1359 q1360 q86 (Nat.le_of_ble_eq_true rfl) (Nat.le_of_ble_eq_true rfl) (g_rI ?_) g_nt rfl
  refine g_if_ne (tgt := 14) (pc' := 7) dX3_best_4 (by decide) rfl (fun h2 => ?_) (fun h2 => ?_)
  · replace hf := (if_neg h2).symm.trans hf
    refine g_iconst (pc' := 15) (v := 0) dX3_best_14 rfl (by decide) ?_
    refine g_istore_n (pc' := 16) (L' := [some (.ref A.1), some (.int x1), some (.int 0)]) dX3_best_15 rfl rfl (Nat.le_of_ble_eq_true rfl) rfl rfl ?_
    refine g_iconst (pc' := 17) (v := (-1)) dX3_best_16 rfl (by decide) ?_
    refine g_istore_n (pc' := 18) (L' := [some (.ref A.1), some (.int x1), some (.int 0), some (.int (-1))]) dX3_best_17 rfl rfl (Nat.le_of_ble_eq_true rfl) rfl rfl ?_
    refine g_aload_n (pc' := 19) dX3_best_18 rfl rfl rfl ?_
    obtain ⟨q3, hq3, hf⟩ := Option.bind_eq_some_iff.mp hf
    refine g_callV (pc' := 22) (mx := mdX3_laysAside) (as := []) (wX3_laysAside g hA _ _ hq3) oX3_laysAside ⟨Nat.le_of_ble_eq_true rfl, Nat.le_of_ble_eq_true rfl⟩ dX3_best_19 rfl (ci := 3) rfl tC ⟨by decide +kernel, by decide +kernel⟩ oX3_laysAside.2.2.2 rfl q1314 q1316 qs61 qs61 q1316 (Nat.le_of_ble_eq_true rfl) (Nat.le_of_ble_eq_true rfl) (g_rV ?_) g_nt rfl
    refine g_iconst (pc' := 23) (v := 0) dX3_best_22 rfl (by decide) ?_
    refine g_istore (pc' := 25) (L' := [some (.ref A.1), some (.int x1), some (.int 0), some (.int (-1)), some (.int 0)]) dX3_best_23 rfl (Nat.le_of_ble_eq_true rfl) rfl rfl ?_
    obtain ⟨q13, hq13, hf⟩ := Option.bind_eq_some_iff.mp hf
    refine wX3_best_l25 hA x1 FU (0, (-1), 0, q3) q13 hq13 ?_
    refine g_iload_n (pc' := 88) dX3_best_87 rfl rfl rfl ?_
    obtain rfl := Option.some.inj hf
    exact g_iret dX3_best_88 rfl rfl ⟨rfl, rfl⟩
  · replace hf := (if_pos h2).symm.trans hf
    refine g_aload_n (pc' := 8) dX3_best_7 rfl rfl rfl ?_
    refine g_ldc (pc' := 10) dX3_best_8 rfl q1116 ?_
    obtain ⟨q14, hq14, hf⟩ := Option.bind_eq_some_iff.mp hf
    refine g_callV (pc' := 13) (mx := mdX3_finds) (as := [.int (-1000000001)]) (wX3_finds g hA _ _ (-1000000001) hq14) oX3_finds ⟨Nat.le_of_ble_eq_true rfl, Nat.le_of_ble_eq_true rfl⟩ dX3_best_10 rfl (ci := 3) rfl tC ⟨by decide +kernel, by decide +kernel⟩ oX3_finds.2.2.2 rfl q1117 q1119 qs33 qs33 q1119 (Nat.le_of_ble_eq_true rfl) (Nat.le_of_ble_eq_true rfl) (g_rI ?_) g_nt rfl
    obtain rfl := Option.some.inj hf
    exact g_iret dX3_best_13 rfl rfl ⟨rfl, rfl⟩
def mdX3_lean : bMD := (yX3_lean, cX3_lean, 3, (some FieldType.int), [], 5, 99)
theorem oX3_lean : bOkc mdX3_lean 2 := ⟨by decide +kernel, ⟨by decide +kernel, by decide +kernel⟩, by decide +kernel, q1365⟩
def fX3_lean (M : tM) (x1 : Int32) (x2 : Int32) : Option (Int32 × tM) :=
  Option.bind (fX3_isHouse x1) fun q1 =>
  (if q1 = 0 then
  Option.bind (fX3_finds M (-1000000001)) fun q3 =>
  some (q3.1, q3.2)
else
  Option.bind (fX3_isRumour M x2) fun q4 =>
  (if q4 = 0 then
  Option.bind (fX3_finds M (-1000000001)) fun q10 =>
  some (q10.1, q10.2)
else
  Option.bind (fX3_isFree M x1) fun q6 =>
  (if q6 = 0 then
  Option.bind (fX3_finds M (-1000000004)) fun q8 =>
  some (q8.1, q8.2)
else
  Option.bind (fX3_needs M x2) fun q9 =>
  some (q9, M))))
set_option maxHeartbeats 4000000 in
theorem wX3_lean (g : bGh) {A : tA} (hA : tO A) (w : bWl) (M : tM) (x1 : Int32) (x2 : Int32) {r : (Int32 × tM)} (hf : fX3_lean M x1 x2 = some r) : bM g mdX3_lean (tW A M w) [.ref A.1, .int x1, .int x2] (q_ (eI r.1) (tW A r.2 w)) := by
  unfold fX3_lean at hf
  change bG _ _ 0 [some (.ref A.1), some (.int x1), some (.int x2)] []
  refine g_iload_n (pc' := 1) dX3_lean_0 rfl rfl rfl ?_
  obtain ⟨q1, hq1, hf⟩ := Option.bind_eq_some_iff.mp hf
  refine g_callS (pc' := 4) (as := [.int x1]) (wX3_isHouse g _ x1 hq1) oX3_isHouse ⟨Nat.le_of_ble_eq_true rfl, Nat.le_of_ble_eq_true rfl⟩ dX3_lean_1 rfl q1108 q1109 q86 (Nat.le_of_ble_eq_true rfl) (Nat.le_of_ble_eq_true rfl) (g_rI ?_) g_nt rfl
  refine g_if_eq (tgt := 15) (pc' := 7) dX3_lean_4 (by decide) rfl (fun h2 => ?_) (fun h2 => ?_)
  · replace hf := (if_pos h2).symm.trans hf
    refine g_aload_n (pc' := 16) dX3_lean_15 rfl rfl rfl ?_
    refine g_ldc (pc' := 18) dX3_lean_16 rfl q1116 ?_
    obtain ⟨q3, hq3, hf⟩ := Option.bind_eq_some_iff.mp hf
    refine g_callV (pc' := 21) (mx := mdX3_finds) (as := [.int (-1000000001)]) (wX3_finds g hA _ _ (-1000000001) hq3) oX3_finds ⟨Nat.le_of_ble_eq_true rfl, Nat.le_of_ble_eq_true rfl⟩ dX3_lean_18 rfl (ci := 3) rfl tC ⟨by decide +kernel, by decide +kernel⟩ oX3_finds.2.2.2 rfl q1117 q1119 qs33 qs33 q1119 (Nat.le_of_ble_eq_true rfl) (Nat.le_of_ble_eq_true rfl) (g_rI ?_) g_nt rfl
    obtain rfl := Option.some.inj hf
    exact g_iret dX3_lean_21 rfl rfl ⟨rfl, rfl⟩
  · replace hf := (if_neg h2).symm.trans hf
    refine g_aload_n (pc' := 8) dX3_lean_7 rfl rfl rfl ?_
    refine g_iload_n (pc' := 9) dX3_lean_8 rfl rfl rfl ?_
    obtain ⟨q4, hq4, hf⟩ := Option.bind_eq_some_iff.mp hf
    refine g_callV (pc' := 12) (mx := mdX3_isRumour) (as := [.int x2]) (wX3_isRumour g hA _ _ x2 hq4) oX3_isRumour ⟨Nat.le_of_ble_eq_true rfl, Nat.le_of_ble_eq_true rfl⟩ dX3_lean_9 rfl (ci := 3) rfl tC ⟨by decide +kernel, by decide +kernel⟩ oX3_isRumour.2.2.2 rfl q1173 q1175 qs41 qs41 q1175 (Nat.le_of_ble_eq_true rfl) (Nat.le_of_ble_eq_true rfl) (g_rI ?_) g_nt rfl
    refine g_if_ne (tgt := 22) (pc' := 15) dX3_lean_12 (by decide) rfl (fun h5 => ?_) (fun h5 => ?_)
    · replace hf := (if_neg h5).symm.trans hf
      refine g_aload_n (pc' := 23) dX3_lean_22 rfl rfl rfl ?_
      refine g_iload_n (pc' := 24) dX3_lean_23 rfl rfl rfl ?_
      obtain ⟨q6, hq6, hf⟩ := Option.bind_eq_some_iff.mp hf
      refine g_callV (pc' := 27) (mx := mdX3_isFree) (as := [.int x1]) (wX3_isFree g hA _ _ x1 hq6) oX3_isFree ⟨Nat.le_of_ble_eq_true rfl, Nat.le_of_ble_eq_true rfl⟩ dX3_lean_24 rfl (ci := 3) rfl tC ⟨by decide +kernel, by decide +kernel⟩ oX3_isFree.2.2.2 rfl q1210 q1212 qs45 qs45 q1212 (Nat.le_of_ble_eq_true rfl) (Nat.le_of_ble_eq_true rfl) (g_rI ?_) g_nt rfl
      refine g_if_eq (tgt := 38) (pc' := 30) dX3_lean_27 (by decide) rfl (fun h7 => ?_) (fun h7 => ?_)
      · replace hf := (if_pos h7).symm.trans hf
        refine g_aload_n (pc' := 39) dX3_lean_38 rfl rfl rfl ?_
        refine g_ldc (pc' := 41) dX3_lean_39 rfl q1334 ?_
        obtain ⟨q8, hq8, hf⟩ := Option.bind_eq_some_iff.mp hf
        refine g_callV (pc' := 44) (mx := mdX3_finds) (as := [.int (-1000000004)]) (wX3_finds g hA _ _ (-1000000004) hq8) oX3_finds ⟨Nat.le_of_ble_eq_true rfl, Nat.le_of_ble_eq_true rfl⟩ dX3_lean_41 rfl (ci := 3) rfl tC ⟨by decide +kernel, by decide +kernel⟩ oX3_finds.2.2.2 rfl q1117 q1119 qs33 qs33 q1119 (Nat.le_of_ble_eq_true rfl) (Nat.le_of_ble_eq_true rfl) (g_rI ?_) g_nt rfl
        obtain rfl := Option.some.inj hf
        exact g_iret dX3_lean_44 rfl rfl ⟨rfl, rfl⟩
      · replace hf := (if_neg h7).symm.trans hf
        refine g_aload_n (pc' := 31) dX3_lean_30 rfl rfl rfl ?_
        refine g_iload_n (pc' := 32) dX3_lean_31 rfl rfl rfl ?_
        obtain ⟨q9, hq9, hf⟩ := Option.bind_eq_some_iff.mp hf
        refine g_callV (pc' := 35) (mx := mdX3_needs) (as := [.int x2]) (wX3_needs g hA _ _ x2 hq9) oX3_needs ⟨Nat.le_of_ble_eq_true rfl, Nat.le_of_ble_eq_true rfl⟩ dX3_lean_32 rfl (ci := 3) rfl tC ⟨by decide +kernel, by decide +kernel⟩ oX3_needs.2.2.2 rfl q1177 q1179 qs42 qs42 q1179 (Nat.le_of_ble_eq_true rfl) (Nat.le_of_ble_eq_true rfl) (g_rI ?_) g_nt rfl
        refine g_goto (tgt := 44) dX3_lean_35 (by decide) ?_
        obtain rfl := Option.some.inj hf
        exact g_iret dX3_lean_44 rfl rfl ⟨rfl, rfl⟩
    · replace hf := (if_pos h5).symm.trans hf
      refine g_aload_n (pc' := 16) dX3_lean_15 rfl rfl rfl ?_
      refine g_ldc (pc' := 18) dX3_lean_16 rfl q1116 ?_
      obtain ⟨q10, hq10, hf⟩ := Option.bind_eq_some_iff.mp hf
      refine g_callV (pc' := 21) (mx := mdX3_finds) (as := [.int (-1000000001)]) (wX3_finds g hA _ _ (-1000000001) hq10) oX3_finds ⟨Nat.le_of_ble_eq_true rfl, Nat.le_of_ble_eq_true rfl⟩ dX3_lean_18 rfl (ci := 3) rfl tC ⟨by decide +kernel, by decide +kernel⟩ oX3_finds.2.2.2 rfl q1117 q1119 qs33 qs33 q1119 (Nat.le_of_ble_eq_true rfl) (Nat.le_of_ble_eq_true rfl) (g_rI ?_) g_nt rfl
      obtain rfl := Option.some.inj hf
      exact g_iret dX3_lean_21 rfl rfl ⟨rfl, rfl⟩
def mdX3_leanFor : bMD := (yX3_leanFor, cX3_leanFor, 8, (some FieldType.int), [], 10, 209)
theorem oX3_leanFor : bOkc mdX3_leanFor 2 := ⟨by decide +kernel, ⟨by decide +kernel, by decide +kernel⟩, by decide +kernel, q1369⟩
def fX3_leanFor_l37 (y1 : Int32) (y2 : Int32) (y3 : Int32) (rec : (Int32 × Int32 × Int32 × tM) → Option (Int32 × Int32 × Int32 × tM)) (s : Int32 × Int32 × Int32 × tM) : Option (Int32 × Int32 × Int32 × tM) :=
  (if 9 < s.2.2.1 then
  some (s.1, s.2.1, s.2.2.1, s.2.2.2)
else
  Option.bind (fX3_partOf y1 2) fun q8 =>
  Option.bind (wA s.2.2.2 0 q8 s.2.2.1) fun w9 =>
  Option.bind (fX3_partOf y1 1) fun q10 =>
  Option.bind (fX3_behind w9 q10 y2) fun q11 =>
  Option.bind (α := Int32) ((if q11.1 ≤ s.2.1 then
  some s.1
else
  some s.2.2.1)) fun q12 =>
  Option.bind (α := Int32) ((if q11.1 ≤ s.2.1 then
  some s.2.1
else
  some q11.1)) fun q14 =>
  rec (q12, q14, (s.2.2.1 + 1), q11.2))
def fX3_leanFor (M : tM) (x1 : Int32) (x2 : Int32) : Option (Int32 × tM) :=
  Option.bind (fX3_isHouse x1) fun q1 =>
  (if q1 = 0 then
  Option.bind (fX3_finds M (-1000000001)) fun q3 =>
  some (q3.1, q3.2)
else
  Option.bind (fX3_isSoon x2) fun q4 =>
  (if q4 = 0 then
  Option.bind (fX3_finds M (-1000000001)) fun q19 =>
  some (q19.1, q19.2)
else
  Option.bind (fX3_has M x1 2) fun q6 =>
  Option.bind (lpF (fX3_leanFor_l37 x1 x2 q6) FU (0, (-1), 0, M)) fun q16 =>
  Option.bind (fX3_partOf x1 2) fun q17 =>
  Option.bind (wA q16.2.2.2 0 q17 q6) fun w18 =>
  some (q16.1, w18)))
set_option maxHeartbeats 4000000 in
theorem wX3_leanFor_l37 {g : bGh} {A : tA} (hA : tO A) {w : bWl} {n0 u0 : Nat} {Q : Outcome → bWl → Prop} (y1 : Int32) (y2 : Int32) (y3 : Int32) : ∀ (n : Nat) (s : Int32 × Int32 × Int32 × tM) (r : (Int32 × Int32 × Int32 × tM)), lpF (fX3_leanFor_l37 y1 y2 y3) n s = some r → bG (g, mdX3_leanFor, n0, u0, Q) (tW A r.2.2.2 w) 106 [some (.ref A.1), some (.int y1), some (.int y2), some (.int y3), some (.int r.1), some (.int r.2.1), some (.int r.2.2.1)] [] → bG (g, mdX3_leanFor, n0, u0, Q) (tW A s.2.2.2 w) 37 [some (.ref A.1), some (.int y1), some (.int y2), some (.int y3), some (.int s.1), some (.int s.2.1), some (.int s.2.2.1)] [] := by
  intro n
  induction n with
  | zero => intro s r hf; cases hf
  | succ n ih =>
    intro s r hf kx
    rw [lpF_s] at hf
    unfold fX3_leanFor_l37 at hf
    refine g_iload (pc' := 39) dX3_leanFor_37 rfl rfl ?_
    refine g_bipush (pc' := 41) (v := 9) dX3_leanFor_39 rfl (by decide) ?_
    refine g_icmp_gt (tgt := 106) (pc' := 44) dX3_leanFor_41 (by decide) rfl (fun h7 => ?_) (fun h7 => ?_)
    · replace hf := (if_pos h7).symm.trans hf
      obtain rfl := Option.some.inj hf
      exact kx
    · replace hf := (if_neg h7).symm.trans hf
      refine g_aload_n (pc' := 45) dX3_leanFor_44 rfl rfl rfl ?_
      refine gt_get (k := 0) (pc' := 48) (by decide) dX3_leanFor_45 rfl q1048 rfl ?_
      refine g_iload_n (pc' := 49) dX3_leanFor_48 rfl rfl rfl ?_
      refine g_iconst (pc' := 50) (v := 2) dX3_leanFor_49 rfl (by decide) ?_
      obtain ⟨q8, hq8, hf⟩ := Option.bind_eq_some_iff.mp hf
      refine g_callS (pc' := 53) (as := [.int y1, .int 2]) (wX3_partOf g _ y1 2 hq8) oX3_partOf ⟨Nat.le_of_ble_eq_true rfl, Nat.le_of_ble_eq_true rfl⟩ dX3_leanFor_50 rfl q1045 q1046 q86 (Nat.le_of_ble_eq_true rfl) (Nat.le_of_ble_eq_true rfl) (g_rI ?_) g_nt rfl
      refine g_iload (pc' := 55) dX3_leanFor_53 rfl rfl ?_
      obtain ⟨w9, hw9, hf⟩ := Option.bind_eq_some_iff.mp hf
      refine gt_iast (pc' := 56) hA (by decide) dX3_leanFor_55 rfl hw9 ?_
      refine g_aload_n (pc' := 57) dX3_leanFor_56 rfl rfl rfl ?_
      refine g_iload_n (pc' := 58) dX3_leanFor_57 rfl rfl rfl ?_
      refine g_iconst (pc' := 59) (v := 1) dX3_leanFor_58 rfl (by decide) ?_
      obtain ⟨q10, hq10, hf⟩ := Option.bind_eq_some_iff.mp hf
      refine g_callS (pc' := 62) (as := [.int y1, .int 1]) (wX3_partOf g _ y1 1 hq10) oX3_partOf ⟨Nat.le_of_ble_eq_true rfl, Nat.le_of_ble_eq_true rfl⟩ dX3_leanFor_59 rfl q1045 q1046 q86 (Nat.le_of_ble_eq_true rfl) (Nat.le_of_ble_eq_true rfl) (g_rI ?_) g_nt rfl
      refine g_iload_n (pc' := 63) dX3_leanFor_62 rfl rfl rfl ?_
      obtain ⟨q11, hq11, hf⟩ := Option.bind_eq_some_iff.mp hf
      refine g_callV (pc' := 66) (mx := mdX3_behind) (as := [.int q10, .int y2]) (wX3_behind g hA _ _ q10 y2 hq11) oX3_behind ⟨Nat.le_of_ble_eq_true rfl, Nat.le_of_ble_eq_true rfl⟩ dX3_leanFor_63 rfl (ci := 3) rfl tC ⟨by decide +kernel, by decide +kernel⟩ oX3_behind.2.2.2 rfl q1310 q1312 qs60 qs60 q1312 (Nat.le_of_ble_eq_true rfl) (Nat.le_of_ble_eq_true rfl) (g_rI ?_) g_nt rfl
      refine g_istore (pc' := 68) (L' := [some (.ref A.1), some (.int y1), some (.int y2), some (.int y3), some (.int s.1), some (.int s.2.1), some (.int s.2.2.1), some (.int q11.1)]) dX3_leanFor_66 rfl (Nat.le_of_ble_eq_true rfl) rfl rfl ?_
      refine g_iload (pc' := 70) dX3_leanFor_68 rfl rfl ?_
      refine g_iload (pc' := 72) dX3_leanFor_70 rfl rfl ?_
      obtain ⟨q12, hqq12, hf⟩ := Option.bind_eq_some_iff.mp hf
      have hJq12 : bG (g, mdX3_leanFor, n0, u0, Q) (tW A q11.2 w) 82 [some (.ref A.1), some (.int y1), some (.int y2), some (.int y3), none, some (.int s.2.1), some (.int s.2.2.1), some (.int q11.1)] [.int q12] := by
        refine g_istore (pc' := 84) (L' := [some (.ref A.1), some (.int y1), some (.int y2), some (.int y3), some (.int q12), some (.int s.2.1), some (.int s.2.2.1), some (.int q11.1)]) dX3_leanFor_82 rfl (Nat.le_of_ble_eq_true rfl) rfl rfl ?_
        refine g_iload (pc' := 86) dX3_leanFor_84 rfl rfl ?_
        refine g_iload (pc' := 88) dX3_leanFor_86 rfl rfl ?_
        obtain ⟨q14, hqq14, hf⟩ := Option.bind_eq_some_iff.mp hf
        have hJq14 : bG (g, mdX3_leanFor, n0, u0, Q) (tW A q11.2 w) 98 [some (.ref A.1), some (.int y1), some (.int y2), some (.int y3), some (.int q12), none, some (.int s.2.2.1), none] [.int q14] := by
          refine g_istore (pc' := 100) (L' := [some (.ref A.1), some (.int y1), some (.int y2), some (.int y3), some (.int q12), some (.int q14), some (.int s.2.2.1), none]) dX3_leanFor_98 rfl (Nat.le_of_ble_eq_true rfl) rfl rfl ?_
          refine g_iinc (pc' := 103) (v := s.2.2.1 + 1) (L' := [some (.ref A.1), some (.int y1), some (.int y2), some (.int y3), some (.int q12), some (.int q14), some (.int (s.2.2.1 + 1)), none]) dX3_leanFor_100 rfl rfl rfl (Nat.le_of_ble_eq_true rfl) rfl rfl ?_
          refine g_goto (tgt := 37) dX3_leanFor_103 (by decide) ?_
          refine g_cut (L := [some (.ref A.1), some (.int y1), some (.int y2), some (.int y3), some (.int q12), some (.int q14), some (.int (s.2.2.1 + 1))]) 1 rfl ?_
          exact ih _ r hf kx
        replace hf := hqq14
        refine g_icmp_le (tgt := 96) (pc' := 91) dX3_leanFor_88 (by decide) rfl (fun h15 => ?_) (fun h15 => ?_)
        · replace hf := (if_pos h15).symm.trans hf
          refine g_iload (pc' := 98) dX3_leanFor_96 rfl rfl ?_
          obtain rfl := Option.some.inj hf
          refine g_drop [5, 7] (L' := [some (.ref A.1), some (.int y1), some (.int y2), some (.int y3), some (.int q12), none, some (.int s.2.2.1), none]) rfl ?_
          exact hJq14
        · replace hf := (if_neg h15).symm.trans hf
          refine g_iload (pc' := 93) dX3_leanFor_91 rfl rfl ?_
          refine g_goto (tgt := 98) dX3_leanFor_93 (by decide) ?_
          obtain rfl := Option.some.inj hf
          refine g_drop [5, 7] (L' := [some (.ref A.1), some (.int y1), some (.int y2), some (.int y3), some (.int q12), none, some (.int s.2.2.1), none]) rfl ?_
          exact hJq14
      replace hf := hqq12
      refine g_icmp_le (tgt := 80) (pc' := 75) dX3_leanFor_72 (by decide) rfl (fun h13 => ?_) (fun h13 => ?_)
      · replace hf := (if_pos h13).symm.trans hf
        refine g_iload (pc' := 82) dX3_leanFor_80 rfl rfl ?_
        obtain rfl := Option.some.inj hf
        refine g_drop [4] (L' := [some (.ref A.1), some (.int y1), some (.int y2), some (.int y3), none, some (.int s.2.1), some (.int s.2.2.1), some (.int q11.1)]) rfl ?_
        exact hJq12
      · replace hf := (if_neg h13).symm.trans hf
        refine g_iload (pc' := 77) dX3_leanFor_75 rfl rfl ?_
        refine g_goto (tgt := 82) dX3_leanFor_77 (by decide) ?_
        obtain rfl := Option.some.inj hf
        refine g_drop [4] (L' := [some (.ref A.1), some (.int y1), some (.int y2), some (.int y3), none, some (.int s.2.1), some (.int s.2.2.1), some (.int q11.1)]) rfl ?_
        exact hJq12
set_option maxHeartbeats 4000000 in
theorem wX3_leanFor (g : bGh) {A : tA} (hA : tO A) (w : bWl) (M : tM) (x1 : Int32) (x2 : Int32) {r : (Int32 × tM)} (hf : fX3_leanFor M x1 x2 = some r) : bM g mdX3_leanFor (tW A M w) [.ref A.1, .int x1, .int x2] (q_ (eI r.1) (tW A r.2 w)) := by
  unfold fX3_leanFor at hf
  change bG _ _ 0 [some (.ref A.1), some (.int x1), some (.int x2)] []
  refine g_iload_n (pc' := 1) dX3_leanFor_0 rfl rfl rfl ?_
  obtain ⟨q1, hq1, hf⟩ := Option.bind_eq_some_iff.mp hf
  refine g_callS (pc' := 4) (as := [.int x1]) (wX3_isHouse g _ x1 hq1) oX3_isHouse ⟨Nat.le_of_ble_eq_true rfl, Nat.le_of_ble_eq_true rfl⟩ dX3_leanFor_1 rfl q1108 q1109 q86 (Nat.le_of_ble_eq_true rfl) (Nat.le_of_ble_eq_true rfl) (g_rI ?_) g_nt rfl
  refine g_if_eq (tgt := 14) (pc' := 7) dX3_leanFor_4 (by decide) rfl (fun h2 => ?_) (fun h2 => ?_)
  · replace hf := (if_pos h2).symm.trans hf
    refine g_aload_n (pc' := 15) dX3_leanFor_14 rfl rfl rfl ?_
    refine g_ldc (pc' := 17) dX3_leanFor_15 rfl q1116 ?_
    obtain ⟨q3, hq3, hf⟩ := Option.bind_eq_some_iff.mp hf
    refine g_callV (pc' := 20) (mx := mdX3_finds) (as := [.int (-1000000001)]) (wX3_finds g hA _ _ (-1000000001) hq3) oX3_finds ⟨Nat.le_of_ble_eq_true rfl, Nat.le_of_ble_eq_true rfl⟩ dX3_leanFor_17 rfl (ci := 3) rfl tC ⟨by decide +kernel, by decide +kernel⟩ oX3_finds.2.2.2 rfl q1117 q1119 qs33 qs33 q1119 (Nat.le_of_ble_eq_true rfl) (Nat.le_of_ble_eq_true rfl) (g_rI ?_) g_nt rfl
    obtain rfl := Option.some.inj hf
    exact g_iret dX3_leanFor_20 rfl rfl ⟨rfl, rfl⟩
  · replace hf := (if_neg h2).symm.trans hf
    refine g_iload_n (pc' := 8) dX3_leanFor_7 rfl rfl rfl ?_
    obtain ⟨q4, hq4, hf⟩ := Option.bind_eq_some_iff.mp hf
    refine g_callS (pc' := 11) (as := [.int x2]) (wX3_isSoon g _ x2 hq4) oX3_isSoon ⟨Nat.le_of_ble_eq_true rfl, Nat.le_of_ble_eq_true rfl⟩ dX3_leanFor_8 rfl q1359 q1360 q86 (Nat.le_of_ble_eq_true rfl) (Nat.le_of_ble_eq_true rfl) (g_rI ?_) g_nt rfl
    refine g_if_ne (tgt := 21) (pc' := 14) dX3_leanFor_11 (by decide) rfl (fun h5 => ?_) (fun h5 => ?_)
    · replace hf := (if_neg h5).symm.trans hf
      refine g_aload_n (pc' := 22) dX3_leanFor_21 rfl rfl rfl ?_
      refine g_iload_n (pc' := 23) dX3_leanFor_22 rfl rfl rfl ?_
      refine g_iconst (pc' := 24) (v := 2) dX3_leanFor_23 rfl (by decide) ?_
      obtain ⟨q6, hq6, hf⟩ := Option.bind_eq_some_iff.mp hf
      refine g_callV (pc' := 27) (mx := mdX3_has) (as := [.int x1, .int 2]) (wX3_has g hA _ _ x1 2 hq6) oX3_has ⟨Nat.le_of_ble_eq_true rfl, Nat.le_of_ble_eq_true rfl⟩ dX3_leanFor_24 rfl (ci := 3) rfl tC ⟨by decide +kernel, by decide +kernel⟩ oX3_has.2.2.2 rfl q1126 q1128 qs34 qs34 q1128 (Nat.le_of_ble_eq_true rfl) (Nat.le_of_ble_eq_true rfl) (g_rI ?_) g_nt rfl
      refine g_istore_n (pc' := 28) (L' := [some (.ref A.1), some (.int x1), some (.int x2), some (.int q6)]) dX3_leanFor_27 rfl rfl (Nat.le_of_ble_eq_true rfl) rfl rfl ?_
      refine g_iconst (pc' := 29) (v := 0) dX3_leanFor_28 rfl (by decide) ?_
      refine g_istore (pc' := 31) (L' := [some (.ref A.1), some (.int x1), some (.int x2), some (.int q6), some (.int 0)]) dX3_leanFor_29 rfl (Nat.le_of_ble_eq_true rfl) rfl rfl ?_
      refine g_iconst (pc' := 32) (v := (-1)) dX3_leanFor_31 rfl (by decide) ?_
      refine g_istore (pc' := 34) (L' := [some (.ref A.1), some (.int x1), some (.int x2), some (.int q6), some (.int 0), some (.int (-1))]) dX3_leanFor_32 rfl (Nat.le_of_ble_eq_true rfl) rfl rfl ?_
      refine g_iconst (pc' := 35) (v := 0) dX3_leanFor_34 rfl (by decide) ?_
      refine g_istore (pc' := 37) (L' := [some (.ref A.1), some (.int x1), some (.int x2), some (.int q6), some (.int 0), some (.int (-1)), some (.int 0)]) dX3_leanFor_35 rfl (Nat.le_of_ble_eq_true rfl) rfl rfl ?_
      obtain ⟨q16, hq16, hf⟩ := Option.bind_eq_some_iff.mp hf
      refine wX3_leanFor_l37 hA x1 x2 q6 FU (0, (-1), 0, M) q16 hq16 ?_
      refine g_aload_n (pc' := 107) dX3_leanFor_106 rfl rfl rfl ?_
      refine gt_get (k := 0) (pc' := 110) (by decide) dX3_leanFor_107 rfl q1048 rfl ?_
      refine g_iload_n (pc' := 111) dX3_leanFor_110 rfl rfl rfl ?_
      refine g_iconst (pc' := 112) (v := 2) dX3_leanFor_111 rfl (by decide) ?_
      obtain ⟨q17, hq17, hf⟩ := Option.bind_eq_some_iff.mp hf
      refine g_callS (pc' := 115) (as := [.int x1, .int 2]) (wX3_partOf g _ x1 2 hq17) oX3_partOf ⟨Nat.le_of_ble_eq_true rfl, Nat.le_of_ble_eq_true rfl⟩ dX3_leanFor_112 rfl q1045 q1046 q86 (Nat.le_of_ble_eq_true rfl) (Nat.le_of_ble_eq_true rfl) (g_rI ?_) g_nt rfl
      refine g_iload_n (pc' := 116) dX3_leanFor_115 rfl rfl rfl ?_
      obtain ⟨w18, hw18, hf⟩ := Option.bind_eq_some_iff.mp hf
      refine gt_iast (pc' := 117) hA (by decide) dX3_leanFor_116 rfl hw18 ?_
      refine g_iload (pc' := 119) dX3_leanFor_117 rfl rfl ?_
      obtain rfl := Option.some.inj hf
      exact g_iret dX3_leanFor_119 rfl rfl ⟨rfl, rfl⟩
    · replace hf := (if_pos h5).symm.trans hf
      refine g_aload_n (pc' := 15) dX3_leanFor_14 rfl rfl rfl ?_
      refine g_ldc (pc' := 17) dX3_leanFor_15 rfl q1116 ?_
      obtain ⟨q19, hq19, hf⟩ := Option.bind_eq_some_iff.mp hf
      refine g_callV (pc' := 20) (mx := mdX3_finds) (as := [.int (-1000000001)]) (wX3_finds g hA _ _ (-1000000001) hq19) oX3_finds ⟨Nat.le_of_ble_eq_true rfl, Nat.le_of_ble_eq_true rfl⟩ dX3_leanFor_17 rfl (ci := 3) rfl tC ⟨by decide +kernel, by decide +kernel⟩ oX3_finds.2.2.2 rfl q1117 q1119 qs33 qs33 q1119 (Nat.le_of_ble_eq_true rfl) (Nat.le_of_ble_eq_true rfl) (g_rI ?_) g_nt rfl
      obtain rfl := Option.some.inj hf
      exact g_iret dX3_leanFor_20 rfl rfl ⟨rfl, rfl⟩
def mdX3_kind : bMD := (yX3_kind, cX3_kind, 7, (some FieldType.int), [], 4, 78)
theorem oX3_kind : bOkc mdX3_kind 1 := ⟨by decide +kernel, ⟨by decide +kernel, by decide +kernel⟩, by decide +kernel, q1373⟩
def fX3_kind_l32 (y1 : Int32) (y2 : Int32) (rec : (Int32 × Int32 × Int32 × tM) → Option (Int32 × Int32 × Int32 × tM)) (s : Int32 × Int32 × Int32 × tM) : Option (Int32 × Int32 × Int32 × tM) :=
  (if 5 < s.2.2.1 then
  some (s.1, s.2.1, s.2.2.1, s.2.2.2)
else
  Option.bind (fX3_spotOf y1 0) fun q5 =>
  Option.bind (wA s.2.2.2 0 q5 s.2.2.1) fun w6 =>
  Option.bind (fX3_eats w6 y1) fun q7 =>
  Option.bind (α := Int32) ((if s.2.1 ≤ q7 then
  some s.1
else
  some s.2.2.1)) fun q8 =>
  Option.bind (α := Int32) ((if s.2.1 ≤ q7 then
  some s.2.1
else
  some q7)) fun q10 =>
  rec (q8, q10, (s.2.2.1 + 1), w6))
def fX3_kind (M : tM) (x1 : Int32) : Option (Int32 × tM) :=
  Option.bind (fX3_isRumour M x1) fun q1 =>
  (if q1 = 0 then
  Option.bind (fX3_finds M (-1000000001)) fun q15 =>
  some (q15.1, q15.2)
else
  Option.bind (fX3_its M x1 0) fun q3 =>
  Option.bind (lpF (fX3_kind_l32 x1 q3) FU (0, 999, 0, M)) fun q12 =>
  Option.bind (fX3_spotOf x1 0) fun q13 =>
  Option.bind (wA q12.2.2.2 0 q13 q3) fun w14 =>
  some (q12.1, w14))
set_option maxHeartbeats 4000000 in
theorem wX3_kind_l32 {g : bGh} {A : tA} (hA : tO A) {w : bWl} {n0 u0 : Nat} {Q : Outcome → bWl → Prop} (y1 : Int32) (y2 : Int32) : ∀ (n : Nat) (s : Int32 × Int32 × Int32 × tM) (r : (Int32 × Int32 × Int32 × tM)), lpF (fX3_kind_l32 y1 y2) n s = some r → bG (g, mdX3_kind, n0, u0, Q) (tW A r.2.2.2 w) 93 [some (.ref A.1), some (.int y1), some (.int y2), some (.int r.1), some (.int r.2.1), some (.int r.2.2.1)] [] → bG (g, mdX3_kind, n0, u0, Q) (tW A s.2.2.2 w) 32 [some (.ref A.1), some (.int y1), some (.int y2), some (.int s.1), some (.int s.2.1), some (.int s.2.2.1)] [] := by
  intro n
  induction n with
  | zero => intro s r hf; cases hf
  | succ n ih =>
    intro s r hf kx
    rw [lpF_s] at hf
    unfold fX3_kind_l32 at hf
    refine g_iload (pc' := 34) dX3_kind_32 rfl rfl ?_
    refine g_iconst (pc' := 35) (v := 5) dX3_kind_34 rfl (by decide) ?_
    refine g_icmp_gt (tgt := 93) (pc' := 38) dX3_kind_35 (by decide) rfl (fun h4 => ?_) (fun h4 => ?_)
    · replace hf := (if_pos h4).symm.trans hf
      obtain rfl := Option.some.inj hf
      exact kx
    · replace hf := (if_neg h4).symm.trans hf
      refine g_aload_n (pc' := 39) dX3_kind_38 rfl rfl rfl ?_
      refine gt_get (k := 0) (pc' := 42) (by decide) dX3_kind_39 rfl q1048 rfl ?_
      refine g_iload_n (pc' := 43) dX3_kind_42 rfl rfl rfl ?_
      refine g_iconst (pc' := 44) (v := 0) dX3_kind_43 rfl (by decide) ?_
      obtain ⟨q5, hq5, hf⟩ := Option.bind_eq_some_iff.mp hf
      refine g_callS (pc' := 47) (as := [.int y1, .int 0]) (wX3_spotOf g _ y1 0 hq5) oX3_spotOf ⟨Nat.le_of_ble_eq_true rfl, Nat.le_of_ble_eq_true rfl⟩ dX3_kind_44 rfl q1138 q1139 q86 (Nat.le_of_ble_eq_true rfl) (Nat.le_of_ble_eq_true rfl) (g_rI ?_) g_nt rfl
      refine g_iload (pc' := 49) dX3_kind_47 rfl rfl ?_
      obtain ⟨w6, hw6, hf⟩ := Option.bind_eq_some_iff.mp hf
      refine gt_iast (pc' := 50) hA (by decide) dX3_kind_49 rfl hw6 ?_
      refine g_aload_n (pc' := 51) dX3_kind_50 rfl rfl rfl ?_
      refine g_iload_n (pc' := 52) dX3_kind_51 rfl rfl rfl ?_
      obtain ⟨q7, hq7, hf⟩ := Option.bind_eq_some_iff.mp hf
      refine g_callV (pc' := 55) (mx := mdX3_eats) (as := [.int y1]) (wX3_eats g hA _ _ y1 hq7) oX3_eats ⟨Nat.le_of_ble_eq_true rfl, Nat.le_of_ble_eq_true rfl⟩ dX3_kind_52 rfl (ci := 3) rfl tC ⟨by decide +kernel, by decide +kernel⟩ oX3_eats.2.2.2 rfl q1149 q1151 qs39 qs39 q1151 (Nat.le_of_ble_eq_true rfl) (Nat.le_of_ble_eq_true rfl) (g_rI ?_) g_nt rfl
      refine g_istore (pc' := 57) (L' := [some (.ref A.1), some (.int y1), some (.int y2), some (.int s.1), some (.int s.2.1), some (.int s.2.2.1), some (.int q7)]) dX3_kind_55 rfl (Nat.le_of_ble_eq_true rfl) rfl rfl ?_
      refine g_iload (pc' := 59) dX3_kind_57 rfl rfl ?_
      refine g_iload (pc' := 61) dX3_kind_59 rfl rfl ?_
      obtain ⟨q8, hqq8, hf⟩ := Option.bind_eq_some_iff.mp hf
      have hJq8 : bG (g, mdX3_kind, n0, u0, Q) (tW A w6 w) 70 [some (.ref A.1), some (.int y1), some (.int y2), none, some (.int s.2.1), some (.int s.2.2.1), some (.int q7)] [.int q8] := by
        refine g_istore_n (pc' := 71) (L' := [some (.ref A.1), some (.int y1), some (.int y2), some (.int q8), some (.int s.2.1), some (.int s.2.2.1), some (.int q7)]) dX3_kind_70 rfl rfl (Nat.le_of_ble_eq_true rfl) rfl rfl ?_
        refine g_iload (pc' := 73) dX3_kind_71 rfl rfl ?_
        refine g_iload (pc' := 75) dX3_kind_73 rfl rfl ?_
        obtain ⟨q10, hqq10, hf⟩ := Option.bind_eq_some_iff.mp hf
        have hJq10 : bG (g, mdX3_kind, n0, u0, Q) (tW A w6 w) 85 [some (.ref A.1), some (.int y1), some (.int y2), some (.int q8), none, some (.int s.2.2.1), none] [.int q10] := by
          refine g_istore (pc' := 87) (L' := [some (.ref A.1), some (.int y1), some (.int y2), some (.int q8), some (.int q10), some (.int s.2.2.1), none]) dX3_kind_85 rfl (Nat.le_of_ble_eq_true rfl) rfl rfl ?_
          refine g_iinc (pc' := 90) (v := s.2.2.1 + 1) (L' := [some (.ref A.1), some (.int y1), some (.int y2), some (.int q8), some (.int q10), some (.int (s.2.2.1 + 1)), none]) dX3_kind_87 rfl rfl rfl (Nat.le_of_ble_eq_true rfl) rfl rfl ?_
          refine g_goto (tgt := 32) dX3_kind_90 (by decide) ?_
          refine g_cut (L := [some (.ref A.1), some (.int y1), some (.int y2), some (.int q8), some (.int q10), some (.int (s.2.2.1 + 1))]) 1 rfl ?_
          exact ih _ r hf kx
        replace hf := hqq10
        refine g_icmp_ge (tgt := 83) (pc' := 78) dX3_kind_75 (by decide) rfl (fun h11 => ?_) (fun h11 => ?_)
        · replace hf := (if_pos h11).symm.trans hf
          refine g_iload (pc' := 85) dX3_kind_83 rfl rfl ?_
          obtain rfl := Option.some.inj hf
          refine g_drop [4, 6] (L' := [some (.ref A.1), some (.int y1), some (.int y2), some (.int q8), none, some (.int s.2.2.1), none]) rfl ?_
          exact hJq10
        · replace hf := (if_neg h11).symm.trans hf
          refine g_iload (pc' := 80) dX3_kind_78 rfl rfl ?_
          refine g_goto (tgt := 85) dX3_kind_80 (by decide) ?_
          obtain rfl := Option.some.inj hf
          refine g_drop [4, 6] (L' := [some (.ref A.1), some (.int y1), some (.int y2), some (.int q8), none, some (.int s.2.2.1), none]) rfl ?_
          exact hJq10
      replace hf := hqq8
      refine g_icmp_ge (tgt := 69) (pc' := 64) dX3_kind_61 (by decide) rfl (fun h9 => ?_) (fun h9 => ?_)
      · replace hf := (if_pos h9).symm.trans hf
        refine g_iload_n (pc' := 70) dX3_kind_69 rfl rfl rfl ?_
        obtain rfl := Option.some.inj hf
        refine g_drop [3] (L' := [some (.ref A.1), some (.int y1), some (.int y2), none, some (.int s.2.1), some (.int s.2.2.1), some (.int q7)]) rfl ?_
        exact hJq8
      · replace hf := (if_neg h9).symm.trans hf
        refine g_iload (pc' := 66) dX3_kind_64 rfl rfl ?_
        refine g_goto (tgt := 70) dX3_kind_66 (by decide) ?_
        obtain rfl := Option.some.inj hf
        refine g_drop [3] (L' := [some (.ref A.1), some (.int y1), some (.int y2), none, some (.int s.2.1), some (.int s.2.2.1), some (.int q7)]) rfl ?_
        exact hJq8
set_option maxHeartbeats 4000000 in
theorem wX3_kind (g : bGh) {A : tA} (hA : tO A) (w : bWl) (M : tM) (x1 : Int32) {r : (Int32 × tM)} (hf : fX3_kind M x1 = some r) : bM g mdX3_kind (tW A M w) [.ref A.1, .int x1] (q_ (eI r.1) (tW A r.2 w)) := by
  unfold fX3_kind at hf
  change bG _ _ 0 [some (.ref A.1), some (.int x1)] []
  refine g_aload_n (pc' := 1) dX3_kind_0 rfl rfl rfl ?_
  refine g_iload_n (pc' := 2) dX3_kind_1 rfl rfl rfl ?_
  obtain ⟨q1, hq1, hf⟩ := Option.bind_eq_some_iff.mp hf
  refine g_callV (pc' := 5) (mx := mdX3_isRumour) (as := [.int x1]) (wX3_isRumour g hA _ _ x1 hq1) oX3_isRumour ⟨Nat.le_of_ble_eq_true rfl, Nat.le_of_ble_eq_true rfl⟩ dX3_kind_2 rfl (ci := 3) rfl tC ⟨by decide +kernel, by decide +kernel⟩ oX3_isRumour.2.2.2 rfl q1173 q1175 qs41 qs41 q1175 (Nat.le_of_ble_eq_true rfl) (Nat.le_of_ble_eq_true rfl) (g_rI ?_) g_nt rfl
  refine g_if_ne (tgt := 15) (pc' := 8) dX3_kind_5 (by decide) rfl (fun h2 => ?_) (fun h2 => ?_)
  · replace hf := (if_neg h2).symm.trans hf
    refine g_aload_n (pc' := 16) dX3_kind_15 rfl rfl rfl ?_
    refine g_iload_n (pc' := 17) dX3_kind_16 rfl rfl rfl ?_
    refine g_iconst (pc' := 18) (v := 0) dX3_kind_17 rfl (by decide) ?_
    obtain ⟨q3, hq3, hf⟩ := Option.bind_eq_some_iff.mp hf
    refine g_callV (pc' := 21) (mx := mdX3_its) (as := [.int x1, .int 0]) (wX3_its g hA _ _ x1 0 hq3) oX3_its ⟨Nat.le_of_ble_eq_true rfl, Nat.le_of_ble_eq_true rfl⟩ dX3_kind_18 rfl (ci := 3) rfl tC ⟨by decide +kernel, by decide +kernel⟩ oX3_its.2.2.2 rfl q1134 q1136 qs36 qs36 q1136 (Nat.le_of_ble_eq_true rfl) (Nat.le_of_ble_eq_true rfl) (g_rI ?_) g_nt rfl
    refine g_istore_n (pc' := 22) (L' := [some (.ref A.1), some (.int x1), some (.int q3)]) dX3_kind_21 rfl rfl (Nat.le_of_ble_eq_true rfl) rfl rfl ?_
    refine g_iconst (pc' := 23) (v := 0) dX3_kind_22 rfl (by decide) ?_
    refine g_istore_n (pc' := 24) (L' := [some (.ref A.1), some (.int x1), some (.int q3), some (.int 0)]) dX3_kind_23 rfl rfl (Nat.le_of_ble_eq_true rfl) rfl rfl ?_
    refine g_sipush (pc' := 27) (v := 999) dX3_kind_24 rfl (by decide) ?_
    refine g_istore (pc' := 29) (L' := [some (.ref A.1), some (.int x1), some (.int q3), some (.int 0), some (.int 999)]) dX3_kind_27 rfl (Nat.le_of_ble_eq_true rfl) rfl rfl ?_
    refine g_iconst (pc' := 30) (v := 0) dX3_kind_29 rfl (by decide) ?_
    refine g_istore (pc' := 32) (L' := [some (.ref A.1), some (.int x1), some (.int q3), some (.int 0), some (.int 999), some (.int 0)]) dX3_kind_30 rfl (Nat.le_of_ble_eq_true rfl) rfl rfl ?_
    obtain ⟨q12, hq12, hf⟩ := Option.bind_eq_some_iff.mp hf
    refine wX3_kind_l32 hA x1 q3 FU (0, 999, 0, M) q12 hq12 ?_
    refine g_aload_n (pc' := 94) dX3_kind_93 rfl rfl rfl ?_
    refine gt_get (k := 0) (pc' := 97) (by decide) dX3_kind_94 rfl q1048 rfl ?_
    refine g_iload_n (pc' := 98) dX3_kind_97 rfl rfl rfl ?_
    refine g_iconst (pc' := 99) (v := 0) dX3_kind_98 rfl (by decide) ?_
    obtain ⟨q13, hq13, hf⟩ := Option.bind_eq_some_iff.mp hf
    refine g_callS (pc' := 102) (as := [.int x1, .int 0]) (wX3_spotOf g _ x1 0 hq13) oX3_spotOf ⟨Nat.le_of_ble_eq_true rfl, Nat.le_of_ble_eq_true rfl⟩ dX3_kind_99 rfl q1138 q1139 q86 (Nat.le_of_ble_eq_true rfl) (Nat.le_of_ble_eq_true rfl) (g_rI ?_) g_nt rfl
    refine g_iload_n (pc' := 103) dX3_kind_102 rfl rfl rfl ?_
    obtain ⟨w14, hw14, hf⟩ := Option.bind_eq_some_iff.mp hf
    refine gt_iast (pc' := 104) hA (by decide) dX3_kind_103 rfl hw14 ?_
    refine g_iload_n (pc' := 105) dX3_kind_104 rfl rfl rfl ?_
    obtain rfl := Option.some.inj hf
    exact g_iret dX3_kind_105 rfl rfl ⟨rfl, rfl⟩
  · replace hf := (if_pos h2).symm.trans hf
    refine g_aload_n (pc' := 9) dX3_kind_8 rfl rfl rfl ?_
    refine g_ldc (pc' := 11) dX3_kind_9 rfl q1116 ?_
    obtain ⟨q15, hq15, hf⟩ := Option.bind_eq_some_iff.mp hf
    refine g_callV (pc' := 14) (mx := mdX3_finds) (as := [.int (-1000000001)]) (wX3_finds g hA _ _ (-1000000001) hq15) oX3_finds ⟨Nat.le_of_ble_eq_true rfl, Nat.le_of_ble_eq_true rfl⟩ dX3_kind_11 rfl (ci := 3) rfl tC ⟨by decide +kernel, by decide +kernel⟩ oX3_finds.2.2.2 rfl q1117 q1119 qs33 qs33 q1119 (Nat.le_of_ble_eq_true rfl) (Nat.le_of_ble_eq_true rfl) (g_rI ?_) g_nt rfl
    obtain rfl := Option.some.inj hf
    exact g_iret dX3_kind_14 rfl rfl ⟨rfl, rfl⟩
def mdX3_host : bMD := (yX3_host, cX3_host, 3, (some FieldType.int), [], 7, 144)
theorem oX3_host : bOkc mdX3_host 1 := ⟨by decide +kernel, ⟨by decide +kernel, by decide +kernel⟩, by decide +kernel, q1377⟩
def fX3_host (M : tM) (x1 : Int32) : Option (Int32 × tM) :=
  Option.bind (fX3_isRumour M x1) fun q1 =>
  (if q1 = 0 then
  Option.bind (fX3_finds M (-1000000001)) fun q10 =>
  some (q10.1, q10.2)
else
  Option.bind (fX3_its M x1 1) fun q3 =>
  Option.bind (fX3_isTrue M q3) fun q4 =>
  Option.bind (α := Int32) ((if q4 = 0 then
  Option.bind (fX3_hostOf M x1) fun q7 =>
  some q7
else
  some (-1))) fun q5 =>
  (if q5 = (-1) then
  Option.bind (fX3_finds M (-1000000004)) fun q9 =>
  some (q9.1, q9.2)
else
  some (q5, M)))
set_option maxHeartbeats 4000000 in
theorem wX3_host (g : bGh) {A : tA} (hA : tO A) (w : bWl) (M : tM) (x1 : Int32) {r : (Int32 × tM)} (hf : fX3_host M x1 = some r) : bM g mdX3_host (tW A M w) [.ref A.1, .int x1] (q_ (eI r.1) (tW A r.2 w)) := by
  unfold fX3_host at hf
  change bG _ _ 0 [some (.ref A.1), some (.int x1)] []
  refine g_aload_n (pc' := 1) dX3_host_0 rfl rfl rfl ?_
  refine g_iload_n (pc' := 2) dX3_host_1 rfl rfl rfl ?_
  obtain ⟨q1, hq1, hf⟩ := Option.bind_eq_some_iff.mp hf
  refine g_callV (pc' := 5) (mx := mdX3_isRumour) (as := [.int x1]) (wX3_isRumour g hA _ _ x1 hq1) oX3_isRumour ⟨Nat.le_of_ble_eq_true rfl, Nat.le_of_ble_eq_true rfl⟩ dX3_host_2 rfl (ci := 3) rfl tC ⟨by decide +kernel, by decide +kernel⟩ oX3_isRumour.2.2.2 rfl q1173 q1175 qs41 qs41 q1175 (Nat.le_of_ble_eq_true rfl) (Nat.le_of_ble_eq_true rfl) (g_rI ?_) g_nt rfl
  refine g_if_ne (tgt := 15) (pc' := 8) dX3_host_5 (by decide) rfl (fun h2 => ?_) (fun h2 => ?_)
  · replace hf := (if_neg h2).symm.trans hf
    refine g_aload_n (pc' := 16) dX3_host_15 rfl rfl rfl ?_
    refine g_aload_n (pc' := 17) dX3_host_16 rfl rfl rfl ?_
    refine g_iload_n (pc' := 18) dX3_host_17 rfl rfl rfl ?_
    refine g_iconst (pc' := 19) (v := 1) dX3_host_18 rfl (by decide) ?_
    obtain ⟨q3, hq3, hf⟩ := Option.bind_eq_some_iff.mp hf
    refine g_callV (pc' := 22) (mx := mdX3_its) (as := [.int x1, .int 1]) (wX3_its g hA _ _ x1 1 hq3) oX3_its ⟨Nat.le_of_ble_eq_true rfl, Nat.le_of_ble_eq_true rfl⟩ dX3_host_19 rfl (ci := 3) rfl tC ⟨by decide +kernel, by decide +kernel⟩ oX3_its.2.2.2 rfl q1134 q1136 qs36 qs36 q1136 (Nat.le_of_ble_eq_true rfl) (Nat.le_of_ble_eq_true rfl) (g_rI ?_) g_nt rfl
    obtain ⟨q4, hq4, hf⟩ := Option.bind_eq_some_iff.mp hf
    refine g_callV (pc' := 25) (mx := mdX3_isTrue) (as := [.int q3]) (wX3_isTrue g hA _ _ q3 hq4) oX3_isTrue ⟨Nat.le_of_ble_eq_true rfl, Nat.le_of_ble_eq_true rfl⟩ dX3_host_22 rfl (ci := 3) rfl tC ⟨by decide +kernel, by decide +kernel⟩ oX3_isTrue.2.2.2 rfl q1221 q1223 qs46 qs46 q1223 (Nat.le_of_ble_eq_true rfl) (Nat.le_of_ble_eq_true rfl) (g_rI ?_) g_nt rfl
    obtain ⟨q5, hqq5, hf⟩ := Option.bind_eq_some_iff.mp hf
    have hJq5 : bG (g, mdX3_host, (tW A M w).2.1, (tW A M w).2.2.1, (q_ (eI r.1) (tW A r.2 w))) (tW A M w) 37 [some (.ref A.1), none] [.int q5] := by
      refine g_istore_n (pc' := 38) (L' := [some (.ref A.1), none, some (.int q5)]) dX3_host_37 rfl rfl (Nat.le_of_ble_eq_true rfl) rfl rfl ?_
      refine g_iload_n (pc' := 39) dX3_host_38 rfl rfl rfl ?_
      refine g_iconst (pc' := 40) (v := (-1)) dX3_host_39 rfl (by decide) ?_
      refine g_icmp_ne (tgt := 52) (pc' := 43) dX3_host_40 (by decide) rfl (fun h8 => ?_) (fun h8 => ?_)
      · replace hf := (if_neg h8).symm.trans hf
        refine g_iload_n (pc' := 53) dX3_host_52 rfl rfl rfl ?_
        obtain rfl := Option.some.inj hf
        exact g_iret dX3_host_53 rfl rfl ⟨rfl, rfl⟩
      · replace hf := (if_pos h8).symm.trans hf
        refine g_aload_n (pc' := 44) dX3_host_43 rfl rfl rfl ?_
        refine g_ldc (pc' := 46) dX3_host_44 rfl q1334 ?_
        obtain ⟨q9, hq9, hf⟩ := Option.bind_eq_some_iff.mp hf
        refine g_callV (pc' := 49) (mx := mdX3_finds) (as := [.int (-1000000004)]) (wX3_finds g hA _ _ (-1000000004) hq9) oX3_finds ⟨Nat.le_of_ble_eq_true rfl, Nat.le_of_ble_eq_true rfl⟩ dX3_host_46 rfl (ci := 3) rfl tC ⟨by decide +kernel, by decide +kernel⟩ oX3_finds.2.2.2 rfl q1117 q1119 qs33 qs33 q1119 (Nat.le_of_ble_eq_true rfl) (Nat.le_of_ble_eq_true rfl) (g_rI ?_) g_nt rfl
        refine g_goto (tgt := 53) dX3_host_49 (by decide) ?_
        obtain rfl := Option.some.inj hf
        exact g_iret dX3_host_53 rfl rfl ⟨rfl, rfl⟩
    replace hf := hqq5
    refine g_if_eq (tgt := 32) (pc' := 28) dX3_host_25 (by decide) rfl (fun h6 => ?_) (fun h6 => ?_)
    · replace hf := (if_pos h6).symm.trans hf
      refine g_aload_n (pc' := 33) dX3_host_32 rfl rfl rfl ?_
      refine g_iload_n (pc' := 34) dX3_host_33 rfl rfl rfl ?_
      obtain ⟨q7, hq7, hf⟩ := Option.bind_eq_some_iff.mp hf
      refine g_callV (pc' := 37) (mx := mdX3_hostOf) (as := [.int x1]) (wX3_hostOf g hA _ _ x1 hq7) oX3_hostOf ⟨Nat.le_of_ble_eq_true rfl, Nat.le_of_ble_eq_true rfl⟩ dX3_host_34 rfl (ci := 3) rfl tC ⟨by decide +kernel, by decide +kernel⟩ oX3_hostOf.2.2.2 rfl q1226 q1228 qs47 qs47 q1228 (Nat.le_of_ble_eq_true rfl) (Nat.le_of_ble_eq_true rfl) (g_rI ?_) g_nt rfl
      obtain rfl := Option.some.inj hf
      refine g_drop [1] (L' := [some (.ref A.1), none]) rfl ?_
      exact hJq5
    · replace hf := (if_neg h6).symm.trans hf
      refine g_iconst (pc' := 29) (v := (-1)) dX3_host_28 rfl (by decide) ?_
      refine g_goto (tgt := 37) dX3_host_29 (by decide) ?_
      obtain rfl := Option.some.inj hf
      refine g_drop [1] (L' := [some (.ref A.1), none]) rfl ?_
      exact hJq5
  · replace hf := (if_pos h2).symm.trans hf
    refine g_aload_n (pc' := 9) dX3_host_8 rfl rfl rfl ?_
    refine g_ldc (pc' := 11) dX3_host_9 rfl q1116 ?_
    obtain ⟨q10, hq10, hf⟩ := Option.bind_eq_some_iff.mp hf
    refine g_callV (pc' := 14) (mx := mdX3_finds) (as := [.int (-1000000001)]) (wX3_finds g hA _ _ (-1000000001) hq10) oX3_finds ⟨Nat.le_of_ble_eq_true rfl, Nat.le_of_ble_eq_true rfl⟩ dX3_host_11 rfl (ci := 3) rfl tC ⟨by decide +kernel, by decide +kernel⟩ oX3_finds.2.2.2 rfl q1117 q1119 qs33 qs33 q1119 (Nat.le_of_ble_eq_true rfl) (Nat.le_of_ble_eq_true rfl) (g_rI ?_) g_nt rfl
    obtain rfl := Option.some.inj hf
    exact g_iret dX3_host_14 rfl rfl ⟨rfl, rfl⟩
def mdX3_beds : bMD := (yX3_beds, cX3_beds, 6, (some FieldType.int), [], 9, 187)
theorem oX3_beds : bOkc mdX3_beds 2 := ⟨by decide +kernel, ⟨by decide +kernel, by decide +kernel⟩, by decide +kernel, q1381⟩
def fX3_beds_l34 (y1 : Int32) (y2 : Int32) (y3 : Int32) (rec : (Int32 × Int32 × tM) → Option (Int32 × Int32 × tM)) (s : Int32 × Int32 × tM) : Option (Int32 × Int32 × tM) :=
  (if 3 < s.2.1 then
  some (s.1, s.2.1, s.2.2)
else
  (if 0 ≤ s.1 then
  some (s.1, s.2.1, s.2.2)
else
  Option.bind (fX3_partOf y1 0) fun q9 =>
  Option.bind (wA s.2.2 0 q9 s.2.1) fun w10 =>
  Option.bind (fX3_laysAside w10) fun q11 =>
  Option.bind (fX3_daysGo q11 y2) fun q12 =>
  Option.bind (fX3_thoseAt q12 (-1)) fun q13 =>
  Option.bind (α := Int32) ((if q13 = 0 then
  some s.2.1
else
  some (-1))) fun q14 =>
  Option.bind (fX3_takesBack q12 q14) fun q16 =>
  rec (q16.1, (s.2.1 + 1), q16.2)))
def fX3_beds (M : tM) (x1 : Int32) (x2 : Int32) : Option (Int32 × tM) :=
  Option.bind (fX3_isHouse x1) fun q1 =>
  (if q1 = 0 then
  Option.bind (fX3_finds M (-1000000001)) fun q3 =>
  some (q3.1, q3.2)
else
  Option.bind (fX3_isSoon x2) fun q4 =>
  (if q4 = 0 then
  Option.bind (fX3_finds M (-1000000001)) fun q22 =>
  some (q22.1, q22.2)
else
  Option.bind (fX3_has M x1 0) fun q6 =>
  Option.bind (lpF (fX3_beds_l34 x1 x2 q6) FU ((-1), 0, M)) fun q17 =>
  Option.bind (fX3_partOf x1 0) fun q18 =>
  Option.bind (wA q17.2.2 0 q18 q6) fun w19 =>
  (if 0 ≤ q17.1 then
  some (q17.1, w19)
else
  Option.bind (fX3_finds w19 (-1000000004)) fun q21 =>
  some (q21.1, q21.2))))
set_option maxHeartbeats 4000000 in
theorem wX3_beds_l34 {g : bGh} {A : tA} (hA : tO A) {w : bWl} {n0 u0 : Nat} {Q : Outcome → bWl → Prop} (y1 : Int32) (y2 : Int32) (y3 : Int32) : ∀ (n : Nat) (s : Int32 × Int32 × tM) (r : (Int32 × Int32 × tM)), lpF (fX3_beds_l34 y1 y2 y3) n s = some r → bG (g, mdX3_beds, n0, u0, Q) (tW A r.2.2 w) 92 [some (.ref A.1), some (.int y1), some (.int y2), some (.int y3), some (.int r.1), some (.int r.2.1)] [] → bG (g, mdX3_beds, n0, u0, Q) (tW A s.2.2 w) 34 [some (.ref A.1), some (.int y1), some (.int y2), some (.int y3), some (.int s.1), some (.int s.2.1)] [] := by
  intro n
  induction n with
  | zero => intro s r hf; cases hf
  | succ n ih =>
    intro s r hf kx
    rw [lpF_s] at hf
    unfold fX3_beds_l34 at hf
    refine g_iload (pc' := 36) dX3_beds_34 rfl rfl ?_
    refine g_iconst (pc' := 37) (v := 3) dX3_beds_36 rfl (by decide) ?_
    refine g_icmp_gt (tgt := 92) (pc' := 40) dX3_beds_37 (by decide) rfl (fun h7 => ?_) (fun h7 => ?_)
    · replace hf := (if_pos h7).symm.trans hf
      obtain rfl := Option.some.inj hf
      exact kx
    · replace hf := (if_neg h7).symm.trans hf
      refine g_iload (pc' := 42) dX3_beds_40 rfl rfl ?_
      refine g_if_ge (tgt := 92) (pc' := 45) dX3_beds_42 (by decide) rfl (fun h8 => ?_) (fun h8 => ?_)
      · replace hf := (if_pos h8).symm.trans hf
        obtain rfl := Option.some.inj hf
        exact kx
      · replace hf := (if_neg h8).symm.trans hf
        refine g_aload_n (pc' := 46) dX3_beds_45 rfl rfl rfl ?_
        refine gt_get (k := 0) (pc' := 49) (by decide) dX3_beds_46 rfl q1048 rfl ?_
        refine g_iload_n (pc' := 50) dX3_beds_49 rfl rfl rfl ?_
        refine g_iconst (pc' := 51) (v := 0) dX3_beds_50 rfl (by decide) ?_
        obtain ⟨q9, hq9, hf⟩ := Option.bind_eq_some_iff.mp hf
        refine g_callS (pc' := 54) (as := [.int y1, .int 0]) (wX3_partOf g _ y1 0 hq9) oX3_partOf ⟨Nat.le_of_ble_eq_true rfl, Nat.le_of_ble_eq_true rfl⟩ dX3_beds_51 rfl q1045 q1046 q86 (Nat.le_of_ble_eq_true rfl) (Nat.le_of_ble_eq_true rfl) (g_rI ?_) g_nt rfl
        refine g_iload (pc' := 56) dX3_beds_54 rfl rfl ?_
        obtain ⟨w10, hw10, hf⟩ := Option.bind_eq_some_iff.mp hf
        refine gt_iast (pc' := 57) hA (by decide) dX3_beds_56 rfl hw10 ?_
        refine g_aload_n (pc' := 58) dX3_beds_57 rfl rfl rfl ?_
        obtain ⟨q11, hq11, hf⟩ := Option.bind_eq_some_iff.mp hf
        refine g_callV (pc' := 61) (mx := mdX3_laysAside) (as := []) (wX3_laysAside g hA _ _ hq11) oX3_laysAside ⟨Nat.le_of_ble_eq_true rfl, Nat.le_of_ble_eq_true rfl⟩ dX3_beds_58 rfl (ci := 3) rfl tC ⟨by decide +kernel, by decide +kernel⟩ oX3_laysAside.2.2.2 rfl q1314 q1316 qs61 qs61 q1316 (Nat.le_of_ble_eq_true rfl) (Nat.le_of_ble_eq_true rfl) (g_rV ?_) g_nt rfl
        refine g_aload_n (pc' := 62) dX3_beds_61 rfl rfl rfl ?_
        refine g_iload_n (pc' := 63) dX3_beds_62 rfl rfl rfl ?_
        obtain ⟨q12, hq12, hf⟩ := Option.bind_eq_some_iff.mp hf
        refine g_callV (pc' := 66) (mx := mdX3_daysGo) (as := [.int y2]) (wX3_daysGo g hA _ _ y2 hq12) oX3_daysGo ⟨Nat.le_of_ble_eq_true rfl, Nat.le_of_ble_eq_true rfl⟩ dX3_beds_63 rfl (ci := 3) rfl tC ⟨by decide +kernel, by decide +kernel⟩ oX3_daysGo.2.2.2 rfl q1259 q1261 qs50 qs50 q1261 (Nat.le_of_ble_eq_true rfl) (Nat.le_of_ble_eq_true rfl) (g_rV ?_) g_nt rfl
        refine g_aload_n (pc' := 67) dX3_beds_66 rfl rfl rfl ?_
        refine g_aload_n (pc' := 68) dX3_beds_67 rfl rfl rfl ?_
        refine g_iconst (pc' := 69) (v := (-1)) dX3_beds_68 rfl (by decide) ?_
        obtain ⟨q13, hq13, hf⟩ := Option.bind_eq_some_iff.mp hf
        refine g_callV (pc' := 72) (mx := mdX3_thoseAt) (as := [.int (-1)]) (wX3_thoseAt g hA _ _ (-1) hq13) oX3_thoseAt ⟨Nat.le_of_ble_eq_true rfl, Nat.le_of_ble_eq_true rfl⟩ dX3_beds_69 rfl (ci := 3) rfl tC ⟨by decide +kernel, by decide +kernel⟩ oX3_thoseAt.2.2.2 rfl q1130 q1132 qs35 qs35 q1132 (Nat.le_of_ble_eq_true rfl) (Nat.le_of_ble_eq_true rfl) (g_rI ?_) g_nt rfl
        obtain ⟨q14, hqq14, hf⟩ := Option.bind_eq_some_iff.mp hf
        have hJq14 : bG (g, mdX3_beds, n0, u0, Q) (tW A q12 w) 81 [some (.ref A.1), some (.int y1), some (.int y2), some (.int y3), none, some (.int s.2.1)] [.int q14, .ref A.1] := by
          obtain ⟨q16, hq16, hf⟩ := Option.bind_eq_some_iff.mp hf
          refine g_callV (pc' := 84) (mx := mdX3_takesBack) (as := [.int q14]) (wX3_takesBack g hA _ _ q14 hq16) oX3_takesBack ⟨Nat.le_of_ble_eq_true rfl, Nat.le_of_ble_eq_true rfl⟩ dX3_beds_81 rfl (ci := 3) rfl tC ⟨by decide +kernel, by decide +kernel⟩ oX3_takesBack.2.2.2 rfl q1318 q1320 qs62 qs62 q1320 (Nat.le_of_ble_eq_true rfl) (Nat.le_of_ble_eq_true rfl) (g_rI ?_) g_nt rfl
          refine g_istore (pc' := 86) (L' := [some (.ref A.1), some (.int y1), some (.int y2), some (.int y3), some (.int q16.1), some (.int s.2.1)]) dX3_beds_84 rfl (Nat.le_of_ble_eq_true rfl) rfl rfl ?_
          refine g_iinc (pc' := 89) (v := s.2.1 + 1) (L' := [some (.ref A.1), some (.int y1), some (.int y2), some (.int y3), some (.int q16.1), some (.int (s.2.1 + 1))]) dX3_beds_86 rfl rfl rfl (Nat.le_of_ble_eq_true rfl) rfl rfl ?_
          refine g_goto (tgt := 34) dX3_beds_89 (by decide) ?_
          exact ih _ r hf kx
        replace hf := hqq14
        refine g_if_ne (tgt := 80) (pc' := 75) dX3_beds_72 (by decide) rfl (fun h15 => ?_) (fun h15 => ?_)
        · replace hf := (if_neg h15).symm.trans hf
          refine g_iconst (pc' := 81) (v := (-1)) dX3_beds_80 rfl (by decide) ?_
          obtain rfl := Option.some.inj hf
          refine g_drop [4] (L' := [some (.ref A.1), some (.int y1), some (.int y2), some (.int y3), none, some (.int s.2.1)]) rfl ?_
          exact hJq14
        · replace hf := (if_pos h15).symm.trans hf
          refine g_iload (pc' := 77) dX3_beds_75 rfl rfl ?_
          refine g_goto (tgt := 81) dX3_beds_77 (by decide) ?_
          obtain rfl := Option.some.inj hf
          refine g_drop [4] (L' := [some (.ref A.1), some (.int y1), some (.int y2), some (.int y3), none, some (.int s.2.1)]) rfl ?_
          exact hJq14
set_option maxHeartbeats 4000000 in
theorem wX3_beds (g : bGh) {A : tA} (hA : tO A) (w : bWl) (M : tM) (x1 : Int32) (x2 : Int32) {r : (Int32 × tM)} (hf : fX3_beds M x1 x2 = some r) : bM g mdX3_beds (tW A M w) [.ref A.1, .int x1, .int x2] (q_ (eI r.1) (tW A r.2 w)) := by
  unfold fX3_beds at hf
  change bG _ _ 0 [some (.ref A.1), some (.int x1), some (.int x2)] []
  refine g_iload_n (pc' := 1) dX3_beds_0 rfl rfl rfl ?_
  obtain ⟨q1, hq1, hf⟩ := Option.bind_eq_some_iff.mp hf
  refine g_callS (pc' := 4) (as := [.int x1]) (wX3_isHouse g _ x1 hq1) oX3_isHouse ⟨Nat.le_of_ble_eq_true rfl, Nat.le_of_ble_eq_true rfl⟩ dX3_beds_1 rfl q1108 q1109 q86 (Nat.le_of_ble_eq_true rfl) (Nat.le_of_ble_eq_true rfl) (g_rI ?_) g_nt rfl
  refine g_if_eq (tgt := 14) (pc' := 7) dX3_beds_4 (by decide) rfl (fun h2 => ?_) (fun h2 => ?_)
  · replace hf := (if_pos h2).symm.trans hf
    refine g_aload_n (pc' := 15) dX3_beds_14 rfl rfl rfl ?_
    refine g_ldc (pc' := 17) dX3_beds_15 rfl q1116 ?_
    obtain ⟨q3, hq3, hf⟩ := Option.bind_eq_some_iff.mp hf
    refine g_callV (pc' := 20) (mx := mdX3_finds) (as := [.int (-1000000001)]) (wX3_finds g hA _ _ (-1000000001) hq3) oX3_finds ⟨Nat.le_of_ble_eq_true rfl, Nat.le_of_ble_eq_true rfl⟩ dX3_beds_17 rfl (ci := 3) rfl tC ⟨by decide +kernel, by decide +kernel⟩ oX3_finds.2.2.2 rfl q1117 q1119 qs33 qs33 q1119 (Nat.le_of_ble_eq_true rfl) (Nat.le_of_ble_eq_true rfl) (g_rI ?_) g_nt rfl
    obtain rfl := Option.some.inj hf
    exact g_iret dX3_beds_20 rfl rfl ⟨rfl, rfl⟩
  · replace hf := (if_neg h2).symm.trans hf
    refine g_iload_n (pc' := 8) dX3_beds_7 rfl rfl rfl ?_
    obtain ⟨q4, hq4, hf⟩ := Option.bind_eq_some_iff.mp hf
    refine g_callS (pc' := 11) (as := [.int x2]) (wX3_isSoon g _ x2 hq4) oX3_isSoon ⟨Nat.le_of_ble_eq_true rfl, Nat.le_of_ble_eq_true rfl⟩ dX3_beds_8 rfl q1359 q1360 q86 (Nat.le_of_ble_eq_true rfl) (Nat.le_of_ble_eq_true rfl) (g_rI ?_) g_nt rfl
    refine g_if_ne (tgt := 21) (pc' := 14) dX3_beds_11 (by decide) rfl (fun h5 => ?_) (fun h5 => ?_)
    · replace hf := (if_neg h5).symm.trans hf
      refine g_aload_n (pc' := 22) dX3_beds_21 rfl rfl rfl ?_
      refine g_iload_n (pc' := 23) dX3_beds_22 rfl rfl rfl ?_
      refine g_iconst (pc' := 24) (v := 0) dX3_beds_23 rfl (by decide) ?_
      obtain ⟨q6, hq6, hf⟩ := Option.bind_eq_some_iff.mp hf
      refine g_callV (pc' := 27) (mx := mdX3_has) (as := [.int x1, .int 0]) (wX3_has g hA _ _ x1 0 hq6) oX3_has ⟨Nat.le_of_ble_eq_true rfl, Nat.le_of_ble_eq_true rfl⟩ dX3_beds_24 rfl (ci := 3) rfl tC ⟨by decide +kernel, by decide +kernel⟩ oX3_has.2.2.2 rfl q1126 q1128 qs34 qs34 q1128 (Nat.le_of_ble_eq_true rfl) (Nat.le_of_ble_eq_true rfl) (g_rI ?_) g_nt rfl
      refine g_istore_n (pc' := 28) (L' := [some (.ref A.1), some (.int x1), some (.int x2), some (.int q6)]) dX3_beds_27 rfl rfl (Nat.le_of_ble_eq_true rfl) rfl rfl ?_
      refine g_iconst (pc' := 29) (v := (-1)) dX3_beds_28 rfl (by decide) ?_
      refine g_istore (pc' := 31) (L' := [some (.ref A.1), some (.int x1), some (.int x2), some (.int q6), some (.int (-1))]) dX3_beds_29 rfl (Nat.le_of_ble_eq_true rfl) rfl rfl ?_
      refine g_iconst (pc' := 32) (v := 0) dX3_beds_31 rfl (by decide) ?_
      refine g_istore (pc' := 34) (L' := [some (.ref A.1), some (.int x1), some (.int x2), some (.int q6), some (.int (-1)), some (.int 0)]) dX3_beds_32 rfl (Nat.le_of_ble_eq_true rfl) rfl rfl ?_
      obtain ⟨q17, hq17, hf⟩ := Option.bind_eq_some_iff.mp hf
      refine wX3_beds_l34 hA x1 x2 q6 FU ((-1), 0, M) q17 hq17 ?_
      refine g_aload_n (pc' := 93) dX3_beds_92 rfl rfl rfl ?_
      refine gt_get (k := 0) (pc' := 96) (by decide) dX3_beds_93 rfl q1048 rfl ?_
      refine g_iload_n (pc' := 97) dX3_beds_96 rfl rfl rfl ?_
      refine g_iconst (pc' := 98) (v := 0) dX3_beds_97 rfl (by decide) ?_
      obtain ⟨q18, hq18, hf⟩ := Option.bind_eq_some_iff.mp hf
      refine g_callS (pc' := 101) (as := [.int x1, .int 0]) (wX3_partOf g _ x1 0 hq18) oX3_partOf ⟨Nat.le_of_ble_eq_true rfl, Nat.le_of_ble_eq_true rfl⟩ dX3_beds_98 rfl q1045 q1046 q86 (Nat.le_of_ble_eq_true rfl) (Nat.le_of_ble_eq_true rfl) (g_rI ?_) g_nt rfl
      refine g_iload_n (pc' := 102) dX3_beds_101 rfl rfl rfl ?_
      obtain ⟨w19, hw19, hf⟩ := Option.bind_eq_some_iff.mp hf
      refine gt_iast (pc' := 103) hA (by decide) dX3_beds_102 rfl hw19 ?_
      refine g_iload (pc' := 105) dX3_beds_103 rfl rfl ?_
      refine g_if_ge (tgt := 117) (pc' := 108) dX3_beds_105 (by decide) rfl (fun h20 => ?_) (fun h20 => ?_)
      · replace hf := (if_pos h20).symm.trans hf
        refine g_iload (pc' := 119) dX3_beds_117 rfl rfl ?_
        obtain rfl := Option.some.inj hf
        exact g_iret dX3_beds_119 rfl rfl ⟨rfl, rfl⟩
      · replace hf := (if_neg h20).symm.trans hf
        refine g_aload_n (pc' := 109) dX3_beds_108 rfl rfl rfl ?_
        refine g_ldc (pc' := 111) dX3_beds_109 rfl q1334 ?_
        obtain ⟨q21, hq21, hf⟩ := Option.bind_eq_some_iff.mp hf
        refine g_callV (pc' := 114) (mx := mdX3_finds) (as := [.int (-1000000004)]) (wX3_finds g hA _ _ (-1000000004) hq21) oX3_finds ⟨Nat.le_of_ble_eq_true rfl, Nat.le_of_ble_eq_true rfl⟩ dX3_beds_111 rfl (ci := 3) rfl tC ⟨by decide +kernel, by decide +kernel⟩ oX3_finds.2.2.2 rfl q1117 q1119 qs33 qs33 q1119 (Nat.le_of_ble_eq_true rfl) (Nat.le_of_ble_eq_true rfl) (g_rI ?_) g_nt rfl
        refine g_goto (tgt := 119) dX3_beds_114 (by decide) ?_
        obtain rfl := Option.some.inj hf
        exact g_iret dX3_beds_119 rfl rfl ⟨rfl, rfl⟩
    · replace hf := (if_pos h5).symm.trans hf
      refine g_aload_n (pc' := 15) dX3_beds_14 rfl rfl rfl ?_
      refine g_ldc (pc' := 17) dX3_beds_15 rfl q1116 ?_
      obtain ⟨q22, hq22, hf⟩ := Option.bind_eq_some_iff.mp hf
      refine g_callV (pc' := 20) (mx := mdX3_finds) (as := [.int (-1000000001)]) (wX3_finds g hA _ _ (-1000000001) hq22) oX3_finds ⟨Nat.le_of_ble_eq_true rfl, Nat.le_of_ble_eq_true rfl⟩ dX3_beds_17 rfl (ci := 3) rfl tC ⟨by decide +kernel, by decide +kernel⟩ oX3_finds.2.2.2 rfl q1117 q1119 qs33 qs33 q1119 (Nat.le_of_ble_eq_true rfl) (Nat.le_of_ble_eq_true rfl) (g_rI ?_) g_nt rfl
      obtain rfl := Option.some.inj hf
      exact g_iret dX3_beds_20 rfl rfl ⟨rfl, rfl⟩
def mdX3_feed : bMD := (yX3_feed, cX3_feed, 4, (some FieldType.int), [], 2, 37)
theorem oX3_feed : bOkc mdX3_feed 2 := ⟨by decide +kernel, ⟨by decide +kernel, by decide +kernel⟩, by decide +kernel, q1385⟩
def fX3_feed_l41 (y1 : Int32) (rec : (Int32 × tM) → Option (Int32 × tM)) (s : Int32 × tM) : Option (Int32 × tM) :=
  (if s.1 < 0 then
  some (s.1, s.2)
else
  Option.bind (wA s.2 6 (s.2.1 7) ((y1 >>> ((8 * s.1) &&& 31)) &&& 255)) fun w5 =>
  rec ((s.1 + (-1)), (wI w5 7 ((w5.1 7) + 1))))
def fX3_feed (M : tM) (x1 : Int32) (x2 : Int32) : Option (Int32 × tM) :=
  Option.bind (fX3_in ((x2 : Int32).toInt64) 1 4) fun q1 =>
  (if q1 = 0 then
  Option.bind (fX3_finds M (-1000000001)) fun q8 =>
  some (q8.1, q8.2)
else
  (if ((M.1 7) + x2) ≤ 120 then
  Option.bind (lpF (fX3_feed_l41 x1) FU ((x2 - 1), M)) fun q6 =>
  some ((q6.2.1 7), q6.2)
else
  Option.bind (fX3_finds M (-1000000002)) fun q7 =>
  some (q7.1, q7.2)))
set_option maxHeartbeats 4000000 in
theorem wX3_feed_l41 {g : bGh} {A : tA} (hA : tO A) {w : bWl} {n0 u0 : Nat} {Q : Outcome → bWl → Prop} (y1 : Int32) : ∀ (n : Nat) (s : Int32 × tM) (r : (Int32 × tM)), lpF (fX3_feed_l41 y1) n s = some r → bG (g, mdX3_feed, n0, u0, Q) (tW A r.2 w) 80 [some (.ref A.1), some (.int y1), none, some (.int r.1)] [] → bG (g, mdX3_feed, n0, u0, Q) (tW A s.2 w) 41 [some (.ref A.1), some (.int y1), none, some (.int s.1)] [] := by
  intro n
  induction n with
  | zero => intro s r hf; cases hf
  | succ n ih =>
    intro s r hf kx
    rw [lpF_s] at hf
    unfold fX3_feed_l41 at hf
    refine g_iload_n (pc' := 42) dX3_feed_41 rfl rfl rfl ?_
    refine g_if_lt (tgt := 80) (pc' := 45) dX3_feed_42 (by decide) rfl (fun h4 => ?_) (fun h4 => ?_)
    · replace hf := (if_pos h4).symm.trans hf
      obtain rfl := Option.some.inj hf
      exact kx
    · replace hf := (if_neg h4).symm.trans hf
      refine g_aload_n (pc' := 46) dX3_feed_45 rfl rfl rfl ?_
      refine gt_get (k := 6) (pc' := 49) (by decide) dX3_feed_46 rfl q1054 rfl ?_
      refine g_aload_n (pc' := 50) dX3_feed_49 rfl rfl rfl ?_
      refine gt_get (k := 7) (pc' := 53) (by decide) dX3_feed_50 rfl q1055 rfl ?_
      refine g_iload_n (pc' := 54) dX3_feed_53 rfl rfl rfl ?_
      refine g_bipush (pc' := 56) (v := 8) dX3_feed_54 rfl (by decide) ?_
      refine g_iload_n (pc' := 57) dX3_feed_56 rfl rfl rfl ?_
      refine g_imul (pc' := 58) dX3_feed_57 rfl ?_
      refine g_ishr (pc' := 59) dX3_feed_58 rfl ?_
      refine g_sipush (pc' := 62) (v := 255) dX3_feed_59 rfl (by decide) ?_
      refine g_iand (pc' := 63) dX3_feed_62 rfl ?_
      obtain ⟨w5, hw5, hf⟩ := Option.bind_eq_some_iff.mp hf
      refine gt_iast (pc' := 64) hA (by decide) dX3_feed_63 rfl hw5 ?_
      refine g_aload_n (pc' := 65) dX3_feed_64 rfl rfl rfl ?_
      refine g_dup (pc' := 66) dX3_feed_65 rfl rfl ?_
      refine gt_get (k := 7) (pc' := 69) (by decide) dX3_feed_66 rfl q1055 rfl ?_
      refine g_iconst (pc' := 70) (v := 1) dX3_feed_69 rfl (by decide) ?_
      refine g_iadd (pc' := 71) dX3_feed_70 rfl ?_
      refine gt_put (k := 7) (ty := .int) (pc' := 74) (by decide) rfl dX3_feed_71 rfl q1055 (by decide +kernel) rfl rfl rfl ?_
      refine g_iinc (pc' := 77) (v := s.1 + (-1)) (L' := [some (.ref A.1), some (.int y1), none, some (.int (s.1 + (-1)))]) dX3_feed_74 rfl rfl rfl (Nat.le_of_ble_eq_true rfl) rfl rfl ?_
      refine g_goto (tgt := 41) dX3_feed_77 (by decide) ?_
      exact ih _ r hf kx
set_option maxHeartbeats 4000000 in
theorem wX3_feed (g : bGh) {A : tA} (hA : tO A) (w : bWl) (M : tM) (x1 : Int32) (x2 : Int32) {r : (Int32 × tM)} (hf : fX3_feed M x1 x2 = some r) : bM g mdX3_feed (tW A M w) [.ref A.1, .int x1, .int x2] (q_ (eI r.1) (tW A r.2 w)) := by
  unfold fX3_feed at hf
  change bG _ _ 0 [some (.ref A.1), some (.int x1), some (.int x2)] []
  refine g_iload_n (pc' := 1) dX3_feed_0 rfl rfl rfl ?_
  refine g_i2l (pc' := 2) dX3_feed_1 rfl ?_
  refine g_lconst (pc' := 3) (v := 1) dX3_feed_2 rfl (by decide) ?_
  refine g_ldc2 (pc' := 6) dX3_feed_3 rfl q1386 ?_
  obtain ⟨q1, hq1, hf⟩ := Option.bind_eq_some_iff.mp hf
  refine g_callS (pc' := 9) (as := [.long ((x2 : Int32).toInt64), .long 1, .long 4]) (wX3_in g _ ((x2 : Int32).toInt64) 1 4 hq1) oX3_in ⟨Nat.le_of_ble_eq_true rfl, Nat.le_of_ble_eq_true rfl⟩ dX3_feed_6 rfl q1102 q1103 q86 (Nat.le_of_ble_eq_true rfl) (Nat.le_of_ble_eq_true rfl) (g_rI ?_) g_nt rfl
  refine g_if_ne (tgt := 19) (pc' := 12) dX3_feed_9 (by decide) rfl (fun h2 => ?_) (fun h2 => ?_)
  · replace hf := (if_neg h2).symm.trans hf
    refine g_aload_n (pc' := 20) dX3_feed_19 rfl rfl rfl ?_
    refine gt_get (k := 7) (pc' := 23) (by decide) dX3_feed_20 rfl q1055 rfl ?_
    refine g_iload_n (pc' := 24) dX3_feed_23 rfl rfl rfl ?_
    refine g_iadd (pc' := 25) dX3_feed_24 rfl ?_
    refine g_bipush (pc' := 27) (v := 120) dX3_feed_25 rfl (by decide) ?_
    refine g_icmp_le (tgt := 37) (pc' := 30) dX3_feed_27 (by decide) rfl (fun h3 => ?_) (fun h3 => ?_)
    · replace hf := (if_pos h3).symm.trans hf
      refine g_iload_n (pc' := 38) dX3_feed_37 rfl rfl rfl ?_
      refine g_iconst (pc' := 39) (v := 1) dX3_feed_38 rfl (by decide) ?_
      refine g_isub (pc' := 40) dX3_feed_39 rfl ?_
      refine g_istore_n (pc' := 41) (L' := [some (.ref A.1), some (.int x1), some (.int x2), some (.int (x2 - 1))]) dX3_feed_40 rfl rfl (Nat.le_of_ble_eq_true rfl) rfl rfl ?_
      refine g_drop [2] (L' := [some (.ref A.1), some (.int x1), none, some (.int (x2 - 1))]) rfl ?_
      obtain ⟨q6, hq6, hf⟩ := Option.bind_eq_some_iff.mp hf
      refine wX3_feed_l41 hA x1 FU ((x2 - 1), M) q6 hq6 ?_
      refine g_aload_n (pc' := 81) dX3_feed_80 rfl rfl rfl ?_
      refine gt_get (k := 7) (pc' := 84) (by decide) dX3_feed_81 rfl q1055 rfl ?_
      obtain rfl := Option.some.inj hf
      exact g_iret dX3_feed_84 rfl rfl ⟨rfl, rfl⟩
    · replace hf := (if_neg h3).symm.trans hf
      refine g_aload_n (pc' := 31) dX3_feed_30 rfl rfl rfl ?_
      refine g_ldc (pc' := 33) dX3_feed_31 rfl q1164 ?_
      obtain ⟨q7, hq7, hf⟩ := Option.bind_eq_some_iff.mp hf
      refine g_callV (pc' := 36) (mx := mdX3_finds) (as := [.int (-1000000002)]) (wX3_finds g hA _ _ (-1000000002) hq7) oX3_finds ⟨Nat.le_of_ble_eq_true rfl, Nat.le_of_ble_eq_true rfl⟩ dX3_feed_33 rfl (ci := 3) rfl tC ⟨by decide +kernel, by decide +kernel⟩ oX3_finds.2.2.2 rfl q1117 q1119 qs33 qs33 q1119 (Nat.le_of_ble_eq_true rfl) (Nat.le_of_ble_eq_true rfl) (g_rI ?_) g_nt rfl
      obtain rfl := Option.some.inj hf
      exact g_iret dX3_feed_36 rfl rfl ⟨rfl, rfl⟩
  · replace hf := (if_pos h2).symm.trans hf
    refine g_aload_n (pc' := 13) dX3_feed_12 rfl rfl rfl ?_
    refine g_ldc (pc' := 15) dX3_feed_13 rfl q1116 ?_
    obtain ⟨q8, hq8, hf⟩ := Option.bind_eq_some_iff.mp hf
    refine g_callV (pc' := 18) (mx := mdX3_finds) (as := [.int (-1000000001)]) (wX3_finds g hA _ _ (-1000000001) hq8) oX3_finds ⟨Nat.le_of_ble_eq_true rfl, Nat.le_of_ble_eq_true rfl⟩ dX3_feed_15 rfl (ci := 3) rfl tC ⟨by decide +kernel, by decide +kernel⟩ oX3_finds.2.2.2 rfl q1117 q1119 qs33 qs33 q1119 (Nat.le_of_ble_eq_true rfl) (Nat.le_of_ble_eq_true rfl) (g_rI ?_) g_nt rfl
    obtain rfl := Option.some.inj hf
    exact g_iret dX3_feed_18 rfl rfl ⟨rfl, rfl⟩
def mdX3_wipe : bMD := (yX3_wipe, cX3_wipe, 2, (some FieldType.int), [], 1, 12)
theorem oX3_wipe : bOkc mdX3_wipe 0 := ⟨by decide +kernel, ⟨by decide +kernel, by decide +kernel⟩, by decide +kernel, q1390⟩
def fX3_wipe (M : tM)  : Option (Int32 × tM) :=
  some ((M.1 7), (wI M 7 0))
set_option maxHeartbeats 4000000 in
theorem wX3_wipe (g : bGh) {A : tA} (hA : tO A) (w : bWl) (M : tM)  {r : (Int32 × tM)} (hf : fX3_wipe M  = some r) : bM g mdX3_wipe (tW A M w) [.ref A.1] (q_ (eI r.1) (tW A r.2 w)) := by
  unfold fX3_wipe at hf
  change bG _ _ 0 [some (.ref A.1)] []
  refine g_aload_n (pc' := 1) dX3_wipe_0 rfl rfl rfl ?_
  refine gt_get (k := 7) (pc' := 4) (by decide) dX3_wipe_1 rfl q1055 rfl ?_
  refine g_istore_n (pc' := 5) (L' := [some (.ref A.1), some (.int (M.1 7))]) dX3_wipe_4 rfl rfl (Nat.le_of_ble_eq_true rfl) rfl rfl ?_
  refine g_aload_n (pc' := 6) dX3_wipe_5 rfl rfl rfl ?_
  refine g_iconst (pc' := 7) (v := 0) dX3_wipe_6 rfl (by decide) ?_
  refine gt_put (k := 7) (ty := .int) (pc' := 10) (by decide) rfl dX3_wipe_7 rfl q1055 (by decide +kernel) rfl rfl rfl ?_
  refine g_iload_n (pc' := 11) dX3_wipe_10 rfl rfl rfl ?_
  obtain rfl := Option.some.inj hf
  exact g_iret dX3_wipe_11 rfl rfl ⟨rfl, rfl⟩
def mdX3_saves : bMD := (yX3_saves, cX3_saves, 2, none, [], 1, 12)
theorem oX3_saves : bOkc mdX3_saves 0 := ⟨by decide +kernel, ⟨by decide +kernel, by decide +kernel⟩, by decide +kernel, q1398⟩
def fX3_saves_l2  (rec : (Int32 × tM) → Option (Int32 × tM)) (s : Int32 × tM) : Option (Int32 × tM) :=
  (if 77 ≤ s.1 then
  some (s.1, s.2)
else
  Option.bind (rA s.2 0 s.1) fun v2 =>
  Option.bind (wA s.2 2 s.1 v2) fun w3 =>
  rec ((s.1 + 1), w3))
def fX3_saves (M : tM)  : Option tM :=
  Option.bind (lpF (fX3_saves_l2) FU (0, M)) fun q4 =>
  some q4.2
set_option maxHeartbeats 4000000 in
theorem wX3_saves_l2 {g : bGh} {A : tA} (hA : tO A) {w : bWl} {n0 u0 : Nat} {Q : Outcome → bWl → Prop}  : ∀ (n : Nat) (s : Int32 × tM) (r : (Int32 × tM)), lpF (fX3_saves_l2) n s = some r → bG (g, mdX3_saves, n0, u0, Q) (tW A r.2 w) 26 [some (.ref A.1), some (.int r.1)] [] → bG (g, mdX3_saves, n0, u0, Q) (tW A s.2 w) 2 [some (.ref A.1), some (.int s.1)] [] := by
  intro n
  induction n with
  | zero => intro s r hf; cases hf
  | succ n ih =>
    intro s r hf kx
    rw [lpF_s] at hf
    unfold fX3_saves_l2 at hf
    refine g_iload_n (pc' := 3) dX3_saves_2 rfl rfl rfl ?_
    refine g_bipush (pc' := 5) (v := 77) dX3_saves_3 rfl (by decide) ?_
    refine g_icmp_ge (tgt := 26) (pc' := 8) dX3_saves_5 (by decide) rfl (fun h1 => ?_) (fun h1 => ?_)
    · replace hf := (if_pos h1).symm.trans hf
      obtain rfl := Option.some.inj hf
      exact kx
    · replace hf := (if_neg h1).symm.trans hf
      refine g_aload_n (pc' := 9) dX3_saves_8 rfl rfl rfl ?_
      refine gt_get (k := 2) (pc' := 12) (by decide) dX3_saves_9 rfl q1050 rfl ?_
      refine g_iload_n (pc' := 13) dX3_saves_12 rfl rfl rfl ?_
      refine g_aload_n (pc' := 14) dX3_saves_13 rfl rfl rfl ?_
      refine gt_get (k := 0) (pc' := 17) (by decide) dX3_saves_14 rfl q1048 rfl ?_
      refine g_iload_n (pc' := 18) dX3_saves_17 rfl rfl rfl ?_
      obtain ⟨v2, hv2, hf⟩ := Option.bind_eq_some_iff.mp hf
      refine gt_iald (pc' := 19) hA (by decide) dX3_saves_18 rfl hv2 ?_
      obtain ⟨w3, hw3, hf⟩ := Option.bind_eq_some_iff.mp hf
      refine gt_iast (pc' := 20) hA (by decide) dX3_saves_19 rfl hw3 ?_
      refine g_iinc (pc' := 23) (v := s.1 + 1) (L' := [some (.ref A.1), some (.int (s.1 + 1))]) dX3_saves_20 rfl rfl rfl (Nat.le_of_ble_eq_true rfl) rfl rfl ?_
      refine g_goto (tgt := 2) dX3_saves_23 (by decide) ?_
      exact ih _ r hf kx
set_option maxHeartbeats 4000000 in
theorem wX3_saves (g : bGh) {A : tA} (hA : tO A) (w : bWl) (M : tM)  {r : tM} (hf : fX3_saves M  = some r) : bM g mdX3_saves (tW A M w) [.ref A.1] (q_ none (tW A r w)) := by
  unfold fX3_saves at hf
  change bG _ _ 0 [some (.ref A.1)] []
  refine g_iconst (pc' := 1) (v := 0) dX3_saves_0 rfl (by decide) ?_
  refine g_istore_n (pc' := 2) (L' := [some (.ref A.1), some (.int 0)]) dX3_saves_1 rfl rfl (Nat.le_of_ble_eq_true rfl) rfl rfl ?_
  obtain ⟨q4, hq4, hf⟩ := Option.bind_eq_some_iff.mp hf
  refine wX3_saves_l2 hA FU (0, M) q4 hq4 ?_
  obtain rfl := Option.some.inj hf
  exact g_vret dX3_saves_26 rfl ⟨rfl, rfl⟩
def mdX3_byteAt : bMD := (yX3_byteAt, cX3_byteAt, 2, (some FieldType.int), [], 1, 12)
theorem oX3_byteAt : bOkc mdX3_byteAt 1 := ⟨by decide +kernel, ⟨by decide +kernel, by decide +kernel⟩, by decide +kernel, q1406⟩
def fX3_byteAt (M : tM) (x1 : Int32) : Option Int32 :=
  (if (M.1 7) ≤ x1 then
  some (-1)
else
  Option.bind (rA M 6 x1) fun v2 =>
  some v2)
set_option maxHeartbeats 4000000 in
theorem wX3_byteAt (g : bGh) {A : tA} (hA : tO A) (w : bWl) (M : tM) (x1 : Int32) {r : Int32} (hf : fX3_byteAt M x1 = some r) : bM g mdX3_byteAt (tW A M w) [.ref A.1, .int x1] (q_ (eI r) (tW A M w)) := by
  unfold fX3_byteAt at hf
  change bG _ _ 0 [some (.ref A.1), some (.int x1)] []
  refine g_iload_n (pc' := 1) dX3_byteAt_0 rfl rfl rfl ?_
  refine g_aload_n (pc' := 2) dX3_byteAt_1 rfl rfl rfl ?_
  refine gt_get (k := 7) (pc' := 5) (by decide) dX3_byteAt_2 rfl q1055 rfl ?_
  refine g_icmp_ge (tgt := 17) (pc' := 8) dX3_byteAt_5 (by decide) rfl (fun h1 => ?_) (fun h1 => ?_)
  · replace hf := (if_pos h1).symm.trans hf
    refine g_iconst (pc' := 18) (v := (-1)) dX3_byteAt_17 rfl (by decide) ?_
    obtain rfl := Option.some.inj hf
    exact g_iret dX3_byteAt_18 rfl rfl ⟨rfl, rfl⟩
  · replace hf := (if_neg h1).symm.trans hf
    refine g_aload_n (pc' := 9) dX3_byteAt_8 rfl rfl rfl ?_
    refine gt_get (k := 6) (pc' := 12) (by decide) dX3_byteAt_9 rfl q1054 rfl ?_
    refine g_iload_n (pc' := 13) dX3_byteAt_12 rfl rfl rfl ?_
    obtain ⟨v2, hv2, hf⟩ := Option.bind_eq_some_iff.mp hf
    refine gt_iald (pc' := 14) hA (by decide) dX3_byteAt_13 rfl hv2 ?_
    refine g_goto (tgt := 18) dX3_byteAt_14 (by decide) ?_
    obtain rfl := Option.some.inj hf
    exact g_iret dX3_byteAt_18 rfl rfl ⟨rfl, rfl⟩
def mdX3_isLetter : bMD := (yX3_isLetter, cX3_isLetter, 1, (some FieldType.boolean), [], 2, 37)
theorem oX3_isLetter : bOkc mdX3_isLetter 1 := ⟨by decide +kernel, ⟨by decide +kernel, by decide +kernel⟩, by decide +kernel, q1409⟩
def fX3_isLetter (x0 : Int32) : Option Int32 :=
  Option.bind (fX3_in ((x0 : Int32).toInt64) 97 122) fun q1 =>
  bz q1 (some q1)
set_option maxHeartbeats 4000000 in
theorem wX3_isLetter (g : bGh) (w : bWl) (x0 : Int32) {r : Int32} (hf : fX3_isLetter x0 = some r) : bM g mdX3_isLetter w [.int x0] (q_ (eI r) w) := by
  unfold fX3_isLetter at hf
  change bG _ _ 0 [some (.int x0)] []
  refine g_iload_n (pc' := 1) dX3_isLetter_0 rfl rfl rfl ?_
  refine g_i2l (pc' := 2) dX3_isLetter_1 rfl ?_
  refine g_ldc2 (pc' := 5) dX3_isLetter_2 rfl q1410 ?_
  refine g_ldc2 (pc' := 8) dX3_isLetter_5 rfl q1411 ?_
  obtain ⟨q1, hq1, hf⟩ := Option.bind_eq_some_iff.mp hf
  refine g_callS (pc' := 11) (as := [.long ((x0 : Int32).toInt64), .long 97, .long 122]) (wX3_in g _ ((x0 : Int32).toInt64) 97 122 hq1) oX3_in ⟨Nat.le_of_ble_eq_true rfl, Nat.le_of_ble_eq_true rfl⟩ dX3_isLetter_8 rfl q1102 q1103 q86 (Nat.le_of_ble_eq_true rfl) (Nat.le_of_ble_eq_true rfl) (g_rI ?_) g_nt rfl
  obtain ⟨h2, hf⟩ := bz_spec hf
  obtain rfl := Option.some.inj hf
  exact g_iret dX3_isLetter_11 rfl (bz_nar h2) ⟨rfl, rfl⟩
def mdX3_isDigit : bMD := (yX3_isDigit, cX3_isDigit, 1, (some FieldType.boolean), [], 2, 37)
theorem oX3_isDigit : bOkc mdX3_isDigit 1 := ⟨by decide +kernel, ⟨by decide +kernel, by decide +kernel⟩, by decide +kernel, q1414⟩
def fX3_isDigit (x0 : Int32) : Option Int32 :=
  Option.bind (fX3_in ((x0 : Int32).toInt64) 48 57) fun q1 =>
  bz q1 (some q1)
set_option maxHeartbeats 4000000 in
theorem wX3_isDigit (g : bGh) (w : bWl) (x0 : Int32) {r : Int32} (hf : fX3_isDigit x0 = some r) : bM g mdX3_isDigit w [.int x0] (q_ (eI r) w) := by
  unfold fX3_isDigit at hf
  change bG _ _ 0 [some (.int x0)] []
  refine g_iload_n (pc' := 1) dX3_isDigit_0 rfl rfl rfl ?_
  refine g_i2l (pc' := 2) dX3_isDigit_1 rfl ?_
  refine g_ldc2 (pc' := 5) dX3_isDigit_2 rfl q1415 ?_
  refine g_ldc2 (pc' := 8) dX3_isDigit_5 rfl q1416 ?_
  obtain ⟨q1, hq1, hf⟩ := Option.bind_eq_some_iff.mp hf
  refine g_callS (pc' := 11) (as := [.long ((x0 : Int32).toInt64), .long 48, .long 57]) (wX3_in g _ ((x0 : Int32).toInt64) 48 57 hq1) oX3_in ⟨Nat.le_of_ble_eq_true rfl, Nat.le_of_ble_eq_true rfl⟩ dX3_isDigit_8 rfl q1102 q1103 q86 (Nat.le_of_ble_eq_true rfl) (Nat.le_of_ble_eq_true rfl) (g_rI ?_) g_nt rfl
  obtain ⟨h2, hf⟩ := bz_spec hf
  obtain rfl := Option.some.inj hf
  exact g_iret dX3_isDigit_11 rfl (bz_nar h2) ⟨rfl, rfl⟩
def mdX3_token : bMD := (yX3_token, cX3_token, 3, none, [], 3, 57)
theorem oX3_token : bOkc mdX3_token 0 := ⟨by decide +kernel, ⟨by decide +kernel, by decide +kernel⟩, by decide +kernel, q1402⟩
def fX3_token_l8  (rec : (tM) → Option (tM)) (s : tM) : Option (tM) :=
  Option.bind (fX3_byteAt s (s.1 8)) fun q1 =>
  (if q1 = 32 then
  rec (wI s 8 ((s.1 8) + 1))
else
  some s)
def fX3_token_l86 (y1 : Int32) (y2 : Int32) (rec : (tM) → Option (tM)) (s : tM) : Option (tM) :=
  (if y1 = 0 then
  (if y2 = 0 then
  some s
else
  Option.bind (fX3_byteAt s (s.1 9)) fun q12 =>
  Option.bind (fX3_isDigit q12) fun q13 =>
  (if q13 = 0 then
  some s
else
  rec (wI s 9 ((s.1 9) + 1))))
else
  Option.bind (fX3_byteAt s (s.1 9)) fun q15 =>
  Option.bind (fX3_isLetter q15) fun q16 =>
  (if q16 = 0 then
  (if y2 = 0 then
  some s
else
  Option.bind (fX3_byteAt s (s.1 9)) fun q19 =>
  Option.bind (fX3_isDigit q19) fun q20 =>
  (if q20 = 0 then
  some s
else
  rec (wI s 9 ((s.1 9) + 1))))
else
  rec (wI s 9 ((s.1 9) + 1))))
def fX3_token (M : tM)  : Option tM :=
  Option.bind (lpF (fX3_token_l8) FU (wI M 8 (M.1 9))) fun q3 =>
  Option.bind (fX3_byteAt q3 (q3.1 8)) fun q4 =>
  Option.bind (fX3_isLetter q4) fun q5 =>
  Option.bind (fX3_byteAt q3 (q3.1 8)) fun q6 =>
  Option.bind (fX3_isDigit q6) fun q7 =>
  Option.bind (α := Int32) ((if (q3.1 7) ≤ (q3.1 8) then
  some (q3.1 8)
else
  some ((q3.1 8) + 1))) fun q8 =>
  Option.bind (lpF (fX3_token_l86 q5 q7) FU (wI q3 9 q8)) fun q22 =>
  some q22
set_option maxHeartbeats 4000000 in
theorem wX3_token_l8 {g : bGh} {A : tA} (hA : tO A) {w : bWl} {n0 u0 : Nat} {Q : Outcome → bWl → Prop}  : ∀ (n : Nat) (s : tM) (r : (tM)), lpF (fX3_token_l8) n s = some r → bG (g, mdX3_token, n0, u0, Q) (tW A r w) 34 [some (.ref A.1)] [] → bG (g, mdX3_token, n0, u0, Q) (tW A s w) 8 [some (.ref A.1)] [] := by
  intro n
  induction n with
  | zero => intro s r hf; cases hf
  | succ n ih =>
    intro s r hf kx
    rw [lpF_s] at hf
    unfold fX3_token_l8 at hf
    refine g_aload_n (pc' := 9) dX3_token_8 rfl rfl rfl ?_
    refine g_aload_n (pc' := 10) dX3_token_9 rfl rfl rfl ?_
    refine gt_get (k := 8) (pc' := 13) (by decide) dX3_token_10 rfl q1056 rfl ?_
    obtain ⟨q1, hq1, hf⟩ := Option.bind_eq_some_iff.mp hf
    refine g_callV (pc' := 16) (mx := mdX3_byteAt) (as := [.int (s.1 8)]) (wX3_byteAt g hA _ _ (s.1 8) hq1) oX3_byteAt ⟨Nat.le_of_ble_eq_true rfl, Nat.le_of_ble_eq_true rfl⟩ dX3_token_13 rfl (ci := 3) rfl tC ⟨by decide +kernel, by decide +kernel⟩ oX3_byteAt.2.2.2 rfl q1403 q1405 qs67 qs67 q1405 (Nat.le_of_ble_eq_true rfl) (Nat.le_of_ble_eq_true rfl) (g_rI ?_) g_nt rfl
    refine g_bipush (pc' := 18) (v := 32) dX3_token_16 rfl (by decide) ?_
    refine g_icmp_ne (tgt := 34) (pc' := 21) dX3_token_18 (by decide) rfl (fun h2 => ?_) (fun h2 => ?_)
    · replace hf := (if_neg h2).symm.trans hf
      obtain rfl := Option.some.inj hf
      exact kx
    · replace hf := (if_pos h2).symm.trans hf
      refine g_aload_n (pc' := 22) dX3_token_21 rfl rfl rfl ?_
      refine g_dup (pc' := 23) dX3_token_22 rfl rfl ?_
      refine gt_get (k := 8) (pc' := 26) (by decide) dX3_token_23 rfl q1056 rfl ?_
      refine g_iconst (pc' := 27) (v := 1) dX3_token_26 rfl (by decide) ?_
      refine g_iadd (pc' := 28) dX3_token_27 rfl ?_
      refine gt_put (k := 8) (ty := .int) (pc' := 31) (by decide) rfl dX3_token_28 rfl q1056 (by decide +kernel) rfl rfl rfl ?_
      refine g_goto (tgt := 8) dX3_token_31 (by decide) ?_
      exact ih _ r hf kx
set_option maxHeartbeats 4000000 in
theorem wX3_token_l86 {g : bGh} {A : tA} (hA : tO A) {w : bWl} {n0 u0 : Nat} {Q : Outcome → bWl → Prop} (y1 : Int32) (y2 : Int32) : ∀ (n : Nat) (s : tM) (r : (tM)), lpF (fX3_token_l86 y1 y2) n s = some r → bG (g, mdX3_token, n0, u0, Q) (tW A r w) 135 [some (.ref A.1), some (.int y1), some (.int y2)] [] → bG (g, mdX3_token, n0, u0, Q) (tW A s w) 86 [some (.ref A.1), some (.int y1), some (.int y2)] [] := by
  intro n
  induction n with
  | zero => intro s r hf; cases hf
  | succ n ih =>
    intro s r hf kx
    rw [lpF_s] at hf
    unfold fX3_token_l86 at hf
    refine g_iload_n (pc' := 87) dX3_token_86 rfl rfl rfl ?_
    refine g_if_eq (tgt := 104) (pc' := 90) dX3_token_87 (by decide) rfl (fun h10 => ?_) (fun h10 => ?_)
    · replace hf := (if_pos h10).symm.trans hf
      refine g_iload_n (pc' := 105) dX3_token_104 rfl rfl rfl ?_
      refine g_if_eq (tgt := 135) (pc' := 108) dX3_token_105 (by decide) rfl (fun h11 => ?_) (fun h11 => ?_)
      · replace hf := (if_pos h11).symm.trans hf
        obtain rfl := Option.some.inj hf
        exact kx
      · replace hf := (if_neg h11).symm.trans hf
        refine g_aload_n (pc' := 109) dX3_token_108 rfl rfl rfl ?_
        refine g_aload_n (pc' := 110) dX3_token_109 rfl rfl rfl ?_
        refine gt_get (k := 9) (pc' := 113) (by decide) dX3_token_110 rfl q1057 rfl ?_
        obtain ⟨q12, hq12, hf⟩ := Option.bind_eq_some_iff.mp hf
        refine g_callV (pc' := 116) (mx := mdX3_byteAt) (as := [.int (s.1 9)]) (wX3_byteAt g hA _ _ (s.1 9) hq12) oX3_byteAt ⟨Nat.le_of_ble_eq_true rfl, Nat.le_of_ble_eq_true rfl⟩ dX3_token_113 rfl (ci := 3) rfl tC ⟨by decide +kernel, by decide +kernel⟩ oX3_byteAt.2.2.2 rfl q1403 q1405 qs67 qs67 q1405 (Nat.le_of_ble_eq_true rfl) (Nat.le_of_ble_eq_true rfl) (g_rI ?_) g_nt rfl
        obtain ⟨q13, hq13, hf⟩ := Option.bind_eq_some_iff.mp hf
        refine g_callS (pc' := 119) (as := [.int q12]) (wX3_isDigit g _ q12 hq13) oX3_isDigit ⟨Nat.le_of_ble_eq_true rfl, Nat.le_of_ble_eq_true rfl⟩ dX3_token_116 rfl q1412 q1413 q86 (Nat.le_of_ble_eq_true rfl) (Nat.le_of_ble_eq_true rfl) (g_rI ?_) g_nt rfl
        refine g_if_eq (tgt := 135) (pc' := 122) dX3_token_119 (by decide) rfl (fun h14 => ?_) (fun h14 => ?_)
        · replace hf := (if_pos h14).symm.trans hf
          obtain rfl := Option.some.inj hf
          exact kx
        · replace hf := (if_neg h14).symm.trans hf
          refine g_aload_n (pc' := 123) dX3_token_122 rfl rfl rfl ?_
          refine g_dup (pc' := 124) dX3_token_123 rfl rfl ?_
          refine gt_get (k := 9) (pc' := 127) (by decide) dX3_token_124 rfl q1057 rfl ?_
          refine g_iconst (pc' := 128) (v := 1) dX3_token_127 rfl (by decide) ?_
          refine g_iadd (pc' := 129) dX3_token_128 rfl ?_
          refine gt_put (k := 9) (ty := .int) (pc' := 132) (by decide) rfl dX3_token_129 rfl q1057 (by decide +kernel) rfl rfl rfl ?_
          refine g_goto (tgt := 86) dX3_token_132 (by decide) ?_
          exact ih _ r hf kx
    · replace hf := (if_neg h10).symm.trans hf
      refine g_aload_n (pc' := 91) dX3_token_90 rfl rfl rfl ?_
      refine g_aload_n (pc' := 92) dX3_token_91 rfl rfl rfl ?_
      refine gt_get (k := 9) (pc' := 95) (by decide) dX3_token_92 rfl q1057 rfl ?_
      obtain ⟨q15, hq15, hf⟩ := Option.bind_eq_some_iff.mp hf
      refine g_callV (pc' := 98) (mx := mdX3_byteAt) (as := [.int (s.1 9)]) (wX3_byteAt g hA _ _ (s.1 9) hq15) oX3_byteAt ⟨Nat.le_of_ble_eq_true rfl, Nat.le_of_ble_eq_true rfl⟩ dX3_token_95 rfl (ci := 3) rfl tC ⟨by decide +kernel, by decide +kernel⟩ oX3_byteAt.2.2.2 rfl q1403 q1405 qs67 qs67 q1405 (Nat.le_of_ble_eq_true rfl) (Nat.le_of_ble_eq_true rfl) (g_rI ?_) g_nt rfl
      obtain ⟨q16, hq16, hf⟩ := Option.bind_eq_some_iff.mp hf
      refine g_callS (pc' := 101) (as := [.int q15]) (wX3_isLetter g _ q15 hq16) oX3_isLetter ⟨Nat.le_of_ble_eq_true rfl, Nat.le_of_ble_eq_true rfl⟩ dX3_token_98 rfl q1407 q1408 q86 (Nat.le_of_ble_eq_true rfl) (Nat.le_of_ble_eq_true rfl) (g_rI ?_) g_nt rfl
      refine g_if_ne (tgt := 122) (pc' := 104) dX3_token_101 (by decide) rfl (fun h17 => ?_) (fun h17 => ?_)
      · replace hf := (if_neg h17).symm.trans hf
        refine g_aload_n (pc' := 123) dX3_token_122 rfl rfl rfl ?_
        refine g_dup (pc' := 124) dX3_token_123 rfl rfl ?_
        refine gt_get (k := 9) (pc' := 127) (by decide) dX3_token_124 rfl q1057 rfl ?_
        refine g_iconst (pc' := 128) (v := 1) dX3_token_127 rfl (by decide) ?_
        refine g_iadd (pc' := 129) dX3_token_128 rfl ?_
        refine gt_put (k := 9) (ty := .int) (pc' := 132) (by decide) rfl dX3_token_129 rfl q1057 (by decide +kernel) rfl rfl rfl ?_
        refine g_goto (tgt := 86) dX3_token_132 (by decide) ?_
        exact ih _ r hf kx
      · replace hf := (if_pos h17).symm.trans hf
        refine g_iload_n (pc' := 105) dX3_token_104 rfl rfl rfl ?_
        refine g_if_eq (tgt := 135) (pc' := 108) dX3_token_105 (by decide) rfl (fun h18 => ?_) (fun h18 => ?_)
        · replace hf := (if_pos h18).symm.trans hf
          obtain rfl := Option.some.inj hf
          exact kx
        · replace hf := (if_neg h18).symm.trans hf
          refine g_aload_n (pc' := 109) dX3_token_108 rfl rfl rfl ?_
          refine g_aload_n (pc' := 110) dX3_token_109 rfl rfl rfl ?_
          refine gt_get (k := 9) (pc' := 113) (by decide) dX3_token_110 rfl q1057 rfl ?_
          obtain ⟨q19, hq19, hf⟩ := Option.bind_eq_some_iff.mp hf
          refine g_callV (pc' := 116) (mx := mdX3_byteAt) (as := [.int (s.1 9)]) (wX3_byteAt g hA _ _ (s.1 9) hq19) oX3_byteAt ⟨Nat.le_of_ble_eq_true rfl, Nat.le_of_ble_eq_true rfl⟩ dX3_token_113 rfl (ci := 3) rfl tC ⟨by decide +kernel, by decide +kernel⟩ oX3_byteAt.2.2.2 rfl q1403 q1405 qs67 qs67 q1405 (Nat.le_of_ble_eq_true rfl) (Nat.le_of_ble_eq_true rfl) (g_rI ?_) g_nt rfl
          obtain ⟨q20, hq20, hf⟩ := Option.bind_eq_some_iff.mp hf
          refine g_callS (pc' := 119) (as := [.int q19]) (wX3_isDigit g _ q19 hq20) oX3_isDigit ⟨Nat.le_of_ble_eq_true rfl, Nat.le_of_ble_eq_true rfl⟩ dX3_token_116 rfl q1412 q1413 q86 (Nat.le_of_ble_eq_true rfl) (Nat.le_of_ble_eq_true rfl) (g_rI ?_) g_nt rfl
          refine g_if_eq (tgt := 135) (pc' := 122) dX3_token_119 (by decide) rfl (fun h21 => ?_) (fun h21 => ?_)
          · replace hf := (if_pos h21).symm.trans hf
            obtain rfl := Option.some.inj hf
            exact kx
          · replace hf := (if_neg h21).symm.trans hf
            refine g_aload_n (pc' := 123) dX3_token_122 rfl rfl rfl ?_
            refine g_dup (pc' := 124) dX3_token_123 rfl rfl ?_
            refine gt_get (k := 9) (pc' := 127) (by decide) dX3_token_124 rfl q1057 rfl ?_
            refine g_iconst (pc' := 128) (v := 1) dX3_token_127 rfl (by decide) ?_
            refine g_iadd (pc' := 129) dX3_token_128 rfl ?_
            refine gt_put (k := 9) (ty := .int) (pc' := 132) (by decide) rfl dX3_token_129 rfl q1057 (by decide +kernel) rfl rfl rfl ?_
            refine g_goto (tgt := 86) dX3_token_132 (by decide) ?_
            exact ih _ r hf kx
set_option maxHeartbeats 4000000 in
theorem wX3_token (g : bGh) {A : tA} (hA : tO A) (w : bWl) (M : tM)  {r : tM} (hf : fX3_token M  = some r) : bM g mdX3_token (tW A M w) [.ref A.1] (q_ none (tW A r w)) := by
  unfold fX3_token at hf
  change bG _ _ 0 [some (.ref A.1)] []
  refine g_aload_n (pc' := 1) dX3_token_0 rfl rfl rfl ?_
  refine g_aload_n (pc' := 2) dX3_token_1 rfl rfl rfl ?_
  refine gt_get (k := 9) (pc' := 5) (by decide) dX3_token_2 rfl q1057 rfl ?_
  refine gt_put (k := 8) (ty := .int) (pc' := 8) (by decide) rfl dX3_token_5 rfl q1056 (by decide +kernel) rfl rfl rfl ?_
  obtain ⟨q3, hq3, hf⟩ := Option.bind_eq_some_iff.mp hf
  refine wX3_token_l8 hA FU (wI M 8 (M.1 9)) q3 hq3 ?_
  refine g_aload_n (pc' := 35) dX3_token_34 rfl rfl rfl ?_
  refine g_aload_n (pc' := 36) dX3_token_35 rfl rfl rfl ?_
  refine gt_get (k := 8) (pc' := 39) (by decide) dX3_token_36 rfl q1056 rfl ?_
  obtain ⟨q4, hq4, hf⟩ := Option.bind_eq_some_iff.mp hf
  refine g_callV (pc' := 42) (mx := mdX3_byteAt) (as := [.int (q3.1 8)]) (wX3_byteAt g hA _ _ (q3.1 8) hq4) oX3_byteAt ⟨Nat.le_of_ble_eq_true rfl, Nat.le_of_ble_eq_true rfl⟩ dX3_token_39 rfl (ci := 3) rfl tC ⟨by decide +kernel, by decide +kernel⟩ oX3_byteAt.2.2.2 rfl q1403 q1405 qs67 qs67 q1405 (Nat.le_of_ble_eq_true rfl) (Nat.le_of_ble_eq_true rfl) (g_rI ?_) g_nt rfl
  obtain ⟨q5, hq5, hf⟩ := Option.bind_eq_some_iff.mp hf
  refine g_callS (pc' := 45) (as := [.int q4]) (wX3_isLetter g _ q4 hq5) oX3_isLetter ⟨Nat.le_of_ble_eq_true rfl, Nat.le_of_ble_eq_true rfl⟩ dX3_token_42 rfl q1407 q1408 q86 (Nat.le_of_ble_eq_true rfl) (Nat.le_of_ble_eq_true rfl) (g_rI ?_) g_nt rfl
  refine g_istore_n (pc' := 46) (L' := [some (.ref A.1), some (.int q5)]) dX3_token_45 rfl rfl (Nat.le_of_ble_eq_true rfl) rfl rfl ?_
  refine g_aload_n (pc' := 47) dX3_token_46 rfl rfl rfl ?_
  refine g_aload_n (pc' := 48) dX3_token_47 rfl rfl rfl ?_
  refine gt_get (k := 8) (pc' := 51) (by decide) dX3_token_48 rfl q1056 rfl ?_
  obtain ⟨q6, hq6, hf⟩ := Option.bind_eq_some_iff.mp hf
  refine g_callV (pc' := 54) (mx := mdX3_byteAt) (as := [.int (q3.1 8)]) (wX3_byteAt g hA _ _ (q3.1 8) hq6) oX3_byteAt ⟨Nat.le_of_ble_eq_true rfl, Nat.le_of_ble_eq_true rfl⟩ dX3_token_51 rfl (ci := 3) rfl tC ⟨by decide +kernel, by decide +kernel⟩ oX3_byteAt.2.2.2 rfl q1403 q1405 qs67 qs67 q1405 (Nat.le_of_ble_eq_true rfl) (Nat.le_of_ble_eq_true rfl) (g_rI ?_) g_nt rfl
  obtain ⟨q7, hq7, hf⟩ := Option.bind_eq_some_iff.mp hf
  refine g_callS (pc' := 57) (as := [.int q6]) (wX3_isDigit g _ q6 hq7) oX3_isDigit ⟨Nat.le_of_ble_eq_true rfl, Nat.le_of_ble_eq_true rfl⟩ dX3_token_54 rfl q1412 q1413 q86 (Nat.le_of_ble_eq_true rfl) (Nat.le_of_ble_eq_true rfl) (g_rI ?_) g_nt rfl
  refine g_istore_n (pc' := 58) (L' := [some (.ref A.1), some (.int q5), some (.int q7)]) dX3_token_57 rfl rfl (Nat.le_of_ble_eq_true rfl) rfl rfl ?_
  refine g_aload_n (pc' := 59) dX3_token_58 rfl rfl rfl ?_
  refine g_aload_n (pc' := 60) dX3_token_59 rfl rfl rfl ?_
  refine gt_get (k := 8) (pc' := 63) (by decide) dX3_token_60 rfl q1056 rfl ?_
  refine g_aload_n (pc' := 64) dX3_token_63 rfl rfl rfl ?_
  refine gt_get (k := 7) (pc' := 67) (by decide) dX3_token_64 rfl q1055 rfl ?_
  obtain ⟨q8, hqq8, hf⟩ := Option.bind_eq_some_iff.mp hf
  have hJq8 : bG (g, mdX3_token, (tW A M w).2.1, (tW A M w).2.2.1, (q_ none (tW A r w))) (tW A q3 w) 83 [some (.ref A.1), some (.int q5), some (.int q7)] [.int q8, .ref A.1] := by
    refine gt_put (k := 9) (ty := .int) (pc' := 86) (by decide) rfl dX3_token_83 rfl q1057 (by decide +kernel) rfl rfl rfl ?_
    obtain ⟨q22, hq22, hf⟩ := Option.bind_eq_some_iff.mp hf
    refine wX3_token_l86 hA q5 q7 FU (wI q3 9 q8) q22 hq22 ?_
    obtain rfl := Option.some.inj hf
    exact g_vret dX3_token_135 rfl ⟨rfl, rfl⟩
  replace hf := hqq8
  refine g_icmp_ge (tgt := 79) (pc' := 70) dX3_token_67 (by decide) rfl (fun h9 => ?_) (fun h9 => ?_)
  · replace hf := (if_pos h9).symm.trans hf
    refine g_aload_n (pc' := 80) dX3_token_79 rfl rfl rfl ?_
    refine gt_get (k := 8) (pc' := 83) (by decide) dX3_token_80 rfl q1056 rfl ?_
    obtain rfl := Option.some.inj hf
    exact hJq8
  · replace hf := (if_neg h9).symm.trans hf
    refine g_aload_n (pc' := 71) dX3_token_70 rfl rfl rfl ?_
    refine gt_get (k := 8) (pc' := 74) (by decide) dX3_token_71 rfl q1056 rfl ?_
    refine g_iconst (pc' := 75) (v := 1) dX3_token_74 rfl (by decide) ?_
    refine g_iadd (pc' := 76) dX3_token_75 rfl ?_
    refine g_goto (tgt := 83) dX3_token_76 (by decide) ?_
    obtain rfl := Option.some.inj hf
    exact hJq8
def mdX3_word : bMD := (yX3_word, cX3_word, 4, (some FieldType.long), [], 3, 57)
theorem oX3_word : bOkc mdX3_word 0 := ⟨by decide +kernel, ⟨by decide +kernel, by decide +kernel⟩, by decide +kernel, q1428⟩
def fX3_word_l7 (M : tM)  (rec : (Int64 × Int32) → Option (Int64 × Int32)) (s : Int64 × Int32) : Option (Int64 × Int32) :=
  (if (M.1 9) ≤ s.2 then
  some (s.1, s.2)
else
  Option.bind (α := Int64) ((if (lg_cmp s.1 36028797018963967) ≤ 0 then
  Option.bind (rA M 6 s.2) fun v4 =>
  some ((32 * s.1) + (((v4 - 96) : Int32).toInt64))
else
  some s.1)) fun q2 =>
  rec (q2, (s.2 + 1)))
def fX3_word (M : tM)  : Option Int64 :=
  Option.bind (lpF (fX3_word_l7 M) FU (0, (M.1 8))) fun q5 =>
  (if (M.1 11) = 0 then
  Option.bind (fX3_byteAt M (M.1 8)) fun q7 =>
  Option.bind (fX3_isLetter q7) fun q8 =>
  (if q8 = 0 then
  some 0
else
  some q5.1)
else
  some 0)
set_option maxHeartbeats 4000000 in
theorem wX3_word_l7 {g : bGh} {A : tA} (hA : tO A) {w : bWl} {M : tM} {n0 u0 : Nat} {Q : Outcome → bWl → Prop}  : ∀ (n : Nat) (s : Int64 × Int32) (r : (Int64 × Int32)), lpF (fX3_word_l7 M) n s = some r → bG (g, mdX3_word, n0, u0, Q) (tW A M w) 50 [some (.ref A.1), some (.long r.1), none, some (.int r.2)] [] → bG (g, mdX3_word, n0, u0, Q) (tW A M w) 7 [some (.ref A.1), some (.long s.1), none, some (.int s.2)] [] := by
  intro n
  induction n with
  | zero => intro s r hf; cases hf
  | succ n ih =>
    intro s r hf kx
    rw [lpF_s] at hf
    unfold fX3_word_l7 at hf
    refine g_iload_n (pc' := 8) dX3_word_7 rfl rfl rfl ?_
    refine g_aload_n (pc' := 9) dX3_word_8 rfl rfl rfl ?_
    refine gt_get (k := 9) (pc' := 12) (by decide) dX3_word_9 rfl q1057 rfl ?_
    refine g_icmp_ge (tgt := 50) (pc' := 15) dX3_word_12 (by decide) rfl (fun h1 => ?_) (fun h1 => ?_)
    · replace hf := (if_pos h1).symm.trans hf
      obtain rfl := Option.some.inj hf
      exact kx
    · replace hf := (if_neg h1).symm.trans hf
      refine g_lload_n (pc' := 16) dX3_word_15 rfl rfl rfl ?_
      refine g_ldc2 (pc' := 19) dX3_word_16 rfl q1429 ?_
      refine g_lcmp (pc' := 20) dX3_word_19 rfl ?_
      obtain ⟨q2, hqq2, hf⟩ := Option.bind_eq_some_iff.mp hf
      have hJq2 : bG (g, mdX3_word, n0, u0, Q) (tW A M w) 43 [some (.ref A.1), none, none, some (.int s.2)] [.long q2] := by
        refine g_lstore_n (pc' := 44) (L' := [some (.ref A.1), some (.long q2), none, some (.int s.2)]) dX3_word_43 rfl rfl (Nat.le_of_ble_eq_true rfl) rfl rfl ?_
        refine g_iinc (pc' := 47) (v := s.2 + 1) (L' := [some (.ref A.1), some (.long q2), none, some (.int (s.2 + 1))]) dX3_word_44 rfl rfl rfl (Nat.le_of_ble_eq_true rfl) rfl rfl ?_
        refine g_goto (tgt := 7) dX3_word_47 (by decide) ?_
        exact ih _ r hf kx
      replace hf := hqq2
      refine g_if_le (tgt := 27) (pc' := 23) dX3_word_20 (by decide) rfl (fun h3 => ?_) (fun h3 => ?_)
      · replace hf := (if_pos h3).symm.trans hf
        refine g_ldc2 (pc' := 30) dX3_word_27 rfl q1430 ?_
        refine g_lload_n (pc' := 31) dX3_word_30 rfl rfl rfl ?_
        refine g_lmul (pc' := 32) dX3_word_31 rfl ?_
        refine g_aload_n (pc' := 33) dX3_word_32 rfl rfl rfl ?_
        refine gt_get (k := 6) (pc' := 36) (by decide) dX3_word_33 rfl q1054 rfl ?_
        refine g_iload_n (pc' := 37) dX3_word_36 rfl rfl rfl ?_
        obtain ⟨v4, hv4, hf⟩ := Option.bind_eq_some_iff.mp hf
        refine gt_iald (pc' := 38) hA (by decide) dX3_word_37 rfl hv4 ?_
        refine g_bipush (pc' := 40) (v := 96) dX3_word_38 rfl (by decide) ?_
        refine g_isub (pc' := 41) dX3_word_40 rfl ?_
        refine g_i2l (pc' := 42) dX3_word_41 rfl ?_
        refine g_ladd (pc' := 43) dX3_word_42 rfl ?_
        obtain rfl := Option.some.inj hf
        refine g_drop [1] (L' := [some (.ref A.1), none, none, some (.int s.2)]) rfl ?_
        exact hJq2
      · replace hf := (if_neg h3).symm.trans hf
        refine g_lload_n (pc' := 24) dX3_word_23 rfl rfl rfl ?_
        refine g_goto (tgt := 43) dX3_word_24 (by decide) ?_
        obtain rfl := Option.some.inj hf
        refine g_drop [1] (L' := [some (.ref A.1), none, none, some (.int s.2)]) rfl ?_
        exact hJq2
set_option maxHeartbeats 4000000 in
theorem wX3_word (g : bGh) {A : tA} (hA : tO A) (w : bWl) (M : tM)  {r : Int64} (hf : fX3_word M  = some r) : bM g mdX3_word (tW A M w) [.ref A.1] (q_ (eJ r) (tW A M w)) := by
  unfold fX3_word at hf
  change bG _ _ 0 [some (.ref A.1)] []
  refine g_lconst (pc' := 1) (v := 0) dX3_word_0 rfl (by decide) ?_
  refine g_lstore_n (pc' := 2) (L' := [some (.ref A.1), some (.long 0), none]) dX3_word_1 rfl rfl (Nat.le_of_ble_eq_true rfl) rfl rfl ?_
  refine g_aload_n (pc' := 3) dX3_word_2 rfl rfl rfl ?_
  refine gt_get (k := 8) (pc' := 6) (by decide) dX3_word_3 rfl q1056 rfl ?_
  refine g_istore_n (pc' := 7) (L' := [some (.ref A.1), some (.long 0), none, some (.int (M.1 8))]) dX3_word_6 rfl rfl (Nat.le_of_ble_eq_true rfl) rfl rfl ?_
  obtain ⟨q5, hq5, hf⟩ := Option.bind_eq_some_iff.mp hf
  refine wX3_word_l7 hA FU (0, (M.1 8)) q5 hq5 ?_
  refine g_aload_n (pc' := 51) dX3_word_50 rfl rfl rfl ?_
  refine gt_get (k := 11) (pc' := 54) (by decide) dX3_word_51 rfl q1059 rfl ?_
  refine g_if_ne (tgt := 71) (pc' := 57) dX3_word_54 (by decide) rfl (fun h6 => ?_) (fun h6 => ?_)
  · replace hf := (if_neg h6).symm.trans hf
    refine g_lconst (pc' := 72) (v := 0) dX3_word_71 rfl (by decide) ?_
    refine g_goto (tgt := 76) dX3_word_72 (by decide) ?_
    obtain rfl := Option.some.inj hf
    exact g_lret dX3_word_76 rfl ⟨rfl, rfl⟩
  · replace hf := (if_pos h6).symm.trans hf
    refine g_aload_n (pc' := 58) dX3_word_57 rfl rfl rfl ?_
    refine g_aload_n (pc' := 59) dX3_word_58 rfl rfl rfl ?_
    refine gt_get (k := 8) (pc' := 62) (by decide) dX3_word_59 rfl q1056 rfl ?_
    obtain ⟨q7, hq7, hf⟩ := Option.bind_eq_some_iff.mp hf
    refine g_callV (pc' := 65) (mx := mdX3_byteAt) (as := [.int (M.1 8)]) (wX3_byteAt g hA _ _ (M.1 8) hq7) oX3_byteAt ⟨Nat.le_of_ble_eq_true rfl, Nat.le_of_ble_eq_true rfl⟩ dX3_word_62 rfl (ci := 3) rfl tC ⟨by decide +kernel, by decide +kernel⟩ oX3_byteAt.2.2.2 rfl q1403 q1405 qs67 qs67 q1405 (Nat.le_of_ble_eq_true rfl) (Nat.le_of_ble_eq_true rfl) (g_rI ?_) g_nt rfl
    obtain ⟨q8, hq8, hf⟩ := Option.bind_eq_some_iff.mp hf
    refine g_callS (pc' := 68) (as := [.int q7]) (wX3_isLetter g _ q7 hq8) oX3_isLetter ⟨Nat.le_of_ble_eq_true rfl, Nat.le_of_ble_eq_true rfl⟩ dX3_word_65 rfl q1407 q1408 q86 (Nat.le_of_ble_eq_true rfl) (Nat.le_of_ble_eq_true rfl) (g_rI ?_) g_nt rfl
    refine g_if_ne (tgt := 75) (pc' := 71) dX3_word_68 (by decide) rfl (fun h9 => ?_) (fun h9 => ?_)
    · replace hf := (if_neg h9).symm.trans hf
      refine g_lload_n (pc' := 76) dX3_word_75 rfl rfl rfl ?_
      obtain rfl := Option.some.inj hf
      exact g_lret dX3_word_76 rfl ⟨rfl, rfl⟩
    · replace hf := (if_pos h9).symm.trans hf
      refine g_lconst (pc' := 72) (v := 0) dX3_word_71 rfl (by decide) ?_
      refine g_goto (tgt := 76) dX3_word_72 (by decide) ?_
      obtain rfl := Option.some.inj hf
      exact g_lret dX3_word_76 rfl ⟨rfl, rfl⟩
def mdX3_kindHere : bMD := (yX3_kindHere, cX3_kindHere, 3, (some FieldType.int), [], 4, 80)
theorem oX3_kindHere : bOkc mdX3_kindHere 0 := ⟨by decide +kernel, ⟨by decide +kernel, by decide +kernel⟩, by decide +kernel, q1424⟩
def fX3_kindHere (M : tM)  : Option Int32 :=
  Option.bind (fX3_word M) fun q1 =>
  (if (lg_cmp q1 626441906) = 0 then
  some 0
else
  (if (lg_cmp q1 2343) = 0 then
  some 1
else
  (if (lg_cmp q1 152972) = 0 then
  some 2
else
  (if (lg_cmp q1 19737) = 0 then
  some 3
else
  (if (lg_cmp q1 19391532) = 0 then
  some 4
else
  (if (lg_cmp q1 24293779) = 0 then
  some 5
else
  some (-1)))))))
set_option maxHeartbeats 4000000 in
theorem wX3_kindHere (g : bGh) {A : tA} (hA : tO A) (w : bWl) (M : tM)  {r : Int32} (hf : fX3_kindHere M  = some r) : bM g mdX3_kindHere (tW A M w) [.ref A.1] (q_ (eI r) (tW A M w)) := by
  unfold fX3_kindHere at hf
  change bG _ _ 0 [some (.ref A.1)] []
  refine g_aload_n (pc' := 1) dX3_kindHere_0 rfl rfl rfl ?_
  obtain ⟨q1, hq1, hf⟩ := Option.bind_eq_some_iff.mp hf
  refine g_callV (pc' := 4) (mx := mdX3_word) (as := []) (wX3_word g hA _ _ hq1) oX3_word ⟨Nat.le_of_ble_eq_true rfl, Nat.le_of_ble_eq_true rfl⟩ dX3_kindHere_1 rfl (ci := 3) rfl tC ⟨by decide +kernel, by decide +kernel⟩ oX3_word.2.2.2 rfl q1425 q1427 qs70 qs70 q1427 (Nat.le_of_ble_eq_true rfl) (Nat.le_of_ble_eq_true rfl) (g_rJ ?_) g_nt rfl
  refine g_lstore_n (pc' := 5) (L' := [some (.ref A.1), some (.long q1), none]) dX3_kindHere_4 rfl rfl (Nat.le_of_ble_eq_true rfl) rfl rfl ?_
  refine g_lload_n (pc' := 6) dX3_kindHere_5 rfl rfl rfl ?_
  refine g_ldc2 (pc' := 9) dX3_kindHere_6 rfl q1431 ?_
  refine g_lcmp (pc' := 10) dX3_kindHere_9 rfl ?_
  refine g_if_ne (tgt := 17) (pc' := 13) dX3_kindHere_10 (by decide) rfl (fun h2 => ?_) (fun h2 => ?_)
  · replace hf := (if_neg h2).symm.trans hf
    refine g_lload_n (pc' := 18) dX3_kindHere_17 rfl rfl rfl ?_
    refine g_ldc2 (pc' := 21) dX3_kindHere_18 rfl q1432 ?_
    refine g_lcmp (pc' := 22) dX3_kindHere_21 rfl ?_
    refine g_if_ne (tgt := 29) (pc' := 25) dX3_kindHere_22 (by decide) rfl (fun h3 => ?_) (fun h3 => ?_)
    · replace hf := (if_neg h3).symm.trans hf
      refine g_lload_n (pc' := 30) dX3_kindHere_29 rfl rfl rfl ?_
      refine g_ldc2 (pc' := 33) dX3_kindHere_30 rfl q1433 ?_
      refine g_lcmp (pc' := 34) dX3_kindHere_33 rfl ?_
      refine g_if_ne (tgt := 41) (pc' := 37) dX3_kindHere_34 (by decide) rfl (fun h4 => ?_) (fun h4 => ?_)
      · replace hf := (if_neg h4).symm.trans hf
        refine g_lload_n (pc' := 42) dX3_kindHere_41 rfl rfl rfl ?_
        refine g_ldc2 (pc' := 45) dX3_kindHere_42 rfl q1434 ?_
        refine g_lcmp (pc' := 46) dX3_kindHere_45 rfl ?_
        refine g_if_ne (tgt := 53) (pc' := 49) dX3_kindHere_46 (by decide) rfl (fun h5 => ?_) (fun h5 => ?_)
        · replace hf := (if_neg h5).symm.trans hf
          refine g_lload_n (pc' := 54) dX3_kindHere_53 rfl rfl rfl ?_
          refine g_ldc2 (pc' := 57) dX3_kindHere_54 rfl q1435 ?_
          refine g_lcmp (pc' := 58) dX3_kindHere_57 rfl ?_
          refine g_if_ne (tgt := 65) (pc' := 61) dX3_kindHere_58 (by decide) rfl (fun h6 => ?_) (fun h6 => ?_)
          · replace hf := (if_neg h6).symm.trans hf
            refine g_lload_n (pc' := 66) dX3_kindHere_65 rfl rfl rfl ?_
            refine g_ldc2 (pc' := 69) dX3_kindHere_66 rfl q1436 ?_
            refine g_lcmp (pc' := 70) dX3_kindHere_69 rfl ?_
            refine g_if_ne (tgt := 77) (pc' := 73) dX3_kindHere_70 (by decide) rfl (fun h7 => ?_) (fun h7 => ?_)
            · replace hf := (if_neg h7).symm.trans hf
              refine g_iconst (pc' := 78) (v := (-1)) dX3_kindHere_77 rfl (by decide) ?_
              obtain rfl := Option.some.inj hf
              exact g_iret dX3_kindHere_78 rfl rfl ⟨rfl, rfl⟩
            · replace hf := (if_pos h7).symm.trans hf
              refine g_iconst (pc' := 74) (v := 5) dX3_kindHere_73 rfl (by decide) ?_
              refine g_goto (tgt := 78) dX3_kindHere_74 (by decide) ?_
              obtain rfl := Option.some.inj hf
              exact g_iret dX3_kindHere_78 rfl rfl ⟨rfl, rfl⟩
          · replace hf := (if_pos h6).symm.trans hf
            refine g_iconst (pc' := 62) (v := 4) dX3_kindHere_61 rfl (by decide) ?_
            refine g_goto (tgt := 78) dX3_kindHere_62 (by decide) ?_
            obtain rfl := Option.some.inj hf
            exact g_iret dX3_kindHere_78 rfl rfl ⟨rfl, rfl⟩
        · replace hf := (if_pos h5).symm.trans hf
          refine g_iconst (pc' := 50) (v := 3) dX3_kindHere_49 rfl (by decide) ?_
          refine g_goto (tgt := 78) dX3_kindHere_50 (by decide) ?_
          obtain rfl := Option.some.inj hf
          exact g_iret dX3_kindHere_78 rfl rfl ⟨rfl, rfl⟩
      · replace hf := (if_pos h4).symm.trans hf
        refine g_iconst (pc' := 38) (v := 2) dX3_kindHere_37 rfl (by decide) ?_
        refine g_goto (tgt := 78) dX3_kindHere_38 (by decide) ?_
        obtain rfl := Option.some.inj hf
        exact g_iret dX3_kindHere_78 rfl rfl ⟨rfl, rfl⟩
    · replace hf := (if_pos h3).symm.trans hf
      refine g_iconst (pc' := 26) (v := 1) dX3_kindHere_25 rfl (by decide) ?_
      refine g_goto (tgt := 78) dX3_kindHere_26 (by decide) ?_
      obtain rfl := Option.some.inj hf
      exact g_iret dX3_kindHere_78 rfl rfl ⟨rfl, rfl⟩
  · replace hf := (if_pos h2).symm.trans hf
    refine g_iconst (pc' := 14) (v := 0) dX3_kindHere_13 rfl (by decide) ?_
    refine g_goto (tgt := 78) dX3_kindHere_14 (by decide) ?_
    obtain rfl := Option.some.inj hf
    exact g_iret dX3_kindHere_78 rfl rfl ⟨rfl, rfl⟩
def mdX3_must : bMD := (yX3_must, cX3_must, 2, none, [], 4, 79)
theorem oX3_must : bOkc mdX3_must 1 := ⟨by decide +kernel, ⟨by decide +kernel, by decide +kernel⟩, by decide +kernel, q1444⟩
def fX3_must (M : tM) (x1 : Int32) : Option tM :=
  Option.bind (α := Int32) ((if (M.1 11) = 0 then
  (if x1 = 0 then
  some 1
else
  some 0)
else
  some 1)) fun q1 =>
  bz q1 ((if ((wI M 11 q1).1 11) = 0 then
  Option.bind (fX3_token (wI M 11 q1)) fun q6 =>
  some q6
else
  some (wI M 11 q1)))
set_option maxHeartbeats 4000000 in
theorem wX3_must (g : bGh) {A : tA} (hA : tO A) (w : bWl) (M : tM) (x1 : Int32) {r : tM} (hf : fX3_must M x1 = some r) : bM g mdX3_must (tW A M w) [.ref A.1, .int x1] (q_ none (tW A r w)) := by
  unfold fX3_must at hf
  change bG _ _ 0 [some (.ref A.1), some (.int x1)] []
  refine g_aload_n (pc' := 1) dX3_must_0 rfl rfl rfl ?_
  refine g_aload_n (pc' := 2) dX3_must_1 rfl rfl rfl ?_
  refine gt_get (k := 11) (pc' := 5) (by decide) dX3_must_2 rfl q1059 rfl ?_
  obtain ⟨q1, hqq1, hf⟩ := Option.bind_eq_some_iff.mp hf
  have hJq1 : bG (g, mdX3_must, (tW A M w).2.1, (tW A M w).2.2.1, (q_ none (tW A r w))) (tW A M w) 17 [some (.ref A.1), none] [.int q1, .ref A.1] := by
    obtain ⟨h4, hf⟩ := bz_spec hf
    refine gt_put (k := 11) (ty := .boolean) (pc' := 20) (by decide) rfl dX3_must_17 rfl q1059 (by decide +kernel) (bz_nar h4) (bz_fit h4) rfl ?_
    refine g_aload_n (pc' := 21) dX3_must_20 rfl rfl rfl ?_
    refine gt_get (k := 11) (pc' := 24) (by decide) dX3_must_21 rfl q1059 rfl ?_
    refine g_if_ne (tgt := 31) (pc' := 27) dX3_must_24 (by decide) rfl (fun h5 => ?_) (fun h5 => ?_)
    · replace hf := (if_neg h5).symm.trans hf
      obtain rfl := Option.some.inj hf
      exact g_vret dX3_must_31 rfl ⟨rfl, rfl⟩
    · replace hf := (if_pos h5).symm.trans hf
      refine g_aload_n (pc' := 28) dX3_must_27 rfl rfl rfl ?_
      obtain ⟨q6, hq6, hf⟩ := Option.bind_eq_some_iff.mp hf
      refine g_callV (pc' := 31) (mx := mdX3_token) (as := []) (wX3_token g hA _ _ hq6) oX3_token ⟨Nat.le_of_ble_eq_true rfl, Nat.le_of_ble_eq_true rfl⟩ dX3_must_28 rfl (ci := 3) rfl tC ⟨by decide +kernel, by decide +kernel⟩ oX3_token.2.2.2 rfl q1399 q1401 qs66 qs66 q1401 (Nat.le_of_ble_eq_true rfl) (Nat.le_of_ble_eq_true rfl) (g_rV ?_) g_nt rfl
      obtain rfl := Option.some.inj hf
      exact g_vret dX3_must_31 rfl ⟨rfl, rfl⟩
  replace hf := hqq1
  refine g_if_ne (tgt := 12) (pc' := 8) dX3_must_5 (by decide) rfl (fun h2 => ?_) (fun h2 => ?_)
  · replace hf := (if_neg h2).symm.trans hf
    refine g_iconst (pc' := 13) (v := 1) dX3_must_12 rfl (by decide) ?_
    refine g_goto (tgt := 17) dX3_must_13 (by decide) ?_
    obtain rfl := Option.some.inj hf
    refine g_drop [1] (L' := [some (.ref A.1), none]) rfl ?_
    exact hJq1
  · replace hf := (if_pos h2).symm.trans hf
    refine g_iload_n (pc' := 9) dX3_must_8 rfl rfl rfl ?_
    refine g_if_ne (tgt := 16) (pc' := 12) dX3_must_9 (by decide) rfl (fun h3 => ?_) (fun h3 => ?_)
    · replace hf := (if_neg h3).symm.trans hf
      refine g_iconst (pc' := 17) (v := 0) dX3_must_16 rfl (by decide) ?_
      obtain rfl := Option.some.inj hf
      refine g_drop [1] (L' := [some (.ref A.1), none]) rfl ?_
      exact hJq1
    · replace hf := (if_pos h3).symm.trans hf
      refine g_iconst (pc' := 13) (v := 1) dX3_must_12 rfl (by decide) ?_
      refine g_goto (tgt := 17) dX3_must_13 (by decide) ?_
      obtain rfl := Option.some.inj hf
      refine g_drop [1] (L' := [some (.ref A.1), none]) rfl ?_
      exact hJq1
def mdX3_number : bMD := (yX3_number, cX3_number, 6, none, [], 5, 100)
theorem oX3_number : bOkc mdX3_number 2 := ⟨by decide +kernel, ⟨by decide +kernel, by decide +kernel⟩, by decide +kernel, q1449⟩
def fX3_number_l29 (M : tM) (y1 : Int32) (y2 : Int32) (y3 : Int32) (rec : (Int32 × Int32) → Option (Int32 × Int32)) (s : Int32 × Int32) : Option (Int32 × Int32) :=
  (if (M.1 9) ≤ s.2 then
  some (s.1, s.2)
else
  (if y3 = 0 then
  some (s.1, s.2)
else
  Option.bind (α := Int32) ((if s.1 ≤ 999 then
  Option.bind (rA M 6 s.2) fun v8 =>
  some (((10 * s.1) + v8) - 48)
else
  some s.1)) fun q6 =>
  rec (q6, (s.2 + 1))))
def fX3_number (M : tM) (x1 : Int32) (x2 : Int32) : Option tM :=
  (if (M.1 11) = 0 then
  Option.bind (fX3_byteAt M (M.1 8)) fun q2 =>
  Option.bind (fX3_isDigit q2) fun q3 =>
  Option.bind (lpF (fX3_number_l29 M x1 x2 q3) FU (0, (M.1 8))) fun q9 =>
  Option.bind (α := Int32) ((if q3 = 0 then
  some 0
else
  Option.bind (fX3_in ((q9.1 : Int32).toInt64) ((x1 : Int32).toInt64) ((x2 : Int32).toInt64)) fun q12 =>
  (if q12 = 0 then
  some 0
else
  some 1))) fun q10 =>
  Option.bind (fX3_must (wI M 10 q9.1) q10) fun q14 =>
  some q14
else
  some M)
set_option maxHeartbeats 4000000 in
theorem wX3_number_l29 {g : bGh} {A : tA} (hA : tO A) {w : bWl} {M : tM} {n0 u0 : Nat} {Q : Outcome → bWl → Prop} (y1 : Int32) (y2 : Int32) (y3 : Int32) : ∀ (n : Nat) (s : Int32 × Int32) (r : (Int32 × Int32)), lpF (fX3_number_l29 M y1 y2 y3) n s = some r → bG (g, mdX3_number, n0, u0, Q) (tW A M w) 79 [some (.ref A.1), some (.int y1), some (.int y2), some (.int y3), some (.int r.1), some (.int r.2)] [] → bG (g, mdX3_number, n0, u0, Q) (tW A M w) 29 [some (.ref A.1), some (.int y1), some (.int y2), some (.int y3), some (.int s.1), some (.int s.2)] [] := by
  intro n
  induction n with
  | zero => intro s r hf; cases hf
  | succ n ih =>
    intro s r hf kx
    rw [lpF_s] at hf
    unfold fX3_number_l29 at hf
    refine g_iload (pc' := 31) dX3_number_29 rfl rfl ?_
    refine g_aload_n (pc' := 32) dX3_number_31 rfl rfl rfl ?_
    refine gt_get (k := 9) (pc' := 35) (by decide) dX3_number_32 rfl q1057 rfl ?_
    refine g_icmp_ge (tgt := 79) (pc' := 38) dX3_number_35 (by decide) rfl (fun h4 => ?_) (fun h4 => ?_)
    · replace hf := (if_pos h4).symm.trans hf
      obtain rfl := Option.some.inj hf
      exact kx
    · replace hf := (if_neg h4).symm.trans hf
      refine g_iload_n (pc' := 39) dX3_number_38 rfl rfl rfl ?_
      refine g_if_eq (tgt := 79) (pc' := 42) dX3_number_39 (by decide) rfl (fun h5 => ?_) (fun h5 => ?_)
      · replace hf := (if_pos h5).symm.trans hf
        obtain rfl := Option.some.inj hf
        exact kx
      · replace hf := (if_neg h5).symm.trans hf
        refine g_iload (pc' := 44) dX3_number_42 rfl rfl ?_
        refine g_sipush (pc' := 47) (v := 999) dX3_number_44 rfl (by decide) ?_
        obtain ⟨q6, hqq6, hf⟩ := Option.bind_eq_some_iff.mp hf
        have hJq6 : bG (g, mdX3_number, n0, u0, Q) (tW A M w) 71 [some (.ref A.1), some (.int y1), some (.int y2), some (.int y3), none, some (.int s.2)] [.int q6] := by
          refine g_istore (pc' := 73) (L' := [some (.ref A.1), some (.int y1), some (.int y2), some (.int y3), some (.int q6), some (.int s.2)]) dX3_number_71 rfl (Nat.le_of_ble_eq_true rfl) rfl rfl ?_
          refine g_iinc (pc' := 76) (v := s.2 + 1) (L' := [some (.ref A.1), some (.int y1), some (.int y2), some (.int y3), some (.int q6), some (.int (s.2 + 1))]) dX3_number_73 rfl rfl rfl (Nat.le_of_ble_eq_true rfl) rfl rfl ?_
          refine g_goto (tgt := 29) dX3_number_76 (by decide) ?_
          exact ih _ r hf kx
        replace hf := hqq6
        refine g_icmp_le (tgt := 55) (pc' := 50) dX3_number_47 (by decide) rfl (fun h7 => ?_) (fun h7 => ?_)
        · replace hf := (if_pos h7).symm.trans hf
          refine g_bipush (pc' := 57) (v := 10) dX3_number_55 rfl (by decide) ?_
          refine g_iload (pc' := 59) dX3_number_57 rfl rfl ?_
          refine g_imul (pc' := 60) dX3_number_59 rfl ?_
          refine g_aload_n (pc' := 61) dX3_number_60 rfl rfl rfl ?_
          refine gt_get (k := 6) (pc' := 64) (by decide) dX3_number_61 rfl q1054 rfl ?_
          refine g_iload (pc' := 66) dX3_number_64 rfl rfl ?_
          obtain ⟨v8, hv8, hf⟩ := Option.bind_eq_some_iff.mp hf
          refine gt_iald (pc' := 67) hA (by decide) dX3_number_66 rfl hv8 ?_
          refine g_iadd (pc' := 68) dX3_number_67 rfl ?_
          refine g_bipush (pc' := 70) (v := 48) dX3_number_68 rfl (by decide) ?_
          refine g_isub (pc' := 71) dX3_number_70 rfl ?_
          obtain rfl := Option.some.inj hf
          refine g_drop [4] (L' := [some (.ref A.1), some (.int y1), some (.int y2), some (.int y3), none, some (.int s.2)]) rfl ?_
          exact hJq6
        · replace hf := (if_neg h7).symm.trans hf
          refine g_iload (pc' := 52) dX3_number_50 rfl rfl ?_
          refine g_goto (tgt := 71) dX3_number_52 (by decide) ?_
          obtain rfl := Option.some.inj hf
          refine g_drop [4] (L' := [some (.ref A.1), some (.int y1), some (.int y2), some (.int y3), none, some (.int s.2)]) rfl ?_
          exact hJq6
set_option maxHeartbeats 4000000 in
theorem wX3_number (g : bGh) {A : tA} (hA : tO A) (w : bWl) (M : tM) (x1 : Int32) (x2 : Int32) {r : tM} (hf : fX3_number M x1 x2 = some r) : bM g mdX3_number (tW A M w) [.ref A.1, .int x1, .int x2] (q_ none (tW A r w)) := by
  unfold fX3_number at hf
  change bG _ _ 0 [some (.ref A.1), some (.int x1), some (.int x2)] []
  refine g_aload_n (pc' := 1) dX3_number_0 rfl rfl rfl ?_
  refine gt_get (k := 11) (pc' := 4) (by decide) dX3_number_1 rfl q1059 rfl ?_
  refine g_if_eq (tgt := 8) (pc' := 7) dX3_number_4 (by decide) rfl (fun h1 => ?_) (fun h1 => ?_)
  · replace hf := (if_pos h1).symm.trans hf
    refine g_aload_n (pc' := 9) dX3_number_8 rfl rfl rfl ?_
    refine g_aload_n (pc' := 10) dX3_number_9 rfl rfl rfl ?_
    refine gt_get (k := 8) (pc' := 13) (by decide) dX3_number_10 rfl q1056 rfl ?_
    obtain ⟨q2, hq2, hf⟩ := Option.bind_eq_some_iff.mp hf
    refine g_callV (pc' := 16) (mx := mdX3_byteAt) (as := [.int (M.1 8)]) (wX3_byteAt g hA _ _ (M.1 8) hq2) oX3_byteAt ⟨Nat.le_of_ble_eq_true rfl, Nat.le_of_ble_eq_true rfl⟩ dX3_number_13 rfl (ci := 3) rfl tC ⟨by decide +kernel, by decide +kernel⟩ oX3_byteAt.2.2.2 rfl q1403 q1405 qs67 qs67 q1405 (Nat.le_of_ble_eq_true rfl) (Nat.le_of_ble_eq_true rfl) (g_rI ?_) g_nt rfl
    obtain ⟨q3, hq3, hf⟩ := Option.bind_eq_some_iff.mp hf
    refine g_callS (pc' := 19) (as := [.int q2]) (wX3_isDigit g _ q2 hq3) oX3_isDigit ⟨Nat.le_of_ble_eq_true rfl, Nat.le_of_ble_eq_true rfl⟩ dX3_number_16 rfl q1412 q1413 q86 (Nat.le_of_ble_eq_true rfl) (Nat.le_of_ble_eq_true rfl) (g_rI ?_) g_nt rfl
    refine g_istore_n (pc' := 20) (L' := [some (.ref A.1), some (.int x1), some (.int x2), some (.int q3)]) dX3_number_19 rfl rfl (Nat.le_of_ble_eq_true rfl) rfl rfl ?_
    refine g_iconst (pc' := 21) (v := 0) dX3_number_20 rfl (by decide) ?_
    refine g_istore (pc' := 23) (L' := [some (.ref A.1), some (.int x1), some (.int x2), some (.int q3), some (.int 0)]) dX3_number_21 rfl (Nat.le_of_ble_eq_true rfl) rfl rfl ?_
    refine g_aload_n (pc' := 24) dX3_number_23 rfl rfl rfl ?_
    refine gt_get (k := 8) (pc' := 27) (by decide) dX3_number_24 rfl q1056 rfl ?_
    refine g_istore (pc' := 29) (L' := [some (.ref A.1), some (.int x1), some (.int x2), some (.int q3), some (.int 0), some (.int (M.1 8))]) dX3_number_27 rfl (Nat.le_of_ble_eq_true rfl) rfl rfl ?_
    obtain ⟨q9, hq9, hf⟩ := Option.bind_eq_some_iff.mp hf
    refine wX3_number_l29 hA x1 x2 q3 FU (0, (M.1 8)) q9 hq9 ?_
    refine g_aload_n (pc' := 80) dX3_number_79 rfl rfl rfl ?_
    refine g_iload (pc' := 82) dX3_number_80 rfl rfl ?_
    refine gt_put (k := 10) (ty := .int) (pc' := 85) (by decide) rfl dX3_number_82 rfl q1058 (by decide +kernel) rfl rfl rfl ?_
    refine g_aload_n (pc' := 86) dX3_number_85 rfl rfl rfl ?_
    refine g_iload_n (pc' := 87) dX3_number_86 rfl rfl rfl ?_
    obtain ⟨q10, hqq10, hf⟩ := Option.bind_eq_some_iff.mp hf
    have hJq10 : bG (g, mdX3_number, (tW A M w).2.1, (tW A M w).2.2.1, (q_ none (tW A r w))) (tW A (wI M 10 q9.1) w) 108 [some (.ref A.1), none, none, none, none, none] [.int q10, .ref A.1] := by
      obtain ⟨q14, hq14, hf⟩ := Option.bind_eq_some_iff.mp hf
      refine g_callV (pc' := 111) (mx := mdX3_must) (as := [.int q10]) (wX3_must g hA _ _ q10 hq14) oX3_must ⟨Nat.le_of_ble_eq_true rfl, Nat.le_of_ble_eq_true rfl⟩ dX3_number_108 rfl (ci := 3) rfl tC ⟨by decide +kernel, by decide +kernel⟩ oX3_must.2.2.2 rfl q1441 q1443 qs72 qs72 q1443 (Nat.le_of_ble_eq_true rfl) (Nat.le_of_ble_eq_true rfl) (g_rV ?_) g_nt rfl
      obtain rfl := Option.some.inj hf
      exact g_vret dX3_number_111 rfl ⟨rfl, rfl⟩
    replace hf := hqq10
    refine g_if_eq (tgt := 107) (pc' := 90) dX3_number_87 (by decide) rfl (fun h11 => ?_) (fun h11 => ?_)
    · replace hf := (if_pos h11).symm.trans hf
      refine g_iconst (pc' := 108) (v := 0) dX3_number_107 rfl (by decide) ?_
      obtain rfl := Option.some.inj hf
      refine g_drop [1, 2, 3, 4, 5] (L' := [some (.ref A.1), none, none, none, none, none]) rfl ?_
      exact hJq10
    · replace hf := (if_neg h11).symm.trans hf
      refine g_iload (pc' := 92) dX3_number_90 rfl rfl ?_
      refine g_i2l (pc' := 93) dX3_number_92 rfl ?_
      refine g_iload_n (pc' := 94) dX3_number_93 rfl rfl rfl ?_
      refine g_i2l (pc' := 95) dX3_number_94 rfl ?_
      refine g_iload_n (pc' := 96) dX3_number_95 rfl rfl rfl ?_
      refine g_i2l (pc' := 97) dX3_number_96 rfl ?_
      obtain ⟨q12, hq12, hf⟩ := Option.bind_eq_some_iff.mp hf
      refine g_callS (pc' := 100) (as := [.long ((q9.1 : Int32).toInt64), .long ((x1 : Int32).toInt64), .long ((x2 : Int32).toInt64)]) (wX3_in g _ ((q9.1 : Int32).toInt64) ((x1 : Int32).toInt64) ((x2 : Int32).toInt64) hq12) oX3_in ⟨Nat.le_of_ble_eq_true rfl, Nat.le_of_ble_eq_true rfl⟩ dX3_number_97 rfl q1102 q1103 q86 (Nat.le_of_ble_eq_true rfl) (Nat.le_of_ble_eq_true rfl) (g_rI ?_) g_nt rfl
      refine g_if_eq (tgt := 107) (pc' := 103) dX3_number_100 (by decide) rfl (fun h13 => ?_) (fun h13 => ?_)
      · replace hf := (if_pos h13).symm.trans hf
        refine g_iconst (pc' := 108) (v := 0) dX3_number_107 rfl (by decide) ?_
        obtain rfl := Option.some.inj hf
        refine g_drop [1, 2, 3, 4, 5] (L' := [some (.ref A.1), none, none, none, none, none]) rfl ?_
        exact hJq10
      · replace hf := (if_neg h13).symm.trans hf
        refine g_iconst (pc' := 104) (v := 1) dX3_number_103 rfl (by decide) ?_
        refine g_goto (tgt := 108) dX3_number_104 (by decide) ?_
        obtain rfl := Option.some.inj hf
        refine g_drop [1, 2, 3, 4, 5] (L' := [some (.ref A.1), none, none, none, none, none]) rfl ?_
        exact hJq10
  · replace hf := (if_neg h1).symm.trans hf
    obtain rfl := Option.some.inj hf
    exact g_vret dX3_number_7 rfl ⟨rfl, rfl⟩
def mdX3_partItem : bMD := (yX3_partItem, cX3_partItem, 5, none, [], 6, 125)
theorem oX3_partItem : bOkc mdX3_partItem 3 := ⟨by decide +kernel, ⟨by decide +kernel, by decide +kernel⟩, by decide +kernel, q1454⟩
def fX3_partItem (M : tM) (x1 : Int64) (x3 : Int32) (x4 : Int32) : Option tM :=
  Option.bind (fX3_word M) fun q1 =>
  (if (lg_cmp q1 x1) = 0 then
  Option.bind (fX3_must M 1) fun q3 =>
  Option.bind (fX3_number q3 0 x4) fun q4 =>
  (if (q4.1 11) = 0 then
  Option.bind (wA q4 0 x3 (q4.1 10)) fun w6 =>
  some w6
else
  Option.bind (rA q4 0 x3) fun v7 =>
  Option.bind (wA q4 0 x3 v7) fun w8 =>
  some w8)
else
  some M)
set_option maxHeartbeats 4000000 in
theorem wX3_partItem (g : bGh) {A : tA} (hA : tO A) (w : bWl) (M : tM) (x1 : Int64) (x3 : Int32) (x4 : Int32) {r : tM} (hf : fX3_partItem M x1 x3 x4 = some r) : bM g mdX3_partItem (tW A M w) [.ref A.1, .long x1, .int x3, .int x4] (q_ none (tW A r w)) := by
  unfold fX3_partItem at hf
  change bG _ _ 0 [some (.ref A.1), some (.long x1), none, some (.int x3), some (.int x4)] []
  refine g_aload_n (pc' := 1) dX3_partItem_0 rfl rfl rfl ?_
  obtain ⟨q1, hq1, hf⟩ := Option.bind_eq_some_iff.mp hf
  refine g_callV (pc' := 4) (mx := mdX3_word) (as := []) (wX3_word g hA _ _ hq1) oX3_word ⟨Nat.le_of_ble_eq_true rfl, Nat.le_of_ble_eq_true rfl⟩ dX3_partItem_1 rfl (ci := 3) rfl tC ⟨by decide +kernel, by decide +kernel⟩ oX3_word.2.2.2 rfl q1425 q1427 qs70 qs70 q1427 (Nat.le_of_ble_eq_true rfl) (Nat.le_of_ble_eq_true rfl) (g_rJ ?_) g_nt rfl
  refine g_lload_n (pc' := 5) dX3_partItem_4 rfl rfl rfl ?_
  refine g_lcmp (pc' := 6) dX3_partItem_5 rfl ?_
  refine g_if_ne (tgt := 47) (pc' := 9) dX3_partItem_6 (by decide) rfl (fun h2 => ?_) (fun h2 => ?_)
  · replace hf := (if_neg h2).symm.trans hf
    obtain rfl := Option.some.inj hf
    exact g_vret dX3_partItem_47 rfl ⟨rfl, rfl⟩
  · replace hf := (if_pos h2).symm.trans hf
    refine g_aload_n (pc' := 10) dX3_partItem_9 rfl rfl rfl ?_
    refine g_iconst (pc' := 11) (v := 1) dX3_partItem_10 rfl (by decide) ?_
    obtain ⟨q3, hq3, hf⟩ := Option.bind_eq_some_iff.mp hf
    refine g_callV (pc' := 14) (mx := mdX3_must) (as := [.int 1]) (wX3_must g hA _ _ 1 hq3) oX3_must ⟨Nat.le_of_ble_eq_true rfl, Nat.le_of_ble_eq_true rfl⟩ dX3_partItem_11 rfl (ci := 3) rfl tC ⟨by decide +kernel, by decide +kernel⟩ oX3_must.2.2.2 rfl q1441 q1443 qs72 qs72 q1443 (Nat.le_of_ble_eq_true rfl) (Nat.le_of_ble_eq_true rfl) (g_rV ?_) g_nt rfl
    refine g_aload_n (pc' := 15) dX3_partItem_14 rfl rfl rfl ?_
    refine g_iconst (pc' := 16) (v := 0) dX3_partItem_15 rfl (by decide) ?_
    refine g_iload (pc' := 18) dX3_partItem_16 rfl rfl ?_
    obtain ⟨q4, hq4, hf⟩ := Option.bind_eq_some_iff.mp hf
    refine g_callV (pc' := 21) (mx := mdX3_number) (as := [.int 0, .int x4]) (wX3_number g hA _ _ 0 x4 hq4) oX3_number ⟨Nat.le_of_ble_eq_true rfl, Nat.le_of_ble_eq_true rfl⟩ dX3_partItem_18 rfl (ci := 3) rfl tC ⟨by decide +kernel, by decide +kernel⟩ oX3_number.2.2.2 rfl q1446 q1448 qs73 qs73 q1448 (Nat.le_of_ble_eq_true rfl) (Nat.le_of_ble_eq_true rfl) (g_rV ?_) g_nt rfl
    refine g_aload_n (pc' := 22) dX3_partItem_21 rfl rfl rfl ?_
    refine gt_get (k := 0) (pc' := 25) (by decide) dX3_partItem_22 rfl q1048 rfl ?_
    refine g_iload_n (pc' := 26) dX3_partItem_25 rfl rfl rfl ?_
    refine g_aload_n (pc' := 27) dX3_partItem_26 rfl rfl rfl ?_
    refine gt_get (k := 11) (pc' := 30) (by decide) dX3_partItem_27 rfl q1059 rfl ?_
    refine g_if_eq (tgt := 42) (pc' := 33) dX3_partItem_30 (by decide) rfl (fun h5 => ?_) (fun h5 => ?_)
    · replace hf := (if_pos h5).symm.trans hf
      refine g_aload_n (pc' := 43) dX3_partItem_42 rfl rfl rfl ?_
      refine gt_get (k := 10) (pc' := 46) (by decide) dX3_partItem_43 rfl q1058 rfl ?_
      obtain ⟨w6, hw6, hf⟩ := Option.bind_eq_some_iff.mp hf
      refine gt_iast (pc' := 47) hA (by decide) dX3_partItem_46 rfl hw6 ?_
      obtain rfl := Option.some.inj hf
      exact g_vret dX3_partItem_47 rfl ⟨rfl, rfl⟩
    · replace hf := (if_neg h5).symm.trans hf
      refine g_aload_n (pc' := 34) dX3_partItem_33 rfl rfl rfl ?_
      refine gt_get (k := 0) (pc' := 37) (by decide) dX3_partItem_34 rfl q1048 rfl ?_
      refine g_iload_n (pc' := 38) dX3_partItem_37 rfl rfl rfl ?_
      obtain ⟨v7, hv7, hf⟩ := Option.bind_eq_some_iff.mp hf
      refine gt_iald (pc' := 39) hA (by decide) dX3_partItem_38 rfl hv7 ?_
      refine g_goto (tgt := 46) dX3_partItem_39 (by decide) ?_
      obtain ⟨w8, hw8, hf⟩ := Option.bind_eq_some_iff.mp hf
      refine gt_iast (pc' := 47) hA (by decide) dX3_partItem_46 rfl hw8 ?_
      obtain rfl := Option.some.inj hf
      exact g_vret dX3_partItem_47 rfl ⟨rfl, rfl⟩
def mdX3_peeked : bMD := (yX3_peeked, cX3_peeked, 3, (some FieldType.int), [], 3, 57)
theorem oX3_peeked : bOkc mdX3_peeked 0 := ⟨by decide +kernel, ⟨by decide +kernel, by decide +kernel⟩, by decide +kernel, q1459⟩
def fX3_peeked_l30 (M : tM)  (rec : (Int32 × Int32) → Option (Int32 × Int32)) (s : Int32 × Int32) : Option (Int32 × Int32) :=
  (if (M.1 9) ≤ s.2 then
  some (s.1, s.2)
else
  Option.bind (α := Int32) ((if s.1 ≤ 99 then
  Option.bind (rA M 6 s.2) fun v8 =>
  some (((10 * s.1) + v8) - 48)
else
  some 1000)) fun q6 =>
  rec (q6, (s.2 + 1)))
def fX3_peeked (M : tM)  : Option Int32 :=
  (if (M.1 11) = 0 then
  Option.bind (fX3_byteAt M (M.1 8)) fun q2 =>
  Option.bind (fX3_isDigit q2) fun q3 =>
  (if q3 = 0 then
  some (-1)
else
  Option.bind (lpF (fX3_peeked_l30 M) FU (0, (M.1 8))) fun q9 =>
  some q9.1)
else
  some (-1))
set_option maxHeartbeats 4000000 in
theorem wX3_peeked_l30 {g : bGh} {A : tA} (hA : tO A) {w : bWl} {M : tM} {n0 u0 : Nat} {Q : Outcome → bWl → Prop}  : ∀ (n : Nat) (s : Int32 × Int32) (r : (Int32 × Int32)), lpF (fX3_peeked_l30 M) n s = some r → bG (g, mdX3_peeked, n0, u0, Q) (tW A M w) 71 [some (.ref A.1), some (.int r.1), some (.int r.2)] [] → bG (g, mdX3_peeked, n0, u0, Q) (tW A M w) 30 [some (.ref A.1), some (.int s.1), some (.int s.2)] [] := by
  intro n
  induction n with
  | zero => intro s r hf; cases hf
  | succ n ih =>
    intro s r hf kx
    rw [lpF_s] at hf
    unfold fX3_peeked_l30 at hf
    refine g_iload_n (pc' := 31) dX3_peeked_30 rfl rfl rfl ?_
    refine g_aload_n (pc' := 32) dX3_peeked_31 rfl rfl rfl ?_
    refine gt_get (k := 9) (pc' := 35) (by decide) dX3_peeked_32 rfl q1057 rfl ?_
    refine g_icmp_ge (tgt := 71) (pc' := 38) dX3_peeked_35 (by decide) rfl (fun h5 => ?_) (fun h5 => ?_)
    · replace hf := (if_pos h5).symm.trans hf
      obtain rfl := Option.some.inj hf
      exact kx
    · replace hf := (if_neg h5).symm.trans hf
      refine g_iload_n (pc' := 39) dX3_peeked_38 rfl rfl rfl ?_
      refine g_bipush (pc' := 41) (v := 99) dX3_peeked_39 rfl (by decide) ?_
      obtain ⟨q6, hqq6, hf⟩ := Option.bind_eq_some_iff.mp hf
      have hJq6 : bG (g, mdX3_peeked, n0, u0, Q) (tW A M w) 64 [some (.ref A.1), none, some (.int s.2)] [.int q6] := by
        refine g_istore_n (pc' := 65) (L' := [some (.ref A.1), some (.int q6), some (.int s.2)]) dX3_peeked_64 rfl rfl (Nat.le_of_ble_eq_true rfl) rfl rfl ?_
        refine g_iinc (pc' := 68) (v := s.2 + 1) (L' := [some (.ref A.1), some (.int q6), some (.int (s.2 + 1))]) dX3_peeked_65 rfl rfl rfl (Nat.le_of_ble_eq_true rfl) rfl rfl ?_
        refine g_goto (tgt := 30) dX3_peeked_68 (by decide) ?_
        exact ih _ r hf kx
      replace hf := hqq6
      refine g_icmp_le (tgt := 50) (pc' := 44) dX3_peeked_41 (by decide) rfl (fun h7 => ?_) (fun h7 => ?_)
      · replace hf := (if_pos h7).symm.trans hf
        refine g_bipush (pc' := 52) (v := 10) dX3_peeked_50 rfl (by decide) ?_
        refine g_iload_n (pc' := 53) dX3_peeked_52 rfl rfl rfl ?_
        refine g_imul (pc' := 54) dX3_peeked_53 rfl ?_
        refine g_aload_n (pc' := 55) dX3_peeked_54 rfl rfl rfl ?_
        refine gt_get (k := 6) (pc' := 58) (by decide) dX3_peeked_55 rfl q1054 rfl ?_
        refine g_iload_n (pc' := 59) dX3_peeked_58 rfl rfl rfl ?_
        obtain ⟨v8, hv8, hf⟩ := Option.bind_eq_some_iff.mp hf
        refine gt_iald (pc' := 60) hA (by decide) dX3_peeked_59 rfl hv8 ?_
        refine g_iadd (pc' := 61) dX3_peeked_60 rfl ?_
        refine g_bipush (pc' := 63) (v := 48) dX3_peeked_61 rfl (by decide) ?_
        refine g_isub (pc' := 64) dX3_peeked_63 rfl ?_
        obtain rfl := Option.some.inj hf
        refine g_drop [1] (L' := [some (.ref A.1), none, some (.int s.2)]) rfl ?_
        exact hJq6
      · replace hf := (if_neg h7).symm.trans hf
        refine g_sipush (pc' := 47) (v := 1000) dX3_peeked_44 rfl (by decide) ?_
        refine g_goto (tgt := 64) dX3_peeked_47 (by decide) ?_
        obtain rfl := Option.some.inj hf
        refine g_drop [1] (L' := [some (.ref A.1), none, some (.int s.2)]) rfl ?_
        exact hJq6
set_option maxHeartbeats 4000000 in
theorem wX3_peeked (g : bGh) {A : tA} (hA : tO A) (w : bWl) (M : tM)  {r : Int32} (hf : fX3_peeked M  = some r) : bM g mdX3_peeked (tW A M w) [.ref A.1] (q_ (eI r) (tW A M w)) := by
  unfold fX3_peeked at hf
  change bG _ _ 0 [some (.ref A.1)] []
  refine g_aload_n (pc' := 1) dX3_peeked_0 rfl rfl rfl ?_
  refine gt_get (k := 11) (pc' := 4) (by decide) dX3_peeked_1 rfl q1059 rfl ?_
  refine g_if_ne (tgt := 21) (pc' := 7) dX3_peeked_4 (by decide) rfl (fun h1 => ?_) (fun h1 => ?_)
  · replace hf := (if_neg h1).symm.trans hf
    refine g_iconst (pc' := 22) (v := (-1)) dX3_peeked_21 rfl (by decide) ?_
    obtain rfl := Option.some.inj hf
    exact g_iret dX3_peeked_22 rfl rfl ⟨rfl, rfl⟩
  · replace hf := (if_pos h1).symm.trans hf
    refine g_aload_n (pc' := 8) dX3_peeked_7 rfl rfl rfl ?_
    refine g_aload_n (pc' := 9) dX3_peeked_8 rfl rfl rfl ?_
    refine gt_get (k := 8) (pc' := 12) (by decide) dX3_peeked_9 rfl q1056 rfl ?_
    obtain ⟨q2, hq2, hf⟩ := Option.bind_eq_some_iff.mp hf
    refine g_callV (pc' := 15) (mx := mdX3_byteAt) (as := [.int (M.1 8)]) (wX3_byteAt g hA _ _ (M.1 8) hq2) oX3_byteAt ⟨Nat.le_of_ble_eq_true rfl, Nat.le_of_ble_eq_true rfl⟩ dX3_peeked_12 rfl (ci := 3) rfl tC ⟨by decide +kernel, by decide +kernel⟩ oX3_byteAt.2.2.2 rfl q1403 q1405 qs67 qs67 q1405 (Nat.le_of_ble_eq_true rfl) (Nat.le_of_ble_eq_true rfl) (g_rI ?_) g_nt rfl
    obtain ⟨q3, hq3, hf⟩ := Option.bind_eq_some_iff.mp hf
    refine g_callS (pc' := 18) (as := [.int q2]) (wX3_isDigit g _ q2 hq3) oX3_isDigit ⟨Nat.le_of_ble_eq_true rfl, Nat.le_of_ble_eq_true rfl⟩ dX3_peeked_15 rfl q1412 q1413 q86 (Nat.le_of_ble_eq_true rfl) (Nat.le_of_ble_eq_true rfl) (g_rI ?_) g_nt rfl
    refine g_if_ne (tgt := 23) (pc' := 21) dX3_peeked_18 (by decide) rfl (fun h4 => ?_) (fun h4 => ?_)
    · replace hf := (if_neg h4).symm.trans hf
      refine g_iconst (pc' := 24) (v := 0) dX3_peeked_23 rfl (by decide) ?_
      refine g_istore_n (pc' := 25) (L' := [some (.ref A.1), some (.int 0)]) dX3_peeked_24 rfl rfl (Nat.le_of_ble_eq_true rfl) rfl rfl ?_
      refine g_aload_n (pc' := 26) dX3_peeked_25 rfl rfl rfl ?_
      refine gt_get (k := 8) (pc' := 29) (by decide) dX3_peeked_26 rfl q1056 rfl ?_
      refine g_istore_n (pc' := 30) (L' := [some (.ref A.1), some (.int 0), some (.int (M.1 8))]) dX3_peeked_29 rfl rfl (Nat.le_of_ble_eq_true rfl) rfl rfl ?_
      obtain ⟨q9, hq9, hf⟩ := Option.bind_eq_some_iff.mp hf
      refine wX3_peeked_l30 hA FU (0, (M.1 8)) q9 hq9 ?_
      refine g_iload_n (pc' := 72) dX3_peeked_71 rfl rfl rfl ?_
      obtain rfl := Option.some.inj hf
      exact g_iret dX3_peeked_72 rfl rfl ⟨rfl, rfl⟩
    · replace hf := (if_pos h4).symm.trans hf
      refine g_iconst (pc' := 22) (v := (-1)) dX3_peeked_21 rfl (by decide) ?_
      obtain rfl := Option.some.inj hf
      exact g_iret dX3_peeked_22 rfl rfl ⟨rfl, rfl⟩
