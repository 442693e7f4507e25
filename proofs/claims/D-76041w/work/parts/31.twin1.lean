/-! printed by tools/gen.py: 31.twin1 -/
set_option maxRecDepth 100000
def mdX3_isTaken : bMD := (yX3_isTaken, cX3_isTaken, 3, (some FieldType.boolean), [], 5, 99)
theorem oX3_isTaken : bOkc mdX3_isTaken 2 := ⟨by decide +kernel, ⟨by decide +kernel, by decide +kernel⟩, by decide +kernel, q1209⟩
def fX3_isTaken (M : tM) (x1 : Int32) (x2 : Int32) : Option Int32 :=
  Option.bind (fX3_isFree M x1) fun q1 =>
  (if q1 = 0 then
  some 0
else
  Option.bind (fX3_has M x1 2) fun q3 =>
  Option.bind (fX3_needs M x2) fun q4 =>
  (if q3 < q4 then
  some 0
else
  some 1))
set_option maxHeartbeats 4000000 in
theorem wX3_isTaken (g : bGh) {A : tA} (hA : tO A) (w : bWl) (M : tM) (x1 : Int32) (x2 : Int32) {r : Int32} (hf : fX3_isTaken M x1 x2 = some r) : bM g mdX3_isTaken (tW A M w) [.ref A.1, .int x1, .int x2] (q_ (eI r) (tW A M w)) := by
  unfold fX3_isTaken at hf
  change bG _ _ 0 [some (.ref A.1), some (.int x1), some (.int x2)] []
  refine g_aload_n (pc' := 1) dX3_isTaken_0 rfl rfl rfl ?_
  refine g_iload_n (pc' := 2) dX3_isTaken_1 rfl rfl rfl ?_
  obtain ⟨q1, hq1, hf⟩ := Option.bind_eq_some_iff.mp hf
  refine g_callV (pc' := 5) (mx := mdX3_isFree) (as := [.int x1]) (wX3_isFree g hA _ _ x1 hq1) oX3_isFree ⟨Nat.le_of_ble_eq_true rfl, Nat.le_of_ble_eq_true rfl⟩ dX3_isTaken_2 rfl (ci := 3) rfl tC ⟨by decide +kernel, by decide +kernel⟩ oX3_isFree.2.2.2 rfl q1210 q1212 qs45 qs45 q1212 (Nat.le_of_ble_eq_true rfl) (Nat.le_of_ble_eq_true rfl) (g_rI ?_) g_nt rfl
  refine g_if_eq (tgt := 26) (pc' := 8) dX3_isTaken_5 (by decide) rfl (fun h2 => ?_) (fun h2 => ?_)
  · replace hf := (if_pos h2).symm.trans hf
    refine g_iconst (pc' := 27) (v := 0) dX3_isTaken_26 rfl (by decide) ?_
    obtain rfl := Option.some.inj hf
    exact g_iret dX3_isTaken_27 rfl (by decide +kernel) ⟨rfl, rfl⟩
  · replace hf := (if_neg h2).symm.trans hf
    refine g_aload_n (pc' := 9) dX3_isTaken_8 rfl rfl rfl ?_
    refine g_iload_n (pc' := 10) dX3_isTaken_9 rfl rfl rfl ?_
    refine g_iconst (pc' := 11) (v := 2) dX3_isTaken_10 rfl (by decide) ?_
    obtain ⟨q3, hq3, hf⟩ := Option.bind_eq_some_iff.mp hf
    refine g_callV (pc' := 14) (mx := mdX3_has) (as := [.int x1, .int 2]) (wX3_has g hA _ _ x1 2 hq3) oX3_has ⟨Nat.le_of_ble_eq_true rfl, Nat.le_of_ble_eq_true rfl⟩ dX3_isTaken_11 rfl (ci := 3) rfl tC ⟨by decide +kernel, by decide +kernel⟩ oX3_has.2.2.2 rfl q1126 q1128 qs34 qs34 q1128 (Nat.le_of_ble_eq_true rfl) (Nat.le_of_ble_eq_true rfl) (g_rI ?_) g_nt rfl
    refine g_aload_n (pc' := 15) dX3_isTaken_14 rfl rfl rfl ?_
    refine g_iload_n (pc' := 16) dX3_isTaken_15 rfl rfl rfl ?_
    obtain ⟨q4, hq4, hf⟩ := Option.bind_eq_some_iff.mp hf
    refine g_callV (pc' := 19) (mx := mdX3_needs) (as := [.int x2]) (wX3_needs g hA _ _ x2 hq4) oX3_needs ⟨Nat.le_of_ble_eq_true rfl, Nat.le_of_ble_eq_true rfl⟩ dX3_isTaken_16 rfl (ci := 3) rfl tC ⟨by decide +kernel, by decide +kernel⟩ oX3_needs.2.2.2 rfl q1177 q1179 qs42 qs42 q1179 (Nat.le_of_ble_eq_true rfl) (Nat.le_of_ble_eq_true rfl) (g_rI ?_) g_nt rfl
    refine g_icmp_lt (tgt := 26) (pc' := 22) dX3_isTaken_19 (by decide) rfl (fun h5 => ?_) (fun h5 => ?_)
    · replace hf := (if_pos h5).symm.trans hf
      refine g_iconst (pc' := 27) (v := 0) dX3_isTaken_26 rfl (by decide) ?_
      obtain rfl := Option.some.inj hf
      exact g_iret dX3_isTaken_27 rfl (by decide +kernel) ⟨rfl, rfl⟩
    · replace hf := (if_neg h5).symm.trans hf
      refine g_iconst (pc' := 23) (v := 1) dX3_isTaken_22 rfl (by decide) ?_
      refine g_goto (tgt := 27) dX3_isTaken_23 (by decide) ?_
      obtain rfl := Option.some.inj hf
      exact g_iret dX3_isTaken_27 rfl (by decide +kernel) ⟨rfl, rfl⟩
def mdX3_takes : bMD := (yX3_takes, cX3_takes, 3, (some FieldType.int), [], 6, 121)
theorem oX3_takes : bOkc mdX3_takes 2 := ⟨by decide +kernel, ⟨by decide +kernel, by decide +kernel⟩, by decide +kernel, q1205⟩
def fX3_takes (M : tM) (x1 : Int32) (x2 : Int32) : Option (Int32 × tM) :=
  Option.bind (fX3_isHouse x1) fun q1 =>
  (if q1 = 0 then
  Option.bind (fX3_finds M (-1000000001)) fun q3 =>
  some (q3.1, q3.2)
else
  Option.bind (fX3_isRumour M x2) fun q4 =>
  (if q4 = 0 then
  Option.bind (fX3_finds M (-1000000001)) fun q8 =>
  some (q8.1, q8.2)
else
  Option.bind (fX3_isTaken M x1 x2) fun q6 =>
  (if q6 = 0 then
  some (0, M)
else
  some (1, M))))
set_option maxHeartbeats 4000000 in
theorem wX3_takes (g : bGh) {A : tA} (hA : tO A) (w : bWl) (M : tM) (x1 : Int32) (x2 : Int32) {r : (Int32 × tM)} (hf : fX3_takes M x1 x2 = some r) : bM g mdX3_takes (tW A M w) [.ref A.1, .int x1, .int x2] (q_ (eI r.1) (tW A r.2 w)) := by
  unfold fX3_takes at hf
  change bG _ _ 0 [some (.ref A.1), some (.int x1), some (.int x2)] []
  refine g_iload_n (pc' := 1) dX3_takes_0 rfl rfl rfl ?_
  obtain ⟨q1, hq1, hf⟩ := Option.bind_eq_some_iff.mp hf
  refine g_callS (pc' := 4) (as := [.int x1]) (wX3_isHouse g _ x1 hq1) oX3_isHouse ⟨Nat.le_of_ble_eq_true rfl, Nat.le_of_ble_eq_true rfl⟩ dX3_takes_1 rfl q1108 q1109 q86 (Nat.le_of_ble_eq_true rfl) (Nat.le_of_ble_eq_true rfl) (g_rI ?_) g_nt rfl
  refine g_if_eq (tgt := 15) (pc' := 7) dX3_takes_4 (by decide) rfl (fun h2 => ?_) (fun h2 => ?_)
  · replace hf := (if_pos h2).symm.trans hf
    refine g_aload_n (pc' := 16) dX3_takes_15 rfl rfl rfl ?_
    refine g_ldc (pc' := 18) dX3_takes_16 rfl q1116 ?_
    obtain ⟨q3, hq3, hf⟩ := Option.bind_eq_some_iff.mp hf
    refine g_callV (pc' := 21) (mx := mdX3_finds) (as := [.int (-1000000001)]) (wX3_finds g hA _ _ (-1000000001) hq3) oX3_finds ⟨Nat.le_of_ble_eq_true rfl, Nat.le_of_ble_eq_true rfl⟩ dX3_takes_18 rfl (ci := 3) rfl tC ⟨by decide +kernel, by decide +kernel⟩ oX3_finds.2.2.2 rfl q1117 q1119 qs33 qs33 q1119 (Nat.le_of_ble_eq_true rfl) (Nat.le_of_ble_eq_true rfl) (g_rI ?_) g_nt rfl
    obtain rfl := Option.some.inj hf
    exact g_iret dX3_takes_21 rfl rfl ⟨rfl, rfl⟩
  · replace hf := (if_neg h2).symm.trans hf
    refine g_aload_n (pc' := 8) dX3_takes_7 rfl rfl rfl ?_
    refine g_iload_n (pc' := 9) dX3_takes_8 rfl rfl rfl ?_
    obtain ⟨q4, hq4, hf⟩ := Option.bind_eq_some_iff.mp hf
    refine g_callV (pc' := 12) (mx := mdX3_isRumour) (as := [.int x2]) (wX3_isRumour g hA _ _ x2 hq4) oX3_isRumour ⟨Nat.le_of_ble_eq_true rfl, Nat.le_of_ble_eq_true rfl⟩ dX3_takes_9 rfl (ci := 3) rfl tC ⟨by decide +kernel, by decide +kernel⟩ oX3_isRumour.2.2.2 rfl q1173 q1175 qs41 qs41 q1175 (Nat.le_of_ble_eq_true rfl) (Nat.le_of_ble_eq_true rfl) (g_rI ?_) g_nt rfl
    refine g_if_ne (tgt := 22) (pc' := 15) dX3_takes_12 (by decide) rfl (fun h5 => ?_) (fun h5 => ?_)
    · replace hf := (if_neg h5).symm.trans hf
      refine g_aload_n (pc' := 23) dX3_takes_22 rfl rfl rfl ?_
      refine g_iload_n (pc' := 24) dX3_takes_23 rfl rfl rfl ?_
      refine g_iload_n (pc' := 25) dX3_takes_24 rfl rfl rfl ?_
      obtain ⟨q6, hq6, hf⟩ := Option.bind_eq_some_iff.mp hf
      refine g_callV (pc' := 28) (mx := mdX3_isTaken) (as := [.int x1, .int x2]) (wX3_isTaken g hA _ _ x1 x2 hq6) oX3_isTaken ⟨Nat.le_of_ble_eq_true rfl, Nat.le_of_ble_eq_true rfl⟩ dX3_takes_25 rfl (ci := 3) rfl tC ⟨by decide +kernel, by decide +kernel⟩ oX3_isTaken.2.2.2 rfl q1206 q1208 qs44 qs44 q1208 (Nat.le_of_ble_eq_true rfl) (Nat.le_of_ble_eq_true rfl) (g_rI ?_) g_nt rfl
      refine g_if_eq (tgt := 35) (pc' := 31) dX3_takes_28 (by decide) rfl (fun h7 => ?_) (fun h7 => ?_)
      · replace hf := (if_pos h7).symm.trans hf
        refine g_iconst (pc' := 36) (v := 0) dX3_takes_35 rfl (by decide) ?_
        obtain rfl := Option.some.inj hf
        exact g_iret dX3_takes_36 rfl rfl ⟨rfl, rfl⟩
      · replace hf := (if_neg h7).symm.trans hf
        refine g_iconst (pc' := 32) (v := 1) dX3_takes_31 rfl (by decide) ?_
        refine g_goto (tgt := 36) dX3_takes_32 (by decide) ?_
        obtain rfl := Option.some.inj hf
        exact g_iret dX3_takes_36 rfl rfl ⟨rfl, rfl⟩
    · replace hf := (if_pos h5).symm.trans hf
      refine g_aload_n (pc' := 16) dX3_takes_15 rfl rfl rfl ?_
      refine g_ldc (pc' := 18) dX3_takes_16 rfl q1116 ?_
      obtain ⟨q8, hq8, hf⟩ := Option.bind_eq_some_iff.mp hf
      refine g_callV (pc' := 21) (mx := mdX3_finds) (as := [.int (-1000000001)]) (wX3_finds g hA _ _ (-1000000001) hq8) oX3_finds ⟨Nat.le_of_ble_eq_true rfl, Nat.le_of_ble_eq_true rfl⟩ dX3_takes_18 rfl (ci := 3) rfl tC ⟨by decide +kernel, by decide +kernel⟩ oX3_finds.2.2.2 rfl q1117 q1119 qs33 qs33 q1119 (Nat.le_of_ble_eq_true rfl) (Nat.le_of_ble_eq_true rfl) (g_rI ?_) g_nt rfl
      obtain rfl := Option.some.inj hf
      exact g_iret dX3_takes_21 rfl rfl ⟨rfl, rfl⟩
def mdX3_isTrue : bMD := (yX3_isTrue, cX3_isTrue, 2, (some FieldType.boolean), [], 1, 12)
theorem oX3_isTrue : bOkc mdX3_isTrue 1 := ⟨by decide +kernel, ⟨by decide +kernel, by decide +kernel⟩, by decide +kernel, q1224⟩
def fX3_isTrue (M : tM) (x1 : Int32) : Option Int32 :=
  Option.bind (rA M 0 2) fun v1 =>
  (if ((v1 >>> (x1 &&& 31)) &&& 1) = 1 then
  some 1
else
  some 0)
set_option maxHeartbeats 4000000 in
theorem wX3_isTrue (g : bGh) {A : tA} (hA : tO A) (w : bWl) (M : tM) (x1 : Int32) {r : Int32} (hf : fX3_isTrue M x1 = some r) : bM g mdX3_isTrue (tW A M w) [.ref A.1, .int x1] (q_ (eI r) (tW A M w)) := by
  unfold fX3_isTrue at hf
  change bG _ _ 0 [some (.ref A.1), some (.int x1)] []
  refine g_aload_n (pc' := 1) dX3_isTrue_0 rfl rfl rfl ?_
  refine gt_get (k := 0) (pc' := 4) (by decide) dX3_isTrue_1 rfl q1048 rfl ?_
  refine g_iconst (pc' := 5) (v := 2) dX3_isTrue_4 rfl (by decide) ?_
  obtain ⟨v1, hv1, hf⟩ := Option.bind_eq_some_iff.mp hf
  refine gt_iald (pc' := 6) hA (by decide) dX3_isTrue_5 rfl hv1 ?_
  refine g_iload_n (pc' := 7) dX3_isTrue_6 rfl rfl rfl ?_
  refine g_ishr (pc' := 8) dX3_isTrue_7 rfl ?_
  refine g_iconst (pc' := 9) (v := 1) dX3_isTrue_8 rfl (by decide) ?_
  refine g_iand (pc' := 10) dX3_isTrue_9 rfl ?_
  refine g_iconst (pc' := 11) (v := 1) dX3_isTrue_10 rfl (by decide) ?_
  refine g_icmp_ne (tgt := 18) (pc' := 14) dX3_isTrue_11 (by decide) rfl (fun h2 => ?_) (fun h2 => ?_)
  · replace hf := (if_neg h2).symm.trans hf
    refine g_iconst (pc' := 19) (v := 0) dX3_isTrue_18 rfl (by decide) ?_
    obtain rfl := Option.some.inj hf
    exact g_iret dX3_isTrue_19 rfl (by decide +kernel) ⟨rfl, rfl⟩
  · replace hf := (if_pos h2).symm.trans hf
    refine g_iconst (pc' := 15) (v := 1) dX3_isTrue_14 rfl (by decide) ?_
    refine g_goto (tgt := 19) dX3_isTrue_15 (by decide) ?_
    obtain rfl := Option.some.inj hf
    exact g_iret dX3_isTrue_19 rfl (by decide +kernel) ⟨rfl, rfl⟩
def mdX3_hostOf : bMD := (yX3_hostOf, cX3_hostOf, 4, (some FieldType.int), [], 6, 121)
theorem oX3_hostOf : bOkc mdX3_hostOf 1 := ⟨by decide +kernel, ⟨by decide +kernel, by decide +kernel⟩, by decide +kernel, q1229⟩
def fX3_hostOf_l4 (M : tM) (y1 : Int32) (rec : (Int32 × Int32) → Option (Int32 × Int32)) (s : Int32 × Int32) : Option (Int32 × Int32) :=
  (if 8 ≤ s.2 then
  some (s.1, s.2)
else
  Option.bind (fX3_isTaken M s.2 y1) fun q2 =>
  Option.bind (α := Int32) ((if q2 = 0 then
  some s.1
else
  (if s.1 = (-1) then
  some s.2
else
  Option.bind (fX3_has M s.2 2) fun q6 =>
  Option.bind (fX3_has M s.1 2) fun q7 =>
  (if q6 ≤ q7 then
  some s.1
else
  some s.2)))) fun q3 =>
  rec (q3, (s.2 + 1)))
def fX3_hostOf (M : tM) (x1 : Int32) : Option Int32 :=
  Option.bind (lpF (fX3_hostOf_l4 M x1) FU ((-1), 0)) fun q9 =>
  some q9.1
set_option maxHeartbeats 4000000 in
theorem wX3_hostOf_l4 {g : bGh} {A : tA} (hA : tO A) {w : bWl} {M : tM} {n0 u0 : Nat} {Q : Outcome → bWl → Prop} (y1 : Int32) : ∀ (n : Nat) (s : Int32 × Int32) (r : (Int32 × Int32)), lpF (fX3_hostOf_l4 M y1) n s = some r → bG (g, mdX3_hostOf, n0, u0, Q) (tW A M w) 51 [some (.ref A.1), some (.int y1), some (.int r.1), some (.int r.2)] [] → bG (g, mdX3_hostOf, n0, u0, Q) (tW A M w) 4 [some (.ref A.1), some (.int y1), some (.int s.1), some (.int s.2)] [] := by
  intro n
  induction n with
  | zero => intro s r hf; cases hf
  | succ n ih =>
    intro s r hf kx
    rw [lpF_s] at hf
    unfold fX3_hostOf_l4 at hf
    refine g_iload_n (pc' := 5) dX3_hostOf_4 rfl rfl rfl ?_
    refine g_bipush (pc' := 7) (v := 8) dX3_hostOf_5 rfl (by decide) ?_
    refine g_icmp_ge (tgt := 51) (pc' := 10) dX3_hostOf_7 (by decide) rfl (fun h1 => ?_) (fun h1 => ?_)
    · replace hf := (if_pos h1).symm.trans hf
      obtain rfl := Option.some.inj hf
      exact kx
    · replace hf := (if_neg h1).symm.trans hf
      refine g_aload_n (pc' := 11) dX3_hostOf_10 rfl rfl rfl ?_
      refine g_iload_n (pc' := 12) dX3_hostOf_11 rfl rfl rfl ?_
      refine g_iload_n (pc' := 13) dX3_hostOf_12 rfl rfl rfl ?_
      obtain ⟨q2, hq2, hf⟩ := Option.bind_eq_some_iff.mp hf
      refine g_callV (pc' := 16) (mx := mdX3_isTaken) (as := [.int s.2, .int y1]) (wX3_isTaken g hA _ _ s.2 y1 hq2) oX3_isTaken ⟨Nat.le_of_ble_eq_true rfl, Nat.le_of_ble_eq_true rfl⟩ dX3_hostOf_13 rfl (ci := 3) rfl tC ⟨by decide +kernel, by decide +kernel⟩ oX3_isTaken.2.2.2 rfl q1206 q1208 qs44 qs44 q1208 (Nat.le_of_ble_eq_true rfl) (Nat.le_of_ble_eq_true rfl) (g_rI ?_) g_nt rfl
      obtain ⟨q3, hqq3, hf⟩ := Option.bind_eq_some_iff.mp hf
      have hJq3 : bG (g, mdX3_hostOf, n0, u0, Q) (tW A M w) 44 [some (.ref A.1), some (.int y1), none, some (.int s.2)] [.int q3] := by
        refine g_istore_n (pc' := 45) (L' := [some (.ref A.1), some (.int y1), some (.int q3), some (.int s.2)]) dX3_hostOf_44 rfl rfl (Nat.le_of_ble_eq_true rfl) rfl rfl ?_
        refine g_iinc (pc' := 48) (v := s.2 + 1) (L' := [some (.ref A.1), some (.int y1), some (.int q3), some (.int (s.2 + 1))]) dX3_hostOf_45 rfl rfl rfl (Nat.le_of_ble_eq_true rfl) rfl rfl ?_
        refine g_goto (tgt := 4) dX3_hostOf_48 (by decide) ?_
        exact ih _ r hf kx
      replace hf := hqq3
      refine g_if_eq (tgt := 43) (pc' := 19) dX3_hostOf_16 (by decide) rfl (fun h4 => ?_) (fun h4 => ?_)
      · replace hf := (if_pos h4).symm.trans hf
        refine g_iload_n (pc' := 44) dX3_hostOf_43 rfl rfl rfl ?_
        obtain rfl := Option.some.inj hf
        refine g_drop [2] (L' := [some (.ref A.1), some (.int y1), none, some (.int s.2)]) rfl ?_
        exact hJq3
      · replace hf := (if_neg h4).symm.trans hf
        refine g_iload_n (pc' := 20) dX3_hostOf_19 rfl rfl rfl ?_
        refine g_iconst (pc' := 21) (v := (-1)) dX3_hostOf_20 rfl (by decide) ?_
        refine g_icmp_eq (tgt := 39) (pc' := 24) dX3_hostOf_21 (by decide) rfl (fun h5 => ?_) (fun h5 => ?_)
        · replace hf := (if_pos h5).symm.trans hf
          refine g_iload_n (pc' := 40) dX3_hostOf_39 rfl rfl rfl ?_
          refine g_goto (tgt := 44) dX3_hostOf_40 (by decide) ?_
          obtain rfl := Option.some.inj hf
          refine g_drop [2] (L' := [some (.ref A.1), some (.int y1), none, some (.int s.2)]) rfl ?_
          exact hJq3
        · replace hf := (if_neg h5).symm.trans hf
          refine g_aload_n (pc' := 25) dX3_hostOf_24 rfl rfl rfl ?_
          refine g_iload_n (pc' := 26) dX3_hostOf_25 rfl rfl rfl ?_
          refine g_iconst (pc' := 27) (v := 2) dX3_hostOf_26 rfl (by decide) ?_
          obtain ⟨q6, hq6, hf⟩ := Option.bind_eq_some_iff.mp hf
          refine g_callV (pc' := 30) (mx := mdX3_has) (as := [.int s.2, .int 2]) (wX3_has g hA _ _ s.2 2 hq6) oX3_has ⟨Nat.le_of_ble_eq_true rfl, Nat.le_of_ble_eq_true rfl⟩ dX3_hostOf_27 rfl (ci := 3) rfl tC ⟨by decide +kernel, by decide +kernel⟩ oX3_has.2.2.2 rfl q1126 q1128 qs34 qs34 q1128 (Nat.le_of_ble_eq_true rfl) (Nat.le_of_ble_eq_true rfl) (g_rI ?_) g_nt rfl
          refine g_aload_n (pc' := 31) dX3_hostOf_30 rfl rfl rfl ?_
          refine g_iload_n (pc' := 32) dX3_hostOf_31 rfl rfl rfl ?_
          refine g_iconst (pc' := 33) (v := 2) dX3_hostOf_32 rfl (by decide) ?_
          obtain ⟨q7, hq7, hf⟩ := Option.bind_eq_some_iff.mp hf
          refine g_callV (pc' := 36) (mx := mdX3_has) (as := [.int s.1, .int 2]) (wX3_has g hA _ _ s.1 2 hq7) oX3_has ⟨Nat.le_of_ble_eq_true rfl, Nat.le_of_ble_eq_true rfl⟩ dX3_hostOf_33 rfl (ci := 3) rfl tC ⟨by decide +kernel, by decide +kernel⟩ oX3_has.2.2.2 rfl q1126 q1128 qs34 qs34 q1128 (Nat.le_of_ble_eq_true rfl) (Nat.le_of_ble_eq_true rfl) (g_rI ?_) g_nt rfl
          refine g_icmp_le (tgt := 43) (pc' := 39) dX3_hostOf_36 (by decide) rfl (fun h8 => ?_) (fun h8 => ?_)
          · replace hf := (if_pos h8).symm.trans hf
            refine g_iload_n (pc' := 44) dX3_hostOf_43 rfl rfl rfl ?_
            obtain rfl := Option.some.inj hf
            refine g_drop [2] (L' := [some (.ref A.1), some (.int y1), none, some (.int s.2)]) rfl ?_
            exact hJq3
          · replace hf := (if_neg h8).symm.trans hf
            refine g_iload_n (pc' := 40) dX3_hostOf_39 rfl rfl rfl ?_
            refine g_goto (tgt := 44) dX3_hostOf_40 (by decide) ?_
            obtain rfl := Option.some.inj hf
            refine g_drop [2] (L' := [some (.ref A.1), some (.int y1), none, some (.int s.2)]) rfl ?_
            exact hJq3
set_option maxHeartbeats 4000000 in
theorem wX3_hostOf (g : bGh) {A : tA} (hA : tO A) (w : bWl) (M : tM) (x1 : Int32) {r : Int32} (hf : fX3_hostOf M x1 = some r) : bM g mdX3_hostOf (tW A M w) [.ref A.1, .int x1] (q_ (eI r) (tW A M w)) := by
  unfold fX3_hostOf at hf
  change bG _ _ 0 [some (.ref A.1), some (.int x1)] []
  refine g_iconst (pc' := 1) (v := (-1)) dX3_hostOf_0 rfl (by decide) ?_
  refine g_istore_n (pc' := 2) (L' := [some (.ref A.1), some (.int x1), some (.int (-1))]) dX3_hostOf_1 rfl rfl (Nat.le_of_ble_eq_true rfl) rfl rfl ?_
  refine g_iconst (pc' := 3) (v := 0) dX3_hostOf_2 rfl (by decide) ?_
  refine g_istore_n (pc' := 4) (L' := [some (.ref A.1), some (.int x1), some (.int (-1)), some (.int 0)]) dX3_hostOf_3 rfl rfl (Nat.le_of_ble_eq_true rfl) rfl rfl ?_
  obtain ⟨q9, hq9, hf⟩ := Option.bind_eq_some_iff.mp hf
  refine wX3_hostOf_l4 hA x1 FU ((-1), 0) q9 hq9 ?_
  refine g_iload_n (pc' := 52) dX3_hostOf_51 rfl rfl rfl ?_
  obtain rfl := Option.some.inj hf
  exact g_iret dX3_hostOf_52 rfl rfl ⟨rfl, rfl⟩
def mdX3_comeIn : bMD := (yX3_comeIn, cX3_comeIn, 2, (some FieldType.int), [], 7, 144)
theorem oX3_comeIn : bOkc mdX3_comeIn 1 := ⟨by decide +kernel, ⟨by decide +kernel, by decide +kernel⟩, by decide +kernel, q1220⟩
def fX3_comeIn (M : tM) (x1 : Int32) : Option (Int32 × tM) :=
  Option.bind (fX3_isRumour M x1) fun q1 =>
  (if q1 = 0 then
  Option.bind (fX3_finds M (-1000000001)) fun q14 =>
  some (q14.1, q14.2)
else
  Option.bind (fX3_its M x1 4) fun q3 =>
  (if q3 = (-1) then
  Option.bind (fX3_its M x1 1) fun q6 =>
  Option.bind (fX3_isTrue M q6) fun q7 =>
  (if q7 = 0 then
  Option.bind (fX3_spotOf x1 4) fun q9 =>
  Option.bind (fX3_hostOf M x1) fun q10 =>
  Option.bind (wA M 0 q9 q10) fun w11 =>
  Option.bind (fX3_its w11 x1 4) fun q12 =>
  some (q12, w11)
else
  Option.bind (fX3_finds M (-1000000005)) fun q13 =>
  some (q13.1, q13.2))
else
  Option.bind (fX3_finds M (-1000000005)) fun q5 =>
  some (q5.1, q5.2)))
set_option maxHeartbeats 4000000 in
theorem wX3_comeIn (g : bGh) {A : tA} (hA : tO A) (w : bWl) (M : tM) (x1 : Int32) {r : (Int32 × tM)} (hf : fX3_comeIn M x1 = some r) : bM g mdX3_comeIn (tW A M w) [.ref A.1, .int x1] (q_ (eI r.1) (tW A r.2 w)) := by
  unfold fX3_comeIn at hf
  change bG _ _ 0 [some (.ref A.1), some (.int x1)] []
  refine g_aload_n (pc' := 1) dX3_comeIn_0 rfl rfl rfl ?_
  refine g_iload_n (pc' := 2) dX3_comeIn_1 rfl rfl rfl ?_
  obtain ⟨q1, hq1, hf⟩ := Option.bind_eq_some_iff.mp hf
  refine g_callV (pc' := 5) (mx := mdX3_isRumour) (as := [.int x1]) (wX3_isRumour g hA _ _ x1 hq1) oX3_isRumour ⟨Nat.le_of_ble_eq_true rfl, Nat.le_of_ble_eq_true rfl⟩ dX3_comeIn_2 rfl (ci := 3) rfl tC ⟨by decide +kernel, by decide +kernel⟩ oX3_isRumour.2.2.2 rfl q1173 q1175 qs41 qs41 q1175 (Nat.le_of_ble_eq_true rfl) (Nat.le_of_ble_eq_true rfl) (g_rI ?_) g_nt rfl
  refine g_if_ne (tgt := 15) (pc' := 8) dX3_comeIn_5 (by decide) rfl (fun h2 => ?_) (fun h2 => ?_)
  · replace hf := (if_neg h2).symm.trans hf
    refine g_aload_n (pc' := 16) dX3_comeIn_15 rfl rfl rfl ?_
    refine g_iload_n (pc' := 17) dX3_comeIn_16 rfl rfl rfl ?_
    refine g_iconst (pc' := 18) (v := 4) dX3_comeIn_17 rfl (by decide) ?_
    obtain ⟨q3, hq3, hf⟩ := Option.bind_eq_some_iff.mp hf
    refine g_callV (pc' := 21) (mx := mdX3_its) (as := [.int x1, .int 4]) (wX3_its g hA _ _ x1 4 hq3) oX3_its ⟨Nat.le_of_ble_eq_true rfl, Nat.le_of_ble_eq_true rfl⟩ dX3_comeIn_18 rfl (ci := 3) rfl tC ⟨by decide +kernel, by decide +kernel⟩ oX3_its.2.2.2 rfl q1134 q1136 qs36 qs36 q1136 (Nat.le_of_ble_eq_true rfl) (Nat.le_of_ble_eq_true rfl) (g_rI ?_) g_nt rfl
    refine g_iconst (pc' := 22) (v := (-1)) dX3_comeIn_21 rfl (by decide) ?_
    refine g_icmp_ne (tgt := 38) (pc' := 25) dX3_comeIn_22 (by decide) rfl (fun h4 => ?_) (fun h4 => ?_)
    · replace hf := (if_neg h4).symm.trans hf
      refine g_aload_n (pc' := 39) dX3_comeIn_38 rfl rfl rfl ?_
      refine g_ldc (pc' := 41) dX3_comeIn_39 rfl q1225 ?_
      obtain ⟨q5, hq5, hf⟩ := Option.bind_eq_some_iff.mp hf
      refine g_callV (pc' := 44) (mx := mdX3_finds) (as := [.int (-1000000005)]) (wX3_finds g hA _ _ (-1000000005) hq5) oX3_finds ⟨Nat.le_of_ble_eq_true rfl, Nat.le_of_ble_eq_true rfl⟩ dX3_comeIn_41 rfl (ci := 3) rfl tC ⟨by decide +kernel, by decide +kernel⟩ oX3_finds.2.2.2 rfl q1117 q1119 qs33 qs33 q1119 (Nat.le_of_ble_eq_true rfl) (Nat.le_of_ble_eq_true rfl) (g_rI ?_) g_nt rfl
      obtain rfl := Option.some.inj hf
      exact g_iret dX3_comeIn_44 rfl rfl ⟨rfl, rfl⟩
    · replace hf := (if_pos h4).symm.trans hf
      refine g_aload_n (pc' := 26) dX3_comeIn_25 rfl rfl rfl ?_
      refine g_aload_n (pc' := 27) dX3_comeIn_26 rfl rfl rfl ?_
      refine g_iload_n (pc' := 28) dX3_comeIn_27 rfl rfl rfl ?_
      refine g_iconst (pc' := 29) (v := 1) dX3_comeIn_28 rfl (by decide) ?_
      obtain ⟨q6, hq6, hf⟩ := Option.bind_eq_some_iff.mp hf
      refine g_callV (pc' := 32) (mx := mdX3_its) (as := [.int x1, .int 1]) (wX3_its g hA _ _ x1 1 hq6) oX3_its ⟨Nat.le_of_ble_eq_true rfl, Nat.le_of_ble_eq_true rfl⟩ dX3_comeIn_29 rfl (ci := 3) rfl tC ⟨by decide +kernel, by decide +kernel⟩ oX3_its.2.2.2 rfl q1134 q1136 qs36 qs36 q1136 (Nat.le_of_ble_eq_true rfl) (Nat.le_of_ble_eq_true rfl) (g_rI ?_) g_nt rfl
      obtain ⟨q7, hq7, hf⟩ := Option.bind_eq_some_iff.mp hf
      refine g_callV (pc' := 35) (mx := mdX3_isTrue) (as := [.int q6]) (wX3_isTrue g hA _ _ q6 hq7) oX3_isTrue ⟨Nat.le_of_ble_eq_true rfl, Nat.le_of_ble_eq_true rfl⟩ dX3_comeIn_32 rfl (ci := 3) rfl tC ⟨by decide +kernel, by decide +kernel⟩ oX3_isTrue.2.2.2 rfl q1221 q1223 qs46 qs46 q1223 (Nat.le_of_ble_eq_true rfl) (Nat.le_of_ble_eq_true rfl) (g_rI ?_) g_nt rfl
      refine g_if_eq (tgt := 45) (pc' := 38) dX3_comeIn_35 (by decide) rfl (fun h8 => ?_) (fun h8 => ?_)
      · replace hf := (if_pos h8).symm.trans hf
        refine g_aload_n (pc' := 46) dX3_comeIn_45 rfl rfl rfl ?_
        refine gt_get (k := 0) (pc' := 49) (by decide) dX3_comeIn_46 rfl q1048 rfl ?_
        refine g_iload_n (pc' := 50) dX3_comeIn_49 rfl rfl rfl ?_
        refine g_iconst (pc' := 51) (v := 4) dX3_comeIn_50 rfl (by decide) ?_
        obtain ⟨q9, hq9, hf⟩ := Option.bind_eq_some_iff.mp hf
        refine g_callS (pc' := 54) (as := [.int x1, .int 4]) (wX3_spotOf g _ x1 4 hq9) oX3_spotOf ⟨Nat.le_of_ble_eq_true rfl, Nat.le_of_ble_eq_true rfl⟩ dX3_comeIn_51 rfl q1138 q1139 q86 (Nat.le_of_ble_eq_true rfl) (Nat.le_of_ble_eq_true rfl) (g_rI ?_) g_nt rfl
        refine g_aload_n (pc' := 55) dX3_comeIn_54 rfl rfl rfl ?_
        refine g_iload_n (pc' := 56) dX3_comeIn_55 rfl rfl rfl ?_
        obtain ⟨q10, hq10, hf⟩ := Option.bind_eq_some_iff.mp hf
        refine g_callV (pc' := 59) (mx := mdX3_hostOf) (as := [.int x1]) (wX3_hostOf g hA _ _ x1 hq10) oX3_hostOf ⟨Nat.le_of_ble_eq_true rfl, Nat.le_of_ble_eq_true rfl⟩ dX3_comeIn_56 rfl (ci := 3) rfl tC ⟨by decide +kernel, by decide +kernel⟩ oX3_hostOf.2.2.2 rfl q1226 q1228 qs47 qs47 q1228 (Nat.le_of_ble_eq_true rfl) (Nat.le_of_ble_eq_true rfl) (g_rI ?_) g_nt rfl
        obtain ⟨w11, hw11, hf⟩ := Option.bind_eq_some_iff.mp hf
        refine gt_iast (pc' := 60) hA (by decide) dX3_comeIn_59 rfl hw11 ?_
        refine g_aload_n (pc' := 61) dX3_comeIn_60 rfl rfl rfl ?_
        refine g_iload_n (pc' := 62) dX3_comeIn_61 rfl rfl rfl ?_
        refine g_iconst (pc' := 63) (v := 4) dX3_comeIn_62 rfl (by decide) ?_
        obtain ⟨q12, hq12, hf⟩ := Option.bind_eq_some_iff.mp hf
        refine g_callV (pc' := 66) (mx := mdX3_its) (as := [.int x1, .int 4]) (wX3_its g hA _ _ x1 4 hq12) oX3_its ⟨Nat.le_of_ble_eq_true rfl, Nat.le_of_ble_eq_true rfl⟩ dX3_comeIn_63 rfl (ci := 3) rfl tC ⟨by decide +kernel, by decide +kernel⟩ oX3_its.2.2.2 rfl q1134 q1136 qs36 qs36 q1136 (Nat.le_of_ble_eq_true rfl) (Nat.le_of_ble_eq_true rfl) (g_rI ?_) g_nt rfl
        obtain rfl := Option.some.inj hf
        exact g_iret dX3_comeIn_66 rfl rfl ⟨rfl, rfl⟩
      · replace hf := (if_neg h8).symm.trans hf
        refine g_aload_n (pc' := 39) dX3_comeIn_38 rfl rfl rfl ?_
        refine g_ldc (pc' := 41) dX3_comeIn_39 rfl q1225 ?_
        obtain ⟨q13, hq13, hf⟩ := Option.bind_eq_some_iff.mp hf
        refine g_callV (pc' := 44) (mx := mdX3_finds) (as := [.int (-1000000005)]) (wX3_finds g hA _ _ (-1000000005) hq13) oX3_finds ⟨Nat.le_of_ble_eq_true rfl, Nat.le_of_ble_eq_true rfl⟩ dX3_comeIn_41 rfl (ci := 3) rfl tC ⟨by decide +kernel, by decide +kernel⟩ oX3_finds.2.2.2 rfl q1117 q1119 qs33 qs33 q1119 (Nat.le_of_ble_eq_true rfl) (Nat.le_of_ble_eq_true rfl) (g_rI ?_) g_nt rfl
        obtain rfl := Option.some.inj hf
        exact g_iret dX3_comeIn_44 rfl rfl ⟨rfl, rfl⟩
  · replace hf := (if_pos h2).symm.trans hf
    refine g_aload_n (pc' := 9) dX3_comeIn_8 rfl rfl rfl ?_
    refine g_ldc (pc' := 11) dX3_comeIn_9 rfl q1116 ?_
    obtain ⟨q14, hq14, hf⟩ := Option.bind_eq_some_iff.mp hf
    refine g_callV (pc' := 14) (mx := mdX3_finds) (as := [.int (-1000000001)]) (wX3_finds g hA _ _ (-1000000001) hq14) oX3_finds ⟨Nat.le_of_ble_eq_true rfl, Nat.le_of_ble_eq_true rfl⟩ dX3_comeIn_11 rfl (ci := 3) rfl tC ⟨by decide +kernel, by decide +kernel⟩ oX3_finds.2.2.2 rfl q1117 q1119 qs33 qs33 q1119 (Nat.le_of_ble_eq_true rfl) (Nat.le_of_ble_eq_true rfl) (g_rI ?_) g_nt rfl
    obtain rfl := Option.some.inj hf
    exact g_iret dX3_comeIn_14 rfl rfl ⟨rfl, rfl⟩
def mdX3_heldTo : bMD := (yX3_heldTo, cX3_heldTo, 2, (some FieldType.int), [], 1, 12)
theorem oX3_heldTo : bOkc mdX3_heldTo 2 := ⟨by decide +kernel, ⟨by decide +kernel, by decide +kernel⟩, by decide +kernel, q1241⟩
def fX3_heldTo (x0 : Int32) (x1 : Int32) : Option Int32 :=
  (if x0 ≤ x1 then
  some x0
else
  some x1)
set_option maxHeartbeats 4000000 in
theorem wX3_heldTo (g : bGh) (w : bWl) (x0 : Int32) (x1 : Int32) {r : Int32} (hf : fX3_heldTo x0 x1 = some r) : bM g mdX3_heldTo w [.int x0, .int x1] (q_ (eI r) w) := by
  unfold fX3_heldTo at hf
  change bG _ _ 0 [some (.int x0), some (.int x1)] []
  refine g_iload_n (pc' := 1) dX3_heldTo_0 rfl rfl rfl ?_
  refine g_iload_n (pc' := 2) dX3_heldTo_1 rfl rfl rfl ?_
  refine g_icmp_le (tgt := 9) (pc' := 5) dX3_heldTo_2 (by decide) rfl (fun h1 => ?_) (fun h1 => ?_)
  · replace hf := (if_pos h1).symm.trans hf
    refine g_iload_n (pc' := 10) dX3_heldTo_9 rfl rfl rfl ?_
    obtain rfl := Option.some.inj hf
    exact g_iret dX3_heldTo_10 rfl rfl ⟨rfl, rfl⟩
  · replace hf := (if_neg h1).symm.trans hf
    refine g_iload_n (pc' := 6) dX3_heldTo_5 rfl rfl rfl ?_
    refine g_goto (tgt := 10) dX3_heldTo_6 (by decide) ?_
    obtain rfl := Option.some.inj hf
    exact g_iret dX3_heldTo_10 rfl rfl ⟨rfl, rfl⟩
def mdX3_isImproved : bMD := (yX3_isImproved, cX3_isImproved, 6, none, [], 6, 121)
theorem oX3_isImproved : bOkc mdX3_isImproved 2 := ⟨by decide +kernel, ⟨by decide +kernel, by decide +kernel⟩, by decide +kernel, q1238⟩
def fX3_isImproved_l33 (M : tM) (y1 : Int32) (y3 : Int32) (rec : (Int32) → Option ((Int32) ⊕ tM)) (s : Int32) : Option ((Int32) ⊕ tM) :=
  (if 8 ≤ s then
  some (Sum.inl s)
else
  Option.bind (fX3_isTaken M ((y3 + s) - (y3 + s) / 8 * 8) y1) fun q7 =>
  (if q7 = 0 then
  rec (s + 1)
else
  Option.bind (fX3_spotOf y1 4) fun q9 =>
  Option.bind (wA M 0 q9 ((y3 + s) - (y3 + s) / 8 * 8)) fun w10 =>
  some (Sum.inr w10)))
def fX3_isImproved (M : tM) (x1 : Int32) (x2 : Int32) : Option tM :=
  Option.bind (fX3_spotOf x1 2) fun q1 =>
  Option.bind (fX3_its M x1 2) fun q2 =>
  Option.bind (fX3_heldTo (q2 + x2) 99) fun q3 =>
  Option.bind (wA M 0 q1 q3) fun w4 =>
  Option.bind (fX3_its w4 x1 4) fun q5 =>
  Option.bind (lpF (fX3_isImproved_l33 w4 x1 q5) FU 1) fun q11 => sx q11 (fun e12 =>
  some w4) (fun e12 => some e12)
set_option maxHeartbeats 4000000 in
theorem wX3_isImproved_l33 {g : bGh} {A : tA} (hA : tO A) {w : bWl} {M : tM} {n0 u0 : Nat} {Q : Outcome → bWl → Prop} (y1 : Int32) (y3 : Int32) : ∀ (n : Nat) (s : Int32) (r : ((Int32) ⊕ tM)), lpF (fX3_isImproved_l33 M y1 y3) n s = some r → (∀ e, r = Sum.inl e → bG (g, mdX3_isImproved, n0, u0, Q) (tW A M w) 78 [some (.ref A.1), some (.int y1), none, some (.int y3), some (.int e)] []) → (∀ e, r = Sum.inr e → Q (.returned none) (tW A e w)) → bG (g, mdX3_isImproved, n0, u0, Q) (tW A M w) 33 [some (.ref A.1), some (.int y1), none, some (.int y3), some (.int s)] [] := by
  intro n
  induction n with
  | zero => intro s r hf; cases hf
  | succ n ih =>
    intro s r hf kx kr
    rw [lpF_s] at hf
    unfold fX3_isImproved_l33 at hf
    refine g_iload (pc' := 35) dX3_isImproved_33 rfl rfl ?_
    refine g_bipush (pc' := 37) (v := 8) dX3_isImproved_35 rfl (by decide) ?_
    refine g_icmp_ge (tgt := 78) (pc' := 40) dX3_isImproved_37 (by decide) rfl (fun h6 => ?_) (fun h6 => ?_)
    · replace hf := (if_pos h6).symm.trans hf
      obtain rfl := Option.some.inj hf
      exact (kx _ rfl)
    · replace hf := (if_neg h6).symm.trans hf
      refine g_iload_n (pc' := 41) dX3_isImproved_40 rfl rfl rfl ?_
      refine g_iload (pc' := 43) dX3_isImproved_41 rfl rfl ?_
      refine g_iadd (pc' := 44) dX3_isImproved_43 rfl ?_
      refine g_bipush (pc' := 46) (v := 8) dX3_isImproved_44 rfl (by decide) ?_
      refine g_irem (pc' := 47) dX3_isImproved_46 rfl (by decide) ?_
      refine g_istore (pc' := 49) (L' := [some (.ref A.1), some (.int y1), none, some (.int y3), some (.int s), some (.int ((y3 + s) - (y3 + s) / 8 * 8))]) dX3_isImproved_47 rfl (Nat.le_of_ble_eq_true rfl) rfl rfl ?_
      refine g_aload_n (pc' := 50) dX3_isImproved_49 rfl rfl rfl ?_
      refine g_iload (pc' := 52) dX3_isImproved_50 rfl rfl ?_
      refine g_iload_n (pc' := 53) dX3_isImproved_52 rfl rfl rfl ?_
      obtain ⟨q7, hq7, hf⟩ := Option.bind_eq_some_iff.mp hf
      refine g_callV (pc' := 56) (mx := mdX3_isTaken) (as := [.int ((y3 + s) - (y3 + s) / 8 * 8), .int y1]) (wX3_isTaken g hA _ _ ((y3 + s) - (y3 + s) / 8 * 8) y1 hq7) oX3_isTaken ⟨Nat.le_of_ble_eq_true rfl, Nat.le_of_ble_eq_true rfl⟩ dX3_isImproved_53 rfl (ci := 3) rfl tC ⟨by decide +kernel, by decide +kernel⟩ oX3_isTaken.2.2.2 rfl q1206 q1208 qs44 qs44 q1208 (Nat.le_of_ble_eq_true rfl) (Nat.le_of_ble_eq_true rfl) (g_rI ?_) g_nt rfl
      refine g_if_eq (tgt := 72) (pc' := 59) dX3_isImproved_56 (by decide) rfl (fun h8 => ?_) (fun h8 => ?_)
      · replace hf := (if_pos h8).symm.trans hf
        refine g_iinc (pc' := 75) (v := s + 1) (L' := [some (.ref A.1), some (.int y1), none, some (.int y3), some (.int (s + 1)), some (.int ((y3 + s) - (y3 + s) / 8 * 8))]) dX3_isImproved_72 rfl rfl rfl (Nat.le_of_ble_eq_true rfl) rfl rfl ?_
        refine g_goto (tgt := 33) dX3_isImproved_75 (by decide) ?_
        refine g_drop [5] (L' := [some (.ref A.1), some (.int y1), none, some (.int y3), some (.int (s + 1)), none]) rfl ?_
        refine g_cut (L := [some (.ref A.1), some (.int y1), none, some (.int y3), some (.int (s + 1))]) 1 rfl ?_
        exact ih _ r hf kx kr
      · replace hf := (if_neg h8).symm.trans hf
        refine g_aload_n (pc' := 60) dX3_isImproved_59 rfl rfl rfl ?_
        refine gt_get (k := 0) (pc' := 63) (by decide) dX3_isImproved_60 rfl q1048 rfl ?_
        refine g_iload_n (pc' := 64) dX3_isImproved_63 rfl rfl rfl ?_
        refine g_iconst (pc' := 65) (v := 4) dX3_isImproved_64 rfl (by decide) ?_
        obtain ⟨q9, hq9, hf⟩ := Option.bind_eq_some_iff.mp hf
        refine g_callS (pc' := 68) (as := [.int y1, .int 4]) (wX3_spotOf g _ y1 4 hq9) oX3_spotOf ⟨Nat.le_of_ble_eq_true rfl, Nat.le_of_ble_eq_true rfl⟩ dX3_isImproved_65 rfl q1138 q1139 q86 (Nat.le_of_ble_eq_true rfl) (Nat.le_of_ble_eq_true rfl) (g_rI ?_) g_nt rfl
        refine g_iload (pc' := 70) dX3_isImproved_68 rfl rfl ?_
        obtain ⟨w10, hw10, hf⟩ := Option.bind_eq_some_iff.mp hf
        refine gt_iast (pc' := 71) hA (by decide) dX3_isImproved_70 rfl hw10 ?_
        obtain rfl := Option.some.inj hf
        exact g_vret dX3_isImproved_71 rfl (kr _ rfl)
set_option maxHeartbeats 4000000 in
theorem wX3_isImproved (g : bGh) {A : tA} (hA : tO A) (w : bWl) (M : tM) (x1 : Int32) (x2 : Int32) {r : tM} (hf : fX3_isImproved M x1 x2 = some r) : bM g mdX3_isImproved (tW A M w) [.ref A.1, .int x1, .int x2] (q_ none (tW A r w)) := by
  unfold fX3_isImproved at hf
  change bG _ _ 0 [some (.ref A.1), some (.int x1), some (.int x2)] []
  refine g_aload_n (pc' := 1) dX3_isImproved_0 rfl rfl rfl ?_
  refine gt_get (k := 0) (pc' := 4) (by decide) dX3_isImproved_1 rfl q1048 rfl ?_
  refine g_iload_n (pc' := 5) dX3_isImproved_4 rfl rfl rfl ?_
  refine g_iconst (pc' := 6) (v := 2) dX3_isImproved_5 rfl (by decide) ?_
  obtain ⟨q1, hq1, hf⟩ := Option.bind_eq_some_iff.mp hf
  refine g_callS (pc' := 9) (as := [.int x1, .int 2]) (wX3_spotOf g _ x1 2 hq1) oX3_spotOf ⟨Nat.le_of_ble_eq_true rfl, Nat.le_of_ble_eq_true rfl⟩ dX3_isImproved_6 rfl q1138 q1139 q86 (Nat.le_of_ble_eq_true rfl) (Nat.le_of_ble_eq_true rfl) (g_rI ?_) g_nt rfl
  refine g_aload_n (pc' := 10) dX3_isImproved_9 rfl rfl rfl ?_
  refine g_iload_n (pc' := 11) dX3_isImproved_10 rfl rfl rfl ?_
  refine g_iconst (pc' := 12) (v := 2) dX3_isImproved_11 rfl (by decide) ?_
  obtain ⟨q2, hq2, hf⟩ := Option.bind_eq_some_iff.mp hf
  refine g_callV (pc' := 15) (mx := mdX3_its) (as := [.int x1, .int 2]) (wX3_its g hA _ _ x1 2 hq2) oX3_its ⟨Nat.le_of_ble_eq_true rfl, Nat.le_of_ble_eq_true rfl⟩ dX3_isImproved_12 rfl (ci := 3) rfl tC ⟨by decide +kernel, by decide +kernel⟩ oX3_its.2.2.2 rfl q1134 q1136 qs36 qs36 q1136 (Nat.le_of_ble_eq_true rfl) (Nat.le_of_ble_eq_true rfl) (g_rI ?_) g_nt rfl
  refine g_iload_n (pc' := 16) dX3_isImproved_15 rfl rfl rfl ?_
  refine g_iadd (pc' := 17) dX3_isImproved_16 rfl ?_
  refine g_bipush (pc' := 19) (v := 99) dX3_isImproved_17 rfl (by decide) ?_
  obtain ⟨q3, hq3, hf⟩ := Option.bind_eq_some_iff.mp hf
  refine g_callS (pc' := 22) (as := [.int (q2 + x2), .int 99]) (wX3_heldTo g _ (q2 + x2) 99 hq3) oX3_heldTo ⟨Nat.le_of_ble_eq_true rfl, Nat.le_of_ble_eq_true rfl⟩ dX3_isImproved_19 rfl q1239 q1240 q86 (Nat.le_of_ble_eq_true rfl) (Nat.le_of_ble_eq_true rfl) (g_rI ?_) g_nt rfl
  obtain ⟨w4, hw4, hf⟩ := Option.bind_eq_some_iff.mp hf
  refine gt_iast (pc' := 23) hA (by decide) dX3_isImproved_22 rfl hw4 ?_
  refine g_aload_n (pc' := 24) dX3_isImproved_23 rfl rfl rfl ?_
  refine g_iload_n (pc' := 25) dX3_isImproved_24 rfl rfl rfl ?_
  refine g_iconst (pc' := 26) (v := 4) dX3_isImproved_25 rfl (by decide) ?_
  obtain ⟨q5, hq5, hf⟩ := Option.bind_eq_some_iff.mp hf
  refine g_callV (pc' := 29) (mx := mdX3_its) (as := [.int x1, .int 4]) (wX3_its g hA _ _ x1 4 hq5) oX3_its ⟨Nat.le_of_ble_eq_true rfl, Nat.le_of_ble_eq_true rfl⟩ dX3_isImproved_26 rfl (ci := 3) rfl tC ⟨by decide +kernel, by decide +kernel⟩ oX3_its.2.2.2 rfl q1134 q1136 qs36 qs36 q1136 (Nat.le_of_ble_eq_true rfl) (Nat.le_of_ble_eq_true rfl) (g_rI ?_) g_nt rfl
  refine g_istore_n (pc' := 30) (L' := [some (.ref A.1), some (.int x1), some (.int x2), some (.int q5)]) dX3_isImproved_29 rfl rfl (Nat.le_of_ble_eq_true rfl) rfl rfl ?_
  refine g_iconst (pc' := 31) (v := 1) dX3_isImproved_30 rfl (by decide) ?_
  refine g_istore (pc' := 33) (L' := [some (.ref A.1), some (.int x1), some (.int x2), some (.int q5), some (.int 1)]) dX3_isImproved_31 rfl (Nat.le_of_ble_eq_true rfl) rfl rfl ?_
  refine g_drop [2] (L' := [some (.ref A.1), some (.int x1), none, some (.int q5), some (.int 1)]) rfl ?_
  obtain ⟨q11, hq11, hf⟩ := Option.bind_eq_some_iff.mp hf
  cases q11 with
  | inl e12 =>
    replace hf : _ = some _ := hf
    refine wX3_isImproved_l33 hA x1 q5 FU _ (Sum.inl e12) hq11 (fun e' he => ?_) (fun e' he => by cases he)
    cases he
    obtain rfl := Option.some.inj hf
    exact g_vret dX3_isImproved_78 rfl ⟨rfl, rfl⟩
  | inr e12 =>
    refine wX3_isImproved_l33 hA x1 q5 FU _ (Sum.inr e12) hq11 (fun e' he => by cases he) (fun e' he => ?_)
    cases he
    obtain rfl := Option.some.inj hf
    exact ⟨rfl, rfl⟩
def mdX3_improve : bMD := (yX3_improve, cX3_improve, 3, (some FieldType.int), [], 7, 146)
theorem oX3_improve : bOkc mdX3_improve 2 := ⟨by decide +kernel, ⟨by decide +kernel, by decide +kernel⟩, by decide +kernel, q1233⟩
def fX3_improve (M : tM) (x1 : Int32) (x2 : Int32) : Option (Int32 × tM) :=
  Option.bind (fX3_isRumour M x1) fun q1 =>
  (if q1 = 0 then
  Option.bind (fX3_finds M (-1000000001)) fun q3 =>
  some (q3.1, q3.2)
else
  Option.bind (fX3_in ((x2 : Int32).toInt64) 1 20) fun q4 =>
  (if q4 = 0 then
  Option.bind (fX3_finds M (-1000000001)) fun q11 =>
  some (q11.1, q11.2)
else
  Option.bind (fX3_its M x1 4) fun q6 =>
  (if q6 = (-1) then
  Option.bind (fX3_finds M (-1000000005)) fun q10 =>
  some (q10.1, q10.2)
else
  Option.bind (fX3_isImproved M x1 x2) fun q8 =>
  Option.bind (fX3_its q8 x1 4) fun q9 =>
  some (q9, q8))))
set_option maxHeartbeats 4000000 in
theorem wX3_improve (g : bGh) {A : tA} (hA : tO A) (w : bWl) (M : tM) (x1 : Int32) (x2 : Int32) {r : (Int32 × tM)} (hf : fX3_improve M x1 x2 = some r) : bM g mdX3_improve (tW A M w) [.ref A.1, .int x1, .int x2] (q_ (eI r.1) (tW A r.2 w)) := by
  unfold fX3_improve at hf
  change bG _ _ 0 [some (.ref A.1), some (.int x1), some (.int x2)] []
  refine g_aload_n (pc' := 1) dX3_improve_0 rfl rfl rfl ?_
  refine g_iload_n (pc' := 2) dX3_improve_1 rfl rfl rfl ?_
  obtain ⟨q1, hq1, hf⟩ := Option.bind_eq_some_iff.mp hf
  refine g_callV (pc' := 5) (mx := mdX3_isRumour) (as := [.int x1]) (wX3_isRumour g hA _ _ x1 hq1) oX3_isRumour ⟨Nat.le_of_ble_eq_true rfl, Nat.le_of_ble_eq_true rfl⟩ dX3_improve_2 rfl (ci := 3) rfl tC ⟨by decide +kernel, by decide +kernel⟩ oX3_isRumour.2.2.2 rfl q1173 q1175 qs41 qs41 q1175 (Nat.le_of_ble_eq_true rfl) (Nat.le_of_ble_eq_true rfl) (g_rI ?_) g_nt rfl
  refine g_if_eq (tgt := 20) (pc' := 8) dX3_improve_5 (by decide) rfl (fun h2 => ?_) (fun h2 => ?_)
  · replace hf := (if_pos h2).symm.trans hf
    refine g_aload_n (pc' := 21) dX3_improve_20 rfl rfl rfl ?_
    refine g_ldc (pc' := 23) dX3_improve_21 rfl q1116 ?_
    obtain ⟨q3, hq3, hf⟩ := Option.bind_eq_some_iff.mp hf
    refine g_callV (pc' := 26) (mx := mdX3_finds) (as := [.int (-1000000001)]) (wX3_finds g hA _ _ (-1000000001) hq3) oX3_finds ⟨Nat.le_of_ble_eq_true rfl, Nat.le_of_ble_eq_true rfl⟩ dX3_improve_23 rfl (ci := 3) rfl tC ⟨by decide +kernel, by decide +kernel⟩ oX3_finds.2.2.2 rfl q1117 q1119 qs33 qs33 q1119 (Nat.le_of_ble_eq_true rfl) (Nat.le_of_ble_eq_true rfl) (g_rI ?_) g_nt rfl
    obtain rfl := Option.some.inj hf
    exact g_iret dX3_improve_26 rfl rfl ⟨rfl, rfl⟩
  · replace hf := (if_neg h2).symm.trans hf
    refine g_iload_n (pc' := 9) dX3_improve_8 rfl rfl rfl ?_
    refine g_i2l (pc' := 10) dX3_improve_9 rfl ?_
    refine g_lconst (pc' := 11) (v := 1) dX3_improve_10 rfl (by decide) ?_
    refine g_ldc2 (pc' := 14) dX3_improve_11 rfl q1234 ?_
    obtain ⟨q4, hq4, hf⟩ := Option.bind_eq_some_iff.mp hf
    refine g_callS (pc' := 17) (as := [.long ((x2 : Int32).toInt64), .long 1, .long 20]) (wX3_in g _ ((x2 : Int32).toInt64) 1 20 hq4) oX3_in ⟨Nat.le_of_ble_eq_true rfl, Nat.le_of_ble_eq_true rfl⟩ dX3_improve_14 rfl q1102 q1103 q86 (Nat.le_of_ble_eq_true rfl) (Nat.le_of_ble_eq_true rfl) (g_rI ?_) g_nt rfl
    refine g_if_ne (tgt := 27) (pc' := 20) dX3_improve_17 (by decide) rfl (fun h5 => ?_) (fun h5 => ?_)
    · replace hf := (if_neg h5).symm.trans hf
      refine g_aload_n (pc' := 28) dX3_improve_27 rfl rfl rfl ?_
      refine g_iload_n (pc' := 29) dX3_improve_28 rfl rfl rfl ?_
      refine g_iconst (pc' := 30) (v := 4) dX3_improve_29 rfl (by decide) ?_
      obtain ⟨q6, hq6, hf⟩ := Option.bind_eq_some_iff.mp hf
      refine g_callV (pc' := 33) (mx := mdX3_its) (as := [.int x1, .int 4]) (wX3_its g hA _ _ x1 4 hq6) oX3_its ⟨Nat.le_of_ble_eq_true rfl, Nat.le_of_ble_eq_true rfl⟩ dX3_improve_30 rfl (ci := 3) rfl tC ⟨by decide +kernel, by decide +kernel⟩ oX3_its.2.2.2 rfl q1134 q1136 qs36 qs36 q1136 (Nat.le_of_ble_eq_true rfl) (Nat.le_of_ble_eq_true rfl) (g_rI ?_) g_nt rfl
      refine g_iconst (pc' := 34) (v := (-1)) dX3_improve_33 rfl (by decide) ?_
      refine g_icmp_ne (tgt := 44) (pc' := 37) dX3_improve_34 (by decide) rfl (fun h7 => ?_) (fun h7 => ?_)
      · replace hf := (if_neg h7).symm.trans hf
        refine g_aload_n (pc' := 45) dX3_improve_44 rfl rfl rfl ?_
        refine g_iload_n (pc' := 46) dX3_improve_45 rfl rfl rfl ?_
        refine g_iload_n (pc' := 47) dX3_improve_46 rfl rfl rfl ?_
        obtain ⟨q8, hq8, hf⟩ := Option.bind_eq_some_iff.mp hf
        refine g_callV (pc' := 50) (mx := mdX3_isImproved) (as := [.int x1, .int x2]) (wX3_isImproved g hA _ _ x1 x2 hq8) oX3_isImproved ⟨Nat.le_of_ble_eq_true rfl, Nat.le_of_ble_eq_true rfl⟩ dX3_improve_47 rfl (ci := 3) rfl tC ⟨by decide +kernel, by decide +kernel⟩ oX3_isImproved.2.2.2 rfl q1235 q1237 qs48 qs48 q1237 (Nat.le_of_ble_eq_true rfl) (Nat.le_of_ble_eq_true rfl) (g_rV ?_) g_nt rfl
        refine g_aload_n (pc' := 51) dX3_improve_50 rfl rfl rfl ?_
        refine g_iload_n (pc' := 52) dX3_improve_51 rfl rfl rfl ?_
        refine g_iconst (pc' := 53) (v := 4) dX3_improve_52 rfl (by decide) ?_
        obtain ⟨q9, hq9, hf⟩ := Option.bind_eq_some_iff.mp hf
        refine g_callV (pc' := 56) (mx := mdX3_its) (as := [.int x1, .int 4]) (wX3_its g hA _ _ x1 4 hq9) oX3_its ⟨Nat.le_of_ble_eq_true rfl, Nat.le_of_ble_eq_true rfl⟩ dX3_improve_53 rfl (ci := 3) rfl tC ⟨by decide +kernel, by decide +kernel⟩ oX3_its.2.2.2 rfl q1134 q1136 qs36 qs36 q1136 (Nat.le_of_ble_eq_true rfl) (Nat.le_of_ble_eq_true rfl) (g_rI ?_) g_nt rfl
        obtain rfl := Option.some.inj hf
        exact g_iret dX3_improve_56 rfl rfl ⟨rfl, rfl⟩
      · replace hf := (if_pos h7).symm.trans hf
        refine g_aload_n (pc' := 38) dX3_improve_37 rfl rfl rfl ?_
        refine g_ldc (pc' := 40) dX3_improve_38 rfl q1225 ?_
        obtain ⟨q10, hq10, hf⟩ := Option.bind_eq_some_iff.mp hf
        refine g_callV (pc' := 43) (mx := mdX3_finds) (as := [.int (-1000000005)]) (wX3_finds g hA _ _ (-1000000005) hq10) oX3_finds ⟨Nat.le_of_ble_eq_true rfl, Nat.le_of_ble_eq_true rfl⟩ dX3_improve_40 rfl (ci := 3) rfl tC ⟨by decide +kernel, by decide +kernel⟩ oX3_finds.2.2.2 rfl q1117 q1119 qs33 qs33 q1119 (Nat.le_of_ble_eq_true rfl) (Nat.le_of_ble_eq_true rfl) (g_rI ?_) g_nt rfl
        obtain rfl := Option.some.inj hf
        exact g_iret dX3_improve_43 rfl rfl ⟨rfl, rfl⟩
    · replace hf := (if_pos h5).symm.trans hf
      refine g_aload_n (pc' := 21) dX3_improve_20 rfl rfl rfl ?_
      refine g_ldc (pc' := 23) dX3_improve_21 rfl q1116 ?_
      obtain ⟨q11, hq11, hf⟩ := Option.bind_eq_some_iff.mp hf
      refine g_callV (pc' := 26) (mx := mdX3_finds) (as := [.int (-1000000001)]) (wX3_finds g hA _ _ (-1000000001) hq11) oX3_finds ⟨Nat.le_of_ble_eq_true rfl, Nat.le_of_ble_eq_true rfl⟩ dX3_improve_23 rfl (ci := 3) rfl tC ⟨by decide +kernel, by decide +kernel⟩ oX3_finds.2.2.2 rfl q1117 q1119 qs33 qs33 q1119 (Nat.le_of_ble_eq_true rfl) (Nat.le_of_ble_eq_true rfl) (g_rI ?_) g_nt rfl
      obtain rfl := Option.some.inj hf
      exact g_iret dX3_improve_26 rfl rfl ⟨rfl, rfl⟩
def mdX3_becomesTrue : bMD := (yX3_becomesTrue, cX3_becomesTrue, 4, (some FieldType.int), [], 3, 55)
theorem oX3_becomesTrue : bOkc mdX3_becomesTrue 1 := ⟨by decide +kernel, ⟨by decide +kernel, by decide +kernel⟩, by decide +kernel, q1249⟩
def fX3_becomesTrue_l16 (y1 : Int32) (rec : (Int32 × Int32 × tM) → Option (Int32 × Int32 × tM)) (s : Int32 × Int32 × tM) : Option (Int32 × Int32 × tM) :=
  Option.bind (rA s.2.2 0 0) fun v3 =>
  (if v3 ≤ s.2.1 then
  some (s.1, s.2.1, s.2.2)
else
  Option.bind (fX3_its s.2.2 s.2.1 1) fun q5 =>
  Option.bind (α := Int32 × tM) ((if q5 = y1 then
  Option.bind (fX3_its s.2.2 s.2.1 4) fun q8 =>
  (if q8 = (-1) then
  some (s.1, s.2.2)
else
  Option.bind (fX3_spotOf s.2.1 4) fun q10 =>
  Option.bind (wA s.2.2 0 q10 (-1)) fun w11 =>
  some ((s.1 + 1), w11))
else
  some (s.1, s.2.2))) fun q6 =>
  rec (q6.1, (s.2.1 + 1), q6.2))
def fX3_becomesTrue (M : tM) (x1 : Int32) : Option (Int32 × tM) :=
  Option.bind (rA M 0 2) fun v1 =>
  Option.bind (wA M 0 2 (v1 ||| (1 <<< (x1 &&& 31)))) fun w2 =>
  Option.bind (lpF (fX3_becomesTrue_l16 x1) FU (0, 0, w2)) fun q12 =>
  some (q12.1, q12.2.2)
set_option maxHeartbeats 4000000 in
theorem wX3_becomesTrue_l16 {g : bGh} {A : tA} (hA : tO A) {w : bWl} {n0 u0 : Nat} {Q : Outcome → bWl → Prop} (y1 : Int32) : ∀ (n : Nat) (s : Int32 × Int32 × tM) (r : (Int32 × Int32 × tM)), lpF (fX3_becomesTrue_l16 y1) n s = some r → bG (g, mdX3_becomesTrue, n0, u0, Q) (tW A r.2.2 w) 66 [some (.ref A.1), some (.int y1), some (.int r.1), some (.int r.2.1)] [] → bG (g, mdX3_becomesTrue, n0, u0, Q) (tW A s.2.2 w) 16 [some (.ref A.1), some (.int y1), some (.int s.1), some (.int s.2.1)] [] := by
  intro n
  induction n with
  | zero => intro s r hf; cases hf
  | succ n ih =>
    intro s r hf kx
    rw [lpF_s] at hf
    unfold fX3_becomesTrue_l16 at hf
    refine g_iload_n (pc' := 17) dX3_becomesTrue_16 rfl rfl rfl ?_
    refine g_aload_n (pc' := 18) dX3_becomesTrue_17 rfl rfl rfl ?_
    refine gt_get (k := 0) (pc' := 21) (by decide) dX3_becomesTrue_18 rfl q1048 rfl ?_
    refine g_iconst (pc' := 22) (v := 0) dX3_becomesTrue_21 rfl (by decide) ?_
    obtain ⟨v3, hv3, hf⟩ := Option.bind_eq_some_iff.mp hf
    refine gt_iald (pc' := 23) hA (by decide) dX3_becomesTrue_22 rfl hv3 ?_
    refine g_icmp_ge (tgt := 66) (pc' := 26) dX3_becomesTrue_23 (by decide) rfl (fun h4 => ?_) (fun h4 => ?_)
    · replace hf := (if_pos h4).symm.trans hf
      obtain rfl := Option.some.inj hf
      exact kx
    · replace hf := (if_neg h4).symm.trans hf
      refine g_aload_n (pc' := 27) dX3_becomesTrue_26 rfl rfl rfl ?_
      refine g_iload_n (pc' := 28) dX3_becomesTrue_27 rfl rfl rfl ?_
      refine g_iconst (pc' := 29) (v := 1) dX3_becomesTrue_28 rfl (by decide) ?_
      obtain ⟨q5, hq5, hf⟩ := Option.bind_eq_some_iff.mp hf
      refine g_callV (pc' := 32) (mx := mdX3_its) (as := [.int s.2.1, .int 1]) (wX3_its g hA _ _ s.2.1 1 hq5) oX3_its ⟨Nat.le_of_ble_eq_true rfl, Nat.le_of_ble_eq_true rfl⟩ dX3_becomesTrue_29 rfl (ci := 3) rfl tC ⟨by decide +kernel, by decide +kernel⟩ oX3_its.2.2.2 rfl q1134 q1136 qs36 qs36 q1136 (Nat.le_of_ble_eq_true rfl) (Nat.le_of_ble_eq_true rfl) (g_rI ?_) g_nt rfl
      refine g_iload_n (pc' := 33) dX3_becomesTrue_32 rfl rfl rfl ?_
      obtain ⟨q6, hqq6, hf⟩ := Option.bind_eq_some_iff.mp hf
      have hJq6 : bG (g, mdX3_becomesTrue, n0, u0, Q) (tW A q6.2 w) 60 [some (.ref A.1), some (.int y1), some (.int q6.1), some (.int s.2.1)] [] := by
        refine g_iinc (pc' := 63) (v := s.2.1 + 1) (L' := [some (.ref A.1), some (.int y1), some (.int q6.1), some (.int (s.2.1 + 1))]) dX3_becomesTrue_60 rfl rfl rfl (Nat.le_of_ble_eq_true rfl) rfl rfl ?_
        refine g_goto (tgt := 16) dX3_becomesTrue_63 (by decide) ?_
        exact ih _ r hf kx
      replace hf := hqq6
      refine g_icmp_ne (tgt := 60) (pc' := 36) dX3_becomesTrue_33 (by decide) rfl (fun h7 => ?_) (fun h7 => ?_)
      · replace hf := (if_neg h7).symm.trans hf
        obtain rfl := Option.some.inj hf
        exact hJq6
      · replace hf := (if_pos h7).symm.trans hf
        refine g_aload_n (pc' := 37) dX3_becomesTrue_36 rfl rfl rfl ?_
        refine g_iload_n (pc' := 38) dX3_becomesTrue_37 rfl rfl rfl ?_
        refine g_iconst (pc' := 39) (v := 4) dX3_becomesTrue_38 rfl (by decide) ?_
        obtain ⟨q8, hq8, hf⟩ := Option.bind_eq_some_iff.mp hf
        refine g_callV (pc' := 42) (mx := mdX3_its) (as := [.int s.2.1, .int 4]) (wX3_its g hA _ _ s.2.1 4 hq8) oX3_its ⟨Nat.le_of_ble_eq_true rfl, Nat.le_of_ble_eq_true rfl⟩ dX3_becomesTrue_39 rfl (ci := 3) rfl tC ⟨by decide +kernel, by decide +kernel⟩ oX3_its.2.2.2 rfl q1134 q1136 qs36 qs36 q1136 (Nat.le_of_ble_eq_true rfl) (Nat.le_of_ble_eq_true rfl) (g_rI ?_) g_nt rfl
        refine g_iconst (pc' := 43) (v := (-1)) dX3_becomesTrue_42 rfl (by decide) ?_
        refine g_icmp_eq (tgt := 60) (pc' := 46) dX3_becomesTrue_43 (by decide) rfl (fun h9 => ?_) (fun h9 => ?_)
        · replace hf := (if_pos h9).symm.trans hf
          obtain rfl := Option.some.inj hf
          exact hJq6
        · replace hf := (if_neg h9).symm.trans hf
          refine g_aload_n (pc' := 47) dX3_becomesTrue_46 rfl rfl rfl ?_
          refine gt_get (k := 0) (pc' := 50) (by decide) dX3_becomesTrue_47 rfl q1048 rfl ?_
          refine g_iload_n (pc' := 51) dX3_becomesTrue_50 rfl rfl rfl ?_
          refine g_iconst (pc' := 52) (v := 4) dX3_becomesTrue_51 rfl (by decide) ?_
          obtain ⟨q10, hq10, hf⟩ := Option.bind_eq_some_iff.mp hf
          refine g_callS (pc' := 55) (as := [.int s.2.1, .int 4]) (wX3_spotOf g _ s.2.1 4 hq10) oX3_spotOf ⟨Nat.le_of_ble_eq_true rfl, Nat.le_of_ble_eq_true rfl⟩ dX3_becomesTrue_52 rfl q1138 q1139 q86 (Nat.le_of_ble_eq_true rfl) (Nat.le_of_ble_eq_true rfl) (g_rI ?_) g_nt rfl
          refine g_iconst (pc' := 56) (v := (-1)) dX3_becomesTrue_55 rfl (by decide) ?_
          obtain ⟨w11, hw11, hf⟩ := Option.bind_eq_some_iff.mp hf
          refine gt_iast (pc' := 57) hA (by decide) dX3_becomesTrue_56 rfl hw11 ?_
          refine g_iinc (pc' := 60) (v := s.1 + 1) (L' := [some (.ref A.1), some (.int y1), some (.int (s.1 + 1)), some (.int s.2.1)]) dX3_becomesTrue_57 rfl rfl rfl (Nat.le_of_ble_eq_true rfl) rfl rfl ?_
          obtain rfl := Option.some.inj hf
          exact hJq6
set_option maxHeartbeats 4000000 in
theorem wX3_becomesTrue (g : bGh) {A : tA} (hA : tO A) (w : bWl) (M : tM) (x1 : Int32) {r : (Int32 × tM)} (hf : fX3_becomesTrue M x1 = some r) : bM g mdX3_becomesTrue (tW A M w) [.ref A.1, .int x1] (q_ (eI r.1) (tW A r.2 w)) := by
  unfold fX3_becomesTrue at hf
  change bG _ _ 0 [some (.ref A.1), some (.int x1)] []
  refine g_iconst (pc' := 1) (v := 0) dX3_becomesTrue_0 rfl (by decide) ?_
  refine g_istore_n (pc' := 2) (L' := [some (.ref A.1), some (.int x1), some (.int 0)]) dX3_becomesTrue_1 rfl rfl (Nat.le_of_ble_eq_true rfl) rfl rfl ?_
  refine g_aload_n (pc' := 3) dX3_becomesTrue_2 rfl rfl rfl ?_
  refine gt_get (k := 0) (pc' := 6) (by decide) dX3_becomesTrue_3 rfl q1048 rfl ?_
  refine g_iconst (pc' := 7) (v := 2) dX3_becomesTrue_6 rfl (by decide) ?_
  refine g_dup2 (pc' := 8) dX3_becomesTrue_7 rfl rfl rfl ?_
  obtain ⟨v1, hv1, hf⟩ := Option.bind_eq_some_iff.mp hf
  refine gt_iald (pc' := 9) hA (by decide) dX3_becomesTrue_8 rfl hv1 ?_
  refine g_iconst (pc' := 10) (v := 1) dX3_becomesTrue_9 rfl (by decide) ?_
  refine g_iload_n (pc' := 11) dX3_becomesTrue_10 rfl rfl rfl ?_
  refine g_ishl (pc' := 12) dX3_becomesTrue_11 rfl ?_
  refine g_ior (pc' := 13) dX3_becomesTrue_12 rfl ?_
  obtain ⟨w2, hw2, hf⟩ := Option.bind_eq_some_iff.mp hf
  refine gt_iast (pc' := 14) hA (by decide) dX3_becomesTrue_13 rfl hw2 ?_
  refine g_iconst (pc' := 15) (v := 0) dX3_becomesTrue_14 rfl (by decide) ?_
  refine g_istore_n (pc' := 16) (L' := [some (.ref A.1), some (.int x1), some (.int 0), some (.int 0)]) dX3_becomesTrue_15 rfl rfl (Nat.le_of_ble_eq_true rfl) rfl rfl ?_
  obtain ⟨q12, hq12, hf⟩ := Option.bind_eq_some_iff.mp hf
  refine wX3_becomesTrue_l16 hA x1 FU (0, 0, w2) q12 hq12 ?_
  refine g_iload_n (pc' := 67) dX3_becomesTrue_66 rfl rfl rfl ?_
  obtain rfl := Option.some.inj hf
  exact g_iret dX3_becomesTrue_67 rfl rfl ⟨rfl, rfl⟩
def mdX3_comesTrue : bMD := (yX3_comesTrue, cX3_comesTrue, 2, (some FieldType.int), [], 4, 78)
theorem oX3_comesTrue : bOkc mdX3_comesTrue 1 := ⟨by decide +kernel, ⟨by decide +kernel, by decide +kernel⟩, by decide +kernel, q1245⟩
def fX3_comesTrue (M : tM) (x1 : Int32) : Option (Int32 × tM) :=
  Option.bind (fX3_isEvent x1) fun q1 =>
  (if q1 = 0 then
  Option.bind (fX3_finds M (-1000000001)) fun q3 =>
  some (q3.1, q3.2)
else
  Option.bind (fX3_becomesTrue M x1) fun q4 =>
  some (q4.1, q4.2))
set_option maxHeartbeats 4000000 in
theorem wX3_comesTrue (g : bGh) {A : tA} (hA : tO A) (w : bWl) (M : tM) (x1 : Int32) {r : (Int32 × tM)} (hf : fX3_comesTrue M x1 = some r) : bM g mdX3_comesTrue (tW A M w) [.ref A.1, .int x1] (q_ (eI r.1) (tW A r.2 w)) := by
  unfold fX3_comesTrue at hf
  change bG _ _ 0 [some (.ref A.1), some (.int x1)] []
  refine g_iload_n (pc' := 1) dX3_comesTrue_0 rfl rfl rfl ?_
  obtain ⟨q1, hq1, hf⟩ := Option.bind_eq_some_iff.mp hf
  refine g_callS (pc' := 4) (as := [.int x1]) (wX3_isEvent g _ x1 hq1) oX3_isEvent ⟨Nat.le_of_ble_eq_true rfl, Nat.le_of_ble_eq_true rfl⟩ dX3_comesTrue_1 rfl q1160 q1161 q86 (Nat.le_of_ble_eq_true rfl) (Nat.le_of_ble_eq_true rfl) (g_rI ?_) g_nt rfl
  refine g_if_eq (tgt := 15) (pc' := 7) dX3_comesTrue_4 (by decide) rfl (fun h2 => ?_) (fun h2 => ?_)
  · replace hf := (if_pos h2).symm.trans hf
    refine g_aload_n (pc' := 16) dX3_comesTrue_15 rfl rfl rfl ?_
    refine g_ldc (pc' := 18) dX3_comesTrue_16 rfl q1116 ?_
    obtain ⟨q3, hq3, hf⟩ := Option.bind_eq_some_iff.mp hf
    refine g_callV (pc' := 21) (mx := mdX3_finds) (as := [.int (-1000000001)]) (wX3_finds g hA _ _ (-1000000001) hq3) oX3_finds ⟨Nat.le_of_ble_eq_true rfl, Nat.le_of_ble_eq_true rfl⟩ dX3_comesTrue_18 rfl (ci := 3) rfl tC ⟨by decide +kernel, by decide +kernel⟩ oX3_finds.2.2.2 rfl q1117 q1119 qs33 qs33 q1119 (Nat.le_of_ble_eq_true rfl) (Nat.le_of_ble_eq_true rfl) (g_rI ?_) g_nt rfl
    obtain rfl := Option.some.inj hf
    exact g_iret dX3_comesTrue_21 rfl rfl ⟨rfl, rfl⟩
  · replace hf := (if_neg h2).symm.trans hf
    refine g_aload_n (pc' := 8) dX3_comesTrue_7 rfl rfl rfl ?_
    refine g_iload_n (pc' := 9) dX3_comesTrue_8 rfl rfl rfl ?_
    obtain ⟨q4, hq4, hf⟩ := Option.bind_eq_some_iff.mp hf
    refine g_callV (pc' := 12) (mx := mdX3_becomesTrue) (as := [.int x1]) (wX3_becomesTrue g hA _ _ x1 hq4) oX3_becomesTrue ⟨Nat.le_of_ble_eq_true rfl, Nat.le_of_ble_eq_true rfl⟩ dX3_comesTrue_9 rfl (ci := 3) rfl tC ⟨by decide +kernel, by decide +kernel⟩ oX3_becomesTrue.2.2.2 rfl q1246 q1248 qs49 qs49 q1248 (Nat.le_of_ble_eq_true rfl) (Nat.le_of_ble_eq_true rfl) (g_rI ?_) g_nt rfl
    refine g_goto (tgt := 21) dX3_comesTrue_12 (by decide) ?_
    obtain rfl := Option.some.inj hf
    exact g_iret dX3_comesTrue_21 rfl rfl ⟨rfl, rfl⟩
def mdX3_forget : bMD := (yX3_forget, cX3_forget, 3, (some FieldType.int), [], 3, 57)
theorem oX3_forget : bOkc mdX3_forget 1 := ⟨by decide +kernel, ⟨by decide +kernel, by decide +kernel⟩, by decide +kernel, q1253⟩
def fX3_forget (M : tM) (x1 : Int32) : Option (Int32 × tM) :=
  Option.bind (fX3_isEvent x1) fun q1 =>
  (if q1 = 0 then
  Option.bind (fX3_finds M (-1000000001)) fun q8 =>
  some (q8.1, q8.2)
else
  Option.bind (fX3_isTrue M x1) fun q3 =>
  Option.bind (α := Int32) ((if q3 = 0 then
  some 0
else
  some 1)) fun q4 =>
  Option.bind (rA M 0 2) fun v6 =>
  Option.bind (wA M 0 2 (v6 &&& ((1 <<< (x1 &&& 31)) ^^^ (-1)))) fun w7 =>
  some (q4, w7))
set_option maxHeartbeats 4000000 in
theorem wX3_forget (g : bGh) {A : tA} (hA : tO A) (w : bWl) (M : tM) (x1 : Int32) {r : (Int32 × tM)} (hf : fX3_forget M x1 = some r) : bM g mdX3_forget (tW A M w) [.ref A.1, .int x1] (q_ (eI r.1) (tW A r.2 w)) := by
  unfold fX3_forget at hf
  change bG _ _ 0 [some (.ref A.1), some (.int x1)] []
  refine g_iload_n (pc' := 1) dX3_forget_0 rfl rfl rfl ?_
  obtain ⟨q1, hq1, hf⟩ := Option.bind_eq_some_iff.mp hf
  refine g_callS (pc' := 4) (as := [.int x1]) (wX3_isEvent g _ x1 hq1) oX3_isEvent ⟨Nat.le_of_ble_eq_true rfl, Nat.le_of_ble_eq_true rfl⟩ dX3_forget_1 rfl q1160 q1161 q86 (Nat.le_of_ble_eq_true rfl) (Nat.le_of_ble_eq_true rfl) (g_rI ?_) g_nt rfl
  refine g_if_ne (tgt := 14) (pc' := 7) dX3_forget_4 (by decide) rfl (fun h2 => ?_) (fun h2 => ?_)
  · replace hf := (if_neg h2).symm.trans hf
    refine g_aload_n (pc' := 15) dX3_forget_14 rfl rfl rfl ?_
    refine g_iload_n (pc' := 16) dX3_forget_15 rfl rfl rfl ?_
    obtain ⟨q3, hq3, hf⟩ := Option.bind_eq_some_iff.mp hf
    refine g_callV (pc' := 19) (mx := mdX3_isTrue) (as := [.int x1]) (wX3_isTrue g hA _ _ x1 hq3) oX3_isTrue ⟨Nat.le_of_ble_eq_true rfl, Nat.le_of_ble_eq_true rfl⟩ dX3_forget_16 rfl (ci := 3) rfl tC ⟨by decide +kernel, by decide +kernel⟩ oX3_isTrue.2.2.2 rfl q1221 q1223 qs46 qs46 q1223 (Nat.le_of_ble_eq_true rfl) (Nat.le_of_ble_eq_true rfl) (g_rI ?_) g_nt rfl
    obtain ⟨q4, hqq4, hf⟩ := Option.bind_eq_some_iff.mp hf
    have hJq4 : bG (g, mdX3_forget, (tW A M w).2.1, (tW A M w).2.2.1, (q_ (eI r.1) (tW A r.2 w))) (tW A M w) 27 [some (.ref A.1), some (.int x1)] [.int q4] := by
      refine g_istore_n (pc' := 28) (L' := [some (.ref A.1), some (.int x1), some (.int q4)]) dX3_forget_27 rfl rfl (Nat.le_of_ble_eq_true rfl) rfl rfl ?_
      refine g_aload_n (pc' := 29) dX3_forget_28 rfl rfl rfl ?_
      refine gt_get (k := 0) (pc' := 32) (by decide) dX3_forget_29 rfl q1048 rfl ?_
      refine g_iconst (pc' := 33) (v := 2) dX3_forget_32 rfl (by decide) ?_
      refine g_dup2 (pc' := 34) dX3_forget_33 rfl rfl rfl ?_
      obtain ⟨v6, hv6, hf⟩ := Option.bind_eq_some_iff.mp hf
      refine gt_iald (pc' := 35) hA (by decide) dX3_forget_34 rfl hv6 ?_
      refine g_iconst (pc' := 36) (v := 1) dX3_forget_35 rfl (by decide) ?_
      refine g_iload_n (pc' := 37) dX3_forget_36 rfl rfl rfl ?_
      refine g_ishl (pc' := 38) dX3_forget_37 rfl ?_
      refine g_iconst (pc' := 39) (v := (-1)) dX3_forget_38 rfl (by decide) ?_
      refine g_ixor (pc' := 40) dX3_forget_39 rfl ?_
      refine g_iand (pc' := 41) dX3_forget_40 rfl ?_
      obtain ⟨w7, hw7, hf⟩ := Option.bind_eq_some_iff.mp hf
      refine gt_iast (pc' := 42) hA (by decide) dX3_forget_41 rfl hw7 ?_
      refine g_iload_n (pc' := 43) dX3_forget_42 rfl rfl rfl ?_
      obtain rfl := Option.some.inj hf
      exact g_iret dX3_forget_43 rfl rfl ⟨rfl, rfl⟩
    replace hf := hqq4
    refine g_if_eq (tgt := 26) (pc' := 22) dX3_forget_19 (by decide) rfl (fun h5 => ?_) (fun h5 => ?_)
    · replace hf := (if_pos h5).symm.trans hf
      refine g_iconst (pc' := 27) (v := 0) dX3_forget_26 rfl (by decide) ?_
      obtain rfl := Option.some.inj hf
      exact hJq4
    · replace hf := (if_neg h5).symm.trans hf
      refine g_iconst (pc' := 23) (v := 1) dX3_forget_22 rfl (by decide) ?_
      refine g_goto (tgt := 27) dX3_forget_23 (by decide) ?_
      obtain rfl := Option.some.inj hf
      exact hJq4
  · replace hf := (if_pos h2).symm.trans hf
    refine g_aload_n (pc' := 8) dX3_forget_7 rfl rfl rfl ?_
    refine g_ldc (pc' := 10) dX3_forget_8 rfl q1116 ?_
    obtain ⟨q8, hq8, hf⟩ := Option.bind_eq_some_iff.mp hf
    refine g_callV (pc' := 13) (mx := mdX3_finds) (as := [.int (-1000000001)]) (wX3_finds g hA _ _ (-1000000001) hq8) oX3_finds ⟨Nat.le_of_ble_eq_true rfl, Nat.le_of_ble_eq_true rfl⟩ dX3_forget_10 rfl (ci := 3) rfl tC ⟨by decide +kernel, by decide +kernel⟩ oX3_finds.2.2.2 rfl q1117 q1119 qs33 qs33 q1119 (Nat.le_of_ble_eq_true rfl) (Nat.le_of_ble_eq_true rfl) (g_rI ?_) g_nt rfl
    obtain rfl := Option.some.inj hf
    exact g_iret dX3_forget_13 rfl rfl ⟨rfl, rfl⟩
def mdX3_feeds : bMD := (yX3_feeds, cX3_feeds, 3, none, [], 4, 78)
theorem oX3_feeds : bOkc mdX3_feeds 1 := ⟨by decide +kernel, ⟨by decide +kernel, by decide +kernel⟩, by decide +kernel, q1270⟩
def fX3_feeds (M : tM) (x1 : Int32) : Option tM :=
  Option.bind (fX3_its M x1 4) fun q1 =>
  Option.bind (fX3_partOf q1 1) fun q2 =>
  Option.bind (rA M 0 q2) fun v3 =>
  Option.bind (fX3_eats M x1) fun q4 =>
  (if q4 ≤ v3 then
  Option.bind (rA M 0 q2) fun v6 =>
  Option.bind (fX3_eats M x1) fun q7 =>
  Option.bind (wA M 0 q2 (v6 - q7)) fun w8 =>
  Option.bind (fX3_spotOf x1 2) fun q9 =>
  Option.bind (fX3_its w8 x1 2) fun q10 =>
  Option.bind (fX3_grows w8 x1) fun q11 =>
  Option.bind (fX3_heldTo (q10 + q11) 99) fun q12 =>
  Option.bind (wA w8 0 q9 q12) fun w13 =>
  some w13
else
  Option.bind (wA M 0 q2 0) fun w14 =>
  Option.bind (fX3_spotOf x1 4) fun q15 =>
  Option.bind (wA w14 0 q15 (-1)) fun w16 =>
  some w16)
set_option maxHeartbeats 4000000 in
theorem wX3_feeds (g : bGh) {A : tA} (hA : tO A) (w : bWl) (M : tM) (x1 : Int32) {r : tM} (hf : fX3_feeds M x1 = some r) : bM g mdX3_feeds (tW A M w) [.ref A.1, .int x1] (q_ none (tW A r w)) := by
  unfold fX3_feeds at hf
  change bG _ _ 0 [some (.ref A.1), some (.int x1)] []
  refine g_aload_n (pc' := 1) dX3_feeds_0 rfl rfl rfl ?_
  refine g_iload_n (pc' := 2) dX3_feeds_1 rfl rfl rfl ?_
  refine g_iconst (pc' := 3) (v := 4) dX3_feeds_2 rfl (by decide) ?_
  obtain ⟨q1, hq1, hf⟩ := Option.bind_eq_some_iff.mp hf
  refine g_callV (pc' := 6) (mx := mdX3_its) (as := [.int x1, .int 4]) (wX3_its g hA _ _ x1 4 hq1) oX3_its ⟨Nat.le_of_ble_eq_true rfl, Nat.le_of_ble_eq_true rfl⟩ dX3_feeds_3 rfl (ci := 3) rfl tC ⟨by decide +kernel, by decide +kernel⟩ oX3_its.2.2.2 rfl q1134 q1136 qs36 qs36 q1136 (Nat.le_of_ble_eq_true rfl) (Nat.le_of_ble_eq_true rfl) (g_rI ?_) g_nt rfl
  refine g_iconst (pc' := 7) (v := 1) dX3_feeds_6 rfl (by decide) ?_
  obtain ⟨q2, hq2, hf⟩ := Option.bind_eq_some_iff.mp hf
  refine g_callS (pc' := 10) (as := [.int q1, .int 1]) (wX3_partOf g _ q1 1 hq2) oX3_partOf ⟨Nat.le_of_ble_eq_true rfl, Nat.le_of_ble_eq_true rfl⟩ dX3_feeds_7 rfl q1045 q1046 q86 (Nat.le_of_ble_eq_true rfl) (Nat.le_of_ble_eq_true rfl) (g_rI ?_) g_nt rfl
  refine g_istore_n (pc' := 11) (L' := [some (.ref A.1), some (.int x1), some (.int q2)]) dX3_feeds_10 rfl rfl (Nat.le_of_ble_eq_true rfl) rfl rfl ?_
  refine g_aload_n (pc' := 12) dX3_feeds_11 rfl rfl rfl ?_
  refine gt_get (k := 0) (pc' := 15) (by decide) dX3_feeds_12 rfl q1048 rfl ?_
  refine g_iload_n (pc' := 16) dX3_feeds_15 rfl rfl rfl ?_
  obtain ⟨v3, hv3, hf⟩ := Option.bind_eq_some_iff.mp hf
  refine gt_iald (pc' := 17) hA (by decide) dX3_feeds_16 rfl hv3 ?_
  refine g_aload_n (pc' := 18) dX3_feeds_17 rfl rfl rfl ?_
  refine g_iload_n (pc' := 19) dX3_feeds_18 rfl rfl rfl ?_
  obtain ⟨q4, hq4, hf⟩ := Option.bind_eq_some_iff.mp hf
  refine g_callV (pc' := 22) (mx := mdX3_eats) (as := [.int x1]) (wX3_eats g hA _ _ x1 hq4) oX3_eats ⟨Nat.le_of_ble_eq_true rfl, Nat.le_of_ble_eq_true rfl⟩ dX3_feeds_19 rfl (ci := 3) rfl tC ⟨by decide +kernel, by decide +kernel⟩ oX3_eats.2.2.2 rfl q1149 q1151 qs39 qs39 q1151 (Nat.le_of_ble_eq_true rfl) (Nat.le_of_ble_eq_true rfl) (g_rI ?_) g_nt rfl
  refine g_icmp_ge (tgt := 44) (pc' := 25) dX3_feeds_22 (by decide) rfl (fun h5 => ?_) (fun h5 => ?_)
  · replace hf := (if_pos h5).symm.trans hf
    refine g_aload_n (pc' := 45) dX3_feeds_44 rfl rfl rfl ?_
    refine gt_get (k := 0) (pc' := 48) (by decide) dX3_feeds_45 rfl q1048 rfl ?_
    refine g_iload_n (pc' := 49) dX3_feeds_48 rfl rfl rfl ?_
    refine g_dup2 (pc' := 50) dX3_feeds_49 rfl rfl rfl ?_
    obtain ⟨v6, hv6, hf⟩ := Option.bind_eq_some_iff.mp hf
    refine gt_iald (pc' := 51) hA (by decide) dX3_feeds_50 rfl hv6 ?_
    refine g_aload_n (pc' := 52) dX3_feeds_51 rfl rfl rfl ?_
    refine g_iload_n (pc' := 53) dX3_feeds_52 rfl rfl rfl ?_
    obtain ⟨q7, hq7, hf⟩ := Option.bind_eq_some_iff.mp hf
    refine g_callV (pc' := 56) (mx := mdX3_eats) (as := [.int x1]) (wX3_eats g hA _ _ x1 hq7) oX3_eats ⟨Nat.le_of_ble_eq_true rfl, Nat.le_of_ble_eq_true rfl⟩ dX3_feeds_53 rfl (ci := 3) rfl tC ⟨by decide +kernel, by decide +kernel⟩ oX3_eats.2.2.2 rfl q1149 q1151 qs39 qs39 q1151 (Nat.le_of_ble_eq_true rfl) (Nat.le_of_ble_eq_true rfl) (g_rI ?_) g_nt rfl
    refine g_isub (pc' := 57) dX3_feeds_56 rfl ?_
    obtain ⟨w8, hw8, hf⟩ := Option.bind_eq_some_iff.mp hf
    refine gt_iast (pc' := 58) hA (by decide) dX3_feeds_57 rfl hw8 ?_
    refine g_aload_n (pc' := 59) dX3_feeds_58 rfl rfl rfl ?_
    refine gt_get (k := 0) (pc' := 62) (by decide) dX3_feeds_59 rfl q1048 rfl ?_
    refine g_iload_n (pc' := 63) dX3_feeds_62 rfl rfl rfl ?_
    refine g_iconst (pc' := 64) (v := 2) dX3_feeds_63 rfl (by decide) ?_
    obtain ⟨q9, hq9, hf⟩ := Option.bind_eq_some_iff.mp hf
    refine g_callS (pc' := 67) (as := [.int x1, .int 2]) (wX3_spotOf g _ x1 2 hq9) oX3_spotOf ⟨Nat.le_of_ble_eq_true rfl, Nat.le_of_ble_eq_true rfl⟩ dX3_feeds_64 rfl q1138 q1139 q86 (Nat.le_of_ble_eq_true rfl) (Nat.le_of_ble_eq_true rfl) (g_rI ?_) g_nt rfl
    refine g_aload_n (pc' := 68) dX3_feeds_67 rfl rfl rfl ?_
    refine g_iload_n (pc' := 69) dX3_feeds_68 rfl rfl rfl ?_
    refine g_iconst (pc' := 70) (v := 2) dX3_feeds_69 rfl (by decide) ?_
    obtain ⟨q10, hq10, hf⟩ := Option.bind_eq_some_iff.mp hf
    refine g_callV (pc' := 73) (mx := mdX3_its) (as := [.int x1, .int 2]) (wX3_its g hA _ _ x1 2 hq10) oX3_its ⟨Nat.le_of_ble_eq_true rfl, Nat.le_of_ble_eq_true rfl⟩ dX3_feeds_70 rfl (ci := 3) rfl tC ⟨by decide +kernel, by decide +kernel⟩ oX3_its.2.2.2 rfl q1134 q1136 qs36 qs36 q1136 (Nat.le_of_ble_eq_true rfl) (Nat.le_of_ble_eq_true rfl) (g_rI ?_) g_nt rfl
    refine g_aload_n (pc' := 74) dX3_feeds_73 rfl rfl rfl ?_
    refine g_iload_n (pc' := 75) dX3_feeds_74 rfl rfl rfl ?_
    obtain ⟨q11, hq11, hf⟩ := Option.bind_eq_some_iff.mp hf
    refine g_callV (pc' := 78) (mx := mdX3_grows) (as := [.int x1]) (wX3_grows g hA _ _ x1 hq11) oX3_grows ⟨Nat.le_of_ble_eq_true rfl, Nat.le_of_ble_eq_true rfl⟩ dX3_feeds_75 rfl (ci := 3) rfl tC ⟨by decide +kernel, by decide +kernel⟩ oX3_grows.2.2.2 rfl q1181 q1183 qs43 qs43 q1183 (Nat.le_of_ble_eq_true rfl) (Nat.le_of_ble_eq_true rfl) (g_rI ?_) g_nt rfl
    refine g_iadd (pc' := 79) dX3_feeds_78 rfl ?_
    refine g_bipush (pc' := 81) (v := 99) dX3_feeds_79 rfl (by decide) ?_
    obtain ⟨q12, hq12, hf⟩ := Option.bind_eq_some_iff.mp hf
    refine g_callS (pc' := 84) (as := [.int (q10 + q11), .int 99]) (wX3_heldTo g _ (q10 + q11) 99 hq12) oX3_heldTo ⟨Nat.le_of_ble_eq_true rfl, Nat.le_of_ble_eq_true rfl⟩ dX3_feeds_81 rfl q1239 q1240 q86 (Nat.le_of_ble_eq_true rfl) (Nat.le_of_ble_eq_true rfl) (g_rI ?_) g_nt rfl
    obtain ⟨w13, hw13, hf⟩ := Option.bind_eq_some_iff.mp hf
    refine gt_iast (pc' := 85) hA (by decide) dX3_feeds_84 rfl hw13 ?_
    obtain rfl := Option.some.inj hf
    exact g_vret dX3_feeds_85 rfl ⟨rfl, rfl⟩
  · replace hf := (if_neg h5).symm.trans hf
    refine g_aload_n (pc' := 26) dX3_feeds_25 rfl rfl rfl ?_
    refine gt_get (k := 0) (pc' := 29) (by decide) dX3_feeds_26 rfl q1048 rfl ?_
    refine g_iload_n (pc' := 30) dX3_feeds_29 rfl rfl rfl ?_
    refine g_iconst (pc' := 31) (v := 0) dX3_feeds_30 rfl (by decide) ?_
    obtain ⟨w14, hw14, hf⟩ := Option.bind_eq_some_iff.mp hf
    refine gt_iast (pc' := 32) hA (by decide) dX3_feeds_31 rfl hw14 ?_
    refine g_aload_n (pc' := 33) dX3_feeds_32 rfl rfl rfl ?_
    refine gt_get (k := 0) (pc' := 36) (by decide) dX3_feeds_33 rfl q1048 rfl ?_
    refine g_iload_n (pc' := 37) dX3_feeds_36 rfl rfl rfl ?_
    refine g_iconst (pc' := 38) (v := 4) dX3_feeds_37 rfl (by decide) ?_
    obtain ⟨q15, hq15, hf⟩ := Option.bind_eq_some_iff.mp hf
    refine g_callS (pc' := 41) (as := [.int x1, .int 4]) (wX3_spotOf g _ x1 4 hq15) oX3_spotOf ⟨Nat.le_of_ble_eq_true rfl, Nat.le_of_ble_eq_true rfl⟩ dX3_feeds_38 rfl q1138 q1139 q86 (Nat.le_of_ble_eq_true rfl) (Nat.le_of_ble_eq_true rfl) (g_rI ?_) g_nt rfl
    refine g_iconst (pc' := 42) (v := (-1)) dX3_feeds_41 rfl (by decide) ?_
    obtain ⟨w16, hw16, hf⟩ := Option.bind_eq_some_iff.mp hf
    refine gt_iast (pc' := 43) hA (by decide) dX3_feeds_42 rfl hw16 ?_
    obtain rfl := Option.some.inj hf
    exact g_vret dX3_feeds_43 rfl ⟨rfl, rfl⟩
def mdX3_lodgersOf : bMD := (yX3_lodgersOf, cX3_lodgersOf, 5, (some FieldType.int), [], 3, 55)
theorem oX3_lodgersOf : bOkc mdX3_lodgersOf 2 := ⟨by decide +kernel, ⟨by decide +kernel, by decide +kernel⟩, by decide +kernel, q1278⟩
def fX3_lodgersOf_l5 (M : tM) (y1 : Int32) (y2 : Int32) (rec : (Int32 × Int32) → Option (Int32 × Int32)) (s : Int32 × Int32) : Option (Int32 × Int32) :=
  Option.bind (rA M 0 0) fun v1 =>
  (if v1 ≤ s.2 then
  some (s.1, s.2)
else
  Option.bind (fX3_its M s.2 4) fun q3 =>
  Option.bind (α := Int32) ((if q3 = y1 then
  Option.bind (fX3_its M s.2 1) fun q6 =>
  (if q6 = y2 then
  some (1 <<< (s.2 &&& 31))
else
  some 0)
else
  some 0)) fun q4 =>
  rec ((s.1 ||| q4), (s.2 + 1)))
def fX3_lodgersOf (M : tM) (x1 : Int32) (x2 : Int32) : Option Int32 :=
  Option.bind (lpF (fX3_lodgersOf_l5 M x1 x2) FU (0, 0)) fun q8 =>
  some q8.1
set_option maxHeartbeats 4000000 in
theorem wX3_lodgersOf_l5 {g : bGh} {A : tA} (hA : tO A) {w : bWl} {M : tM} {n0 u0 : Nat} {Q : Outcome → bWl → Prop} (y1 : Int32) (y2 : Int32) : ∀ (n : Nat) (s : Int32 × Int32) (r : (Int32 × Int32)), lpF (fX3_lodgersOf_l5 M y1 y2) n s = some r → bG (g, mdX3_lodgersOf, n0, u0, Q) (tW A M w) 55 [some (.ref A.1), some (.int y1), some (.int y2), some (.int r.1), some (.int r.2)] [] → bG (g, mdX3_lodgersOf, n0, u0, Q) (tW A M w) 5 [some (.ref A.1), some (.int y1), some (.int y2), some (.int s.1), some (.int s.2)] [] := by
  intro n
  induction n with
  | zero => intro s r hf; cases hf
  | succ n ih =>
    intro s r hf kx
    rw [lpF_s] at hf
    unfold fX3_lodgersOf_l5 at hf
    refine g_iload (pc' := 7) dX3_lodgersOf_5 rfl rfl ?_
    refine g_aload_n (pc' := 8) dX3_lodgersOf_7 rfl rfl rfl ?_
    refine gt_get (k := 0) (pc' := 11) (by decide) dX3_lodgersOf_8 rfl q1048 rfl ?_
    refine g_iconst (pc' := 12) (v := 0) dX3_lodgersOf_11 rfl (by decide) ?_
    obtain ⟨v1, hv1, hf⟩ := Option.bind_eq_some_iff.mp hf
    refine gt_iald (pc' := 13) hA (by decide) dX3_lodgersOf_12 rfl hv1 ?_
    refine g_icmp_ge (tgt := 55) (pc' := 16) dX3_lodgersOf_13 (by decide) rfl (fun h2 => ?_) (fun h2 => ?_)
    · replace hf := (if_pos h2).symm.trans hf
      obtain rfl := Option.some.inj hf
      exact kx
    · replace hf := (if_neg h2).symm.trans hf
      refine g_iload_n (pc' := 17) dX3_lodgersOf_16 rfl rfl rfl ?_
      refine g_aload_n (pc' := 18) dX3_lodgersOf_17 rfl rfl rfl ?_
      refine g_iload (pc' := 20) dX3_lodgersOf_18 rfl rfl ?_
      refine g_iconst (pc' := 21) (v := 4) dX3_lodgersOf_20 rfl (by decide) ?_
      obtain ⟨q3, hq3, hf⟩ := Option.bind_eq_some_iff.mp hf
      refine g_callV (pc' := 24) (mx := mdX3_its) (as := [.int s.2, .int 4]) (wX3_its g hA _ _ s.2 4 hq3) oX3_its ⟨Nat.le_of_ble_eq_true rfl, Nat.le_of_ble_eq_true rfl⟩ dX3_lodgersOf_21 rfl (ci := 3) rfl tC ⟨by decide +kernel, by decide +kernel⟩ oX3_its.2.2.2 rfl q1134 q1136 qs36 qs36 q1136 (Nat.le_of_ble_eq_true rfl) (Nat.le_of_ble_eq_true rfl) (g_rI ?_) g_nt rfl
      refine g_iload_n (pc' := 25) dX3_lodgersOf_24 rfl rfl rfl ?_
      obtain ⟨q4, hqq4, hf⟩ := Option.bind_eq_some_iff.mp hf
      have hJq4 : bG (g, mdX3_lodgersOf, n0, u0, Q) (tW A M w) 47 [some (.ref A.1), some (.int y1), some (.int y2), none, some (.int s.2)] [.int q4, .int s.1] := by
        refine g_ior (pc' := 48) dX3_lodgersOf_47 rfl ?_
        refine g_istore_n (pc' := 49) (L' := [some (.ref A.1), some (.int y1), some (.int y2), some (.int (s.1 ||| q4)), some (.int s.2)]) dX3_lodgersOf_48 rfl rfl (Nat.le_of_ble_eq_true rfl) rfl rfl ?_
        refine g_iinc (pc' := 52) (v := s.2 + 1) (L' := [some (.ref A.1), some (.int y1), some (.int y2), some (.int (s.1 ||| q4)), some (.int (s.2 + 1))]) dX3_lodgersOf_49 rfl rfl rfl (Nat.le_of_ble_eq_true rfl) rfl rfl ?_
        refine g_goto (tgt := 5) dX3_lodgersOf_52 (by decide) ?_
        exact ih _ r hf kx
      replace hf := hqq4
      refine g_icmp_ne (tgt := 46) (pc' := 28) dX3_lodgersOf_25 (by decide) rfl (fun h5 => ?_) (fun h5 => ?_)
      · replace hf := (if_neg h5).symm.trans hf
        refine g_iconst (pc' := 47) (v := 0) dX3_lodgersOf_46 rfl (by decide) ?_
        obtain rfl := Option.some.inj hf
        refine g_drop [3] (L' := [some (.ref A.1), some (.int y1), some (.int y2), none, some (.int s.2)]) rfl ?_
        exact hJq4
      · replace hf := (if_pos h5).symm.trans hf
        refine g_aload_n (pc' := 29) dX3_lodgersOf_28 rfl rfl rfl ?_
        refine g_iload (pc' := 31) dX3_lodgersOf_29 rfl rfl ?_
        refine g_iconst (pc' := 32) (v := 1) dX3_lodgersOf_31 rfl (by decide) ?_
        obtain ⟨q6, hq6, hf⟩ := Option.bind_eq_some_iff.mp hf
        refine g_callV (pc' := 35) (mx := mdX3_its) (as := [.int s.2, .int 1]) (wX3_its g hA _ _ s.2 1 hq6) oX3_its ⟨Nat.le_of_ble_eq_true rfl, Nat.le_of_ble_eq_true rfl⟩ dX3_lodgersOf_32 rfl (ci := 3) rfl tC ⟨by decide +kernel, by decide +kernel⟩ oX3_its.2.2.2 rfl q1134 q1136 qs36 qs36 q1136 (Nat.le_of_ble_eq_true rfl) (Nat.le_of_ble_eq_true rfl) (g_rI ?_) g_nt rfl
        refine g_iload_n (pc' := 36) dX3_lodgersOf_35 rfl rfl rfl ?_
        refine g_icmp_ne (tgt := 46) (pc' := 39) dX3_lodgersOf_36 (by decide) rfl (fun h7 => ?_) (fun h7 => ?_)
        · replace hf := (if_neg h7).symm.trans hf
          refine g_iconst (pc' := 47) (v := 0) dX3_lodgersOf_46 rfl (by decide) ?_
          obtain rfl := Option.some.inj hf
          refine g_drop [3] (L' := [some (.ref A.1), some (.int y1), some (.int y2), none, some (.int s.2)]) rfl ?_
          exact hJq4
        · replace hf := (if_pos h7).symm.trans hf
          refine g_iconst (pc' := 40) (v := 1) dX3_lodgersOf_39 rfl (by decide) ?_
          refine g_iload (pc' := 42) dX3_lodgersOf_40 rfl rfl ?_
          refine g_ishl (pc' := 43) dX3_lodgersOf_42 rfl ?_
          refine g_goto (tgt := 47) dX3_lodgersOf_43 (by decide) ?_
          obtain rfl := Option.some.inj hf
          refine g_drop [3] (L' := [some (.ref A.1), some (.int y1), some (.int y2), none, some (.int s.2)]) rfl ?_
          exact hJq4
set_option maxHeartbeats 4000000 in
theorem wX3_lodgersOf (g : bGh) {A : tA} (hA : tO A) (w : bWl) (M : tM) (x1 : Int32) (x2 : Int32) {r : Int32} (hf : fX3_lodgersOf M x1 x2 = some r) : bM g mdX3_lodgersOf (tW A M w) [.ref A.1, .int x1, .int x2] (q_ (eI r) (tW A M w)) := by
  unfold fX3_lodgersOf at hf
  change bG _ _ 0 [some (.ref A.1), some (.int x1), some (.int x2)] []
  refine g_iconst (pc' := 1) (v := 0) dX3_lodgersOf_0 rfl (by decide) ?_
  refine g_istore_n (pc' := 2) (L' := [some (.ref A.1), some (.int x1), some (.int x2), some (.int 0)]) dX3_lodgersOf_1 rfl rfl (Nat.le_of_ble_eq_true rfl) rfl rfl ?_
  refine g_iconst (pc' := 3) (v := 0) dX3_lodgersOf_2 rfl (by decide) ?_
  refine g_istore (pc' := 5) (L' := [some (.ref A.1), some (.int x1), some (.int x2), some (.int 0), some (.int 0)]) dX3_lodgersOf_3 rfl (Nat.le_of_ble_eq_true rfl) rfl rfl ?_
  obtain ⟨q8, hq8, hf⟩ := Option.bind_eq_some_iff.mp hf
  refine wX3_lodgersOf_l5 hA x1 x2 FU (0, 0) q8 hq8 ?_
  refine g_iload_n (pc' := 56) dX3_lodgersOf_55 rfl rfl rfl ?_
  obtain rfl := Option.some.inj hf
  exact g_iret dX3_lodgersOf_56 rfl rfl ⟨rfl, rfl⟩
def mdX3_isOnRoad : bMD := (yX3_isOnRoad, cX3_isOnRoad, 4, (some FieldType.boolean), [], 3, 55)
theorem oX3_isOnRoad : bOkc mdX3_isOnRoad 1 := ⟨by decide +kernel, ⟨by decide +kernel, by decide +kernel⟩, by decide +kernel, q1282⟩
def fX3_isOnRoad_l4 (M : tM) (y1 : Int32) (rec : (Int32 × Int32) → Option (Int32 × Int32)) (s : Int32 × Int32) : Option (Int32 × Int32) :=
  Option.bind (rA M 0 0) fun v1 =>
  (if v1 ≤ s.2 then
  some (s.1, s.2)
else
  Option.bind (α := Int32) ((if s.1 = 0 then
  Option.bind (fX3_its M s.2 1) fun q5 =>
  (if q5 = y1 then
  Option.bind (fX3_its M s.2 4) fun q7 =>
  (if q7 = (-1) then
  some 1
else
  some 0)
else
  some 0)
else
  some 1)) fun q3 =>
  rec (q3, (s.2 + 1)))
def fX3_isOnRoad (M : tM) (x1 : Int32) : Option Int32 :=
  Option.bind (lpF (fX3_isOnRoad_l4 M x1) FU (0, 0)) fun q9 =>
  bz q9.1 (some q9.1)
set_option maxHeartbeats 4000000 in
theorem wX3_isOnRoad_l4 {g : bGh} {A : tA} (hA : tO A) {w : bWl} {M : tM} {n0 u0 : Nat} {Q : Outcome → bWl → Prop} (y1 : Int32) : ∀ (n : Nat) (s : Int32 × Int32) (r : (Int32 × Int32)), lpF (fX3_isOnRoad_l4 M y1) n s = some r → bG (g, mdX3_isOnRoad, n0, u0, Q) (tW A M w) 50 [some (.ref A.1), some (.int y1), some (.int r.1), some (.int r.2)] [] → bG (g, mdX3_isOnRoad, n0, u0, Q) (tW A M w) 4 [some (.ref A.1), some (.int y1), some (.int s.1), some (.int s.2)] [] := by
  intro n
  induction n with
  | zero => intro s r hf; cases hf
  | succ n ih =>
    intro s r hf kx
    rw [lpF_s] at hf
    unfold fX3_isOnRoad_l4 at hf
    refine g_iload_n (pc' := 5) dX3_isOnRoad_4 rfl rfl rfl ?_
    refine g_aload_n (pc' := 6) dX3_isOnRoad_5 rfl rfl rfl ?_
    refine gt_get (k := 0) (pc' := 9) (by decide) dX3_isOnRoad_6 rfl q1048 rfl ?_
    refine g_iconst (pc' := 10) (v := 0) dX3_isOnRoad_9 rfl (by decide) ?_
    obtain ⟨v1, hv1, hf⟩ := Option.bind_eq_some_iff.mp hf
    refine gt_iald (pc' := 11) hA (by decide) dX3_isOnRoad_10 rfl hv1 ?_
    refine g_icmp_ge (tgt := 50) (pc' := 14) dX3_isOnRoad_11 (by decide) rfl (fun h2 => ?_) (fun h2 => ?_)
    · replace hf := (if_pos h2).symm.trans hf
      obtain rfl := Option.some.inj hf
      exact kx
    · replace hf := (if_neg h2).symm.trans hf
      refine g_iload_n (pc' := 15) dX3_isOnRoad_14 rfl rfl rfl ?_
      obtain ⟨q3, hqq3, hf⟩ := Option.bind_eq_some_iff.mp hf
      have hJq3 : bG (g, mdX3_isOnRoad, n0, u0, Q) (tW A M w) 43 [some (.ref A.1), some (.int y1), none, some (.int s.2)] [.int q3] := by
        refine g_istore_n (pc' := 44) (L' := [some (.ref A.1), some (.int y1), some (.int q3), some (.int s.2)]) dX3_isOnRoad_43 rfl rfl (Nat.le_of_ble_eq_true rfl) rfl rfl ?_
        refine g_iinc (pc' := 47) (v := s.2 + 1) (L' := [some (.ref A.1), some (.int y1), some (.int q3), some (.int (s.2 + 1))]) dX3_isOnRoad_44 rfl rfl rfl (Nat.le_of_ble_eq_true rfl) rfl rfl ?_
        refine g_goto (tgt := 4) dX3_isOnRoad_47 (by decide) ?_
        exact ih _ r hf kx
      replace hf := hqq3
      refine g_if_ne (tgt := 38) (pc' := 18) dX3_isOnRoad_15 (by decide) rfl (fun h4 => ?_) (fun h4 => ?_)
      · replace hf := (if_neg h4).symm.trans hf
        refine g_iconst (pc' := 39) (v := 1) dX3_isOnRoad_38 rfl (by decide) ?_
        refine g_goto (tgt := 43) dX3_isOnRoad_39 (by decide) ?_
        obtain rfl := Option.some.inj hf
        refine g_drop [2] (L' := [some (.ref A.1), some (.int y1), none, some (.int s.2)]) rfl ?_
        exact hJq3
      · replace hf := (if_pos h4).symm.trans hf
        refine g_aload_n (pc' := 19) dX3_isOnRoad_18 rfl rfl rfl ?_
        refine g_iload_n (pc' := 20) dX3_isOnRoad_19 rfl rfl rfl ?_
        refine g_iconst (pc' := 21) (v := 1) dX3_isOnRoad_20 rfl (by decide) ?_
        obtain ⟨q5, hq5, hf⟩ := Option.bind_eq_some_iff.mp hf
        refine g_callV (pc' := 24) (mx := mdX3_its) (as := [.int s.2, .int 1]) (wX3_its g hA _ _ s.2 1 hq5) oX3_its ⟨Nat.le_of_ble_eq_true rfl, Nat.le_of_ble_eq_true rfl⟩ dX3_isOnRoad_21 rfl (ci := 3) rfl tC ⟨by decide +kernel, by decide +kernel⟩ oX3_its.2.2.2 rfl q1134 q1136 qs36 qs36 q1136 (Nat.le_of_ble_eq_true rfl) (Nat.le_of_ble_eq_true rfl) (g_rI ?_) g_nt rfl
        refine g_iload_n (pc' := 25) dX3_isOnRoad_24 rfl rfl rfl ?_
        refine g_icmp_ne (tgt := 42) (pc' := 28) dX3_isOnRoad_25 (by decide) rfl (fun h6 => ?_) (fun h6 => ?_)
        · replace hf := (if_neg h6).symm.trans hf
          refine g_iconst (pc' := 43) (v := 0) dX3_isOnRoad_42 rfl (by decide) ?_
          obtain rfl := Option.some.inj hf
          refine g_drop [2] (L' := [some (.ref A.1), some (.int y1), none, some (.int s.2)]) rfl ?_
          exact hJq3
        · replace hf := (if_pos h6).symm.trans hf
          refine g_aload_n (pc' := 29) dX3_isOnRoad_28 rfl rfl rfl ?_
          refine g_iload_n (pc' := 30) dX3_isOnRoad_29 rfl rfl rfl ?_
          refine g_iconst (pc' := 31) (v := 4) dX3_isOnRoad_30 rfl (by decide) ?_
          obtain ⟨q7, hq7, hf⟩ := Option.bind_eq_some_iff.mp hf
          refine g_callV (pc' := 34) (mx := mdX3_its) (as := [.int s.2, .int 4]) (wX3_its g hA _ _ s.2 4 hq7) oX3_its ⟨Nat.le_of_ble_eq_true rfl, Nat.le_of_ble_eq_true rfl⟩ dX3_isOnRoad_31 rfl (ci := 3) rfl tC ⟨by decide +kernel, by decide +kernel⟩ oX3_its.2.2.2 rfl q1134 q1136 qs36 qs36 q1136 (Nat.le_of_ble_eq_true rfl) (Nat.le_of_ble_eq_true rfl) (g_rI ?_) g_nt rfl
          refine g_iconst (pc' := 35) (v := (-1)) dX3_isOnRoad_34 rfl (by decide) ?_
          refine g_icmp_ne (tgt := 42) (pc' := 38) dX3_isOnRoad_35 (by decide) rfl (fun h8 => ?_) (fun h8 => ?_)
          · replace hf := (if_neg h8).symm.trans hf
            refine g_iconst (pc' := 43) (v := 0) dX3_isOnRoad_42 rfl (by decide) ?_
            obtain rfl := Option.some.inj hf
            refine g_drop [2] (L' := [some (.ref A.1), some (.int y1), none, some (.int s.2)]) rfl ?_
            exact hJq3
          · replace hf := (if_pos h8).symm.trans hf
            refine g_iconst (pc' := 39) (v := 1) dX3_isOnRoad_38 rfl (by decide) ?_
            refine g_goto (tgt := 43) dX3_isOnRoad_39 (by decide) ?_
            obtain rfl := Option.some.inj hf
            refine g_drop [2] (L' := [some (.ref A.1), some (.int y1), none, some (.int s.2)]) rfl ?_
            exact hJq3
set_option maxHeartbeats 4000000 in
theorem wX3_isOnRoad (g : bGh) {A : tA} (hA : tO A) (w : bWl) (M : tM) (x1 : Int32) {r : Int32} (hf : fX3_isOnRoad M x1 = some r) : bM g mdX3_isOnRoad (tW A M w) [.ref A.1, .int x1] (q_ (eI r) (tW A M w)) := by
  unfold fX3_isOnRoad at hf
  change bG _ _ 0 [some (.ref A.1), some (.int x1)] []
  refine g_iconst (pc' := 1) (v := 0) dX3_isOnRoad_0 rfl (by decide) ?_
  refine g_istore_n (pc' := 2) (L' := [some (.ref A.1), some (.int x1), some (.int 0)]) dX3_isOnRoad_1 rfl rfl (Nat.le_of_ble_eq_true rfl) rfl rfl ?_
  refine g_iconst (pc' := 3) (v := 0) dX3_isOnRoad_2 rfl (by decide) ?_
  refine g_istore_n (pc' := 4) (L' := [some (.ref A.1), some (.int x1), some (.int 0), some (.int 0)]) dX3_isOnRoad_3 rfl rfl (Nat.le_of_ble_eq_true rfl) rfl rfl ?_
  obtain ⟨q9, hq9, hf⟩ := Option.bind_eq_some_iff.mp hf
  refine wX3_isOnRoad_l4 hA x1 FU (0, 0) q9 hq9 ?_
  refine g_iload_n (pc' := 51) dX3_isOnRoad_50 rfl rfl rfl ?_
  obtain ⟨h10, hf⟩ := bz_spec hf
  obtain rfl := Option.some.inj hf
  exact g_iret dX3_isOnRoad_51 rfl (bz_nar h10) ⟨rfl, rfl⟩
def mdX3_makesThird : bMD := (yX3_makesThird, cX3_makesThird, 7, none, [], 4, 79)
theorem oX3_makesThird : bOkc mdX3_makesThird 1 := ⟨by decide +kernel, ⟨by decide +kernel, by decide +kernel⟩, by decide +kernel, q1274⟩
def fX3_makesThird_l2 (M : tM) (y1 : Int32) (rec : (Int32) → Option (Int32)) (s : Int32) : Option (Int32) :=
  (if 16 ≤ s then
  some s
else
  Option.bind (fX3_lodgersOf M y1 s) fun q2 =>
  Option.bind (fX3_ones q2) fun q3 =>
  (if 2 ≤ q3 then
  some s
else
  rec (s + 1)))
def fX3_makesThird_l69 (M : tM) (y2 : Int32) (y3 : Int32) (rec : (Int32 × Int32 × Int32) → Option (Int32 × Int32 × Int32)) (s : Int32 × Int32 × Int32) : Option (Int32 × Int32 × Int32) :=
  Option.bind (rA M 0 0) fun v12 =>
  (if v12 ≤ s.2.2 then
  some (s.1, s.2.1, s.2.2)
else
  (if 2 ≤ s.2.1 then
  some (s.1, s.2.1, s.2.2)
else
  Option.bind (α := Int32 × Int32) ((if ((y3 >>> (s.2.2 &&& 31)) &&& 1) = 1 then
  Option.bind (fX3_its M s.2.2 2) fun q17 =>
  some ((s.1 + q17), (s.2.1 + 1))
else
  some (s.1, s.2.1))) fun q15 =>
  rec (q15.1, q15.2, (s.2.2 + 1))))
def fX3_makesThird (M : tM) (x1 : Int32) : Option tM :=
  Option.bind (lpF (fX3_makesThird_l2 M x1) FU 0) fun q5 =>
  (if q5 = 16 then
  some M
else
  Option.bind (fX3_isOnRoad M q5) fun q7 =>
  (if q7 = 0 then
  Option.bind (rA M 0 0) fun v9 =>
  (if v9 = 10 then
  some M
else
  Option.bind (fX3_lodgersOf M x1 q5) fun q11 =>
  Option.bind (lpF (fX3_makesThird_l69 M q5 q11) FU (0, 0, 0)) fun q18 =>
  Option.bind (fX3_adds M 0 q5) fun q19 =>
  Option.bind (fX3_spotOf q19.1 2) fun q20 =>
  Option.bind (wA q19.2 0 q20 (q18.1 / 2)) fun w21 =>
  some w21)
else
  some M))
set_option maxHeartbeats 4000000 in
theorem wX3_makesThird_l2 {g : bGh} {A : tA} (hA : tO A) {w : bWl} {M : tM} {n0 u0 : Nat} {Q : Outcome → bWl → Prop} (y1 : Int32) : ∀ (n : Nat) (s : Int32) (r : (Int32)), lpF (fX3_makesThird_l2 M y1) n s = some r → bG (g, mdX3_makesThird, n0, u0, Q) (tW A M w) 27 [some (.ref A.1), some (.int y1), some (.int r)] [] → bG (g, mdX3_makesThird, n0, u0, Q) (tW A M w) 2 [some (.ref A.1), some (.int y1), some (.int s)] [] := by
  intro n
  induction n with
  | zero => intro s r hf; cases hf
  | succ n ih =>
    intro s r hf kx
    rw [lpF_s] at hf
    unfold fX3_makesThird_l2 at hf
    refine g_iload_n (pc' := 3) dX3_makesThird_2 rfl rfl rfl ?_
    refine g_bipush (pc' := 5) (v := 16) dX3_makesThird_3 rfl (by decide) ?_
    refine g_icmp_ge (tgt := 27) (pc' := 8) dX3_makesThird_5 (by decide) rfl (fun h1 => ?_) (fun h1 => ?_)
    · replace hf := (if_pos h1).symm.trans hf
      obtain rfl := Option.some.inj hf
      exact kx
    · replace hf := (if_neg h1).symm.trans hf
      refine g_aload_n (pc' := 9) dX3_makesThird_8 rfl rfl rfl ?_
      refine g_iload_n (pc' := 10) dX3_makesThird_9 rfl rfl rfl ?_
      refine g_iload_n (pc' := 11) dX3_makesThird_10 rfl rfl rfl ?_
      obtain ⟨q2, hq2, hf⟩ := Option.bind_eq_some_iff.mp hf
      refine g_callV (pc' := 14) (mx := mdX3_lodgersOf) (as := [.int y1, .int s]) (wX3_lodgersOf g hA _ _ y1 s hq2) oX3_lodgersOf ⟨Nat.le_of_ble_eq_true rfl, Nat.le_of_ble_eq_true rfl⟩ dX3_makesThird_11 rfl (ci := 3) rfl tC ⟨by decide +kernel, by decide +kernel⟩ oX3_lodgersOf.2.2.2 rfl q1275 q1277 qs54 qs54 q1277 (Nat.le_of_ble_eq_true rfl) (Nat.le_of_ble_eq_true rfl) (g_rI ?_) g_nt rfl
      obtain ⟨q3, hq3, hf⟩ := Option.bind_eq_some_iff.mp hf
      refine g_callS (pc' := 17) (as := [.int q2]) (wX3_ones g _ q2 hq3) oX3_ones ⟨Nat.le_of_ble_eq_true rfl, Nat.le_of_ble_eq_true rfl⟩ dX3_makesThird_14 rfl q1214 q1215 q86 (Nat.le_of_ble_eq_true rfl) (Nat.le_of_ble_eq_true rfl) (g_rI ?_) g_nt rfl
      refine g_iconst (pc' := 18) (v := 2) dX3_makesThird_17 rfl (by decide) ?_
      refine g_icmp_ge (tgt := 27) (pc' := 21) dX3_makesThird_18 (by decide) rfl (fun h4 => ?_) (fun h4 => ?_)
      · replace hf := (if_pos h4).symm.trans hf
        obtain rfl := Option.some.inj hf
        exact kx
      · replace hf := (if_neg h4).symm.trans hf
        refine g_iinc (pc' := 24) (v := s + 1) (L' := [some (.ref A.1), some (.int y1), some (.int (s + 1))]) dX3_makesThird_21 rfl rfl rfl (Nat.le_of_ble_eq_true rfl) rfl rfl ?_
        refine g_goto (tgt := 2) dX3_makesThird_24 (by decide) ?_
        exact ih _ r hf kx
set_option maxHeartbeats 4000000 in
theorem wX3_makesThird_l69 {g : bGh} {A : tA} (hA : tO A) {w : bWl} {M : tM} {n0 u0 : Nat} {Q : Outcome → bWl → Prop} (y2 : Int32) (y3 : Int32) : ∀ (n : Nat) (s : Int32 × Int32 × Int32) (r : (Int32 × Int32 × Int32)), lpF (fX3_makesThird_l69 M y2 y3) n s = some r → bG (g, mdX3_makesThird, n0, u0, Q) (tW A M w) 117 [some (.ref A.1), none, some (.int y2), some (.int y3), some (.int r.1), some (.int r.2.1), some (.int r.2.2)] [] → bG (g, mdX3_makesThird, n0, u0, Q) (tW A M w) 69 [some (.ref A.1), none, some (.int y2), some (.int y3), some (.int s.1), some (.int s.2.1), some (.int s.2.2)] [] := by
  intro n
  induction n with
  | zero => intro s r hf; cases hf
  | succ n ih =>
    intro s r hf kx
    rw [lpF_s] at hf
    unfold fX3_makesThird_l69 at hf
    refine g_iload (pc' := 71) dX3_makesThird_69 rfl rfl ?_
    refine g_aload_n (pc' := 72) dX3_makesThird_71 rfl rfl rfl ?_
    refine gt_get (k := 0) (pc' := 75) (by decide) dX3_makesThird_72 rfl q1048 rfl ?_
    refine g_iconst (pc' := 76) (v := 0) dX3_makesThird_75 rfl (by decide) ?_
    obtain ⟨v12, hv12, hf⟩ := Option.bind_eq_some_iff.mp hf
    refine gt_iald (pc' := 77) hA (by decide) dX3_makesThird_76 rfl hv12 ?_
    refine g_icmp_ge (tgt := 117) (pc' := 80) dX3_makesThird_77 (by decide) rfl (fun h13 => ?_) (fun h13 => ?_)
    · replace hf := (if_pos h13).symm.trans hf
      obtain rfl := Option.some.inj hf
      exact kx
    · replace hf := (if_neg h13).symm.trans hf
      refine g_iload (pc' := 82) dX3_makesThird_80 rfl rfl ?_
      refine g_iconst (pc' := 83) (v := 2) dX3_makesThird_82 rfl (by decide) ?_
      refine g_icmp_ge (tgt := 117) (pc' := 86) dX3_makesThird_83 (by decide) rfl (fun h14 => ?_) (fun h14 => ?_)
      · replace hf := (if_pos h14).symm.trans hf
        obtain rfl := Option.some.inj hf
        exact kx
      · replace hf := (if_neg h14).symm.trans hf
        refine g_iload_n (pc' := 87) dX3_makesThird_86 rfl rfl rfl ?_
        refine g_iload (pc' := 89) dX3_makesThird_87 rfl rfl ?_
        refine g_ishr (pc' := 90) dX3_makesThird_89 rfl ?_
        refine g_iconst (pc' := 91) (v := 1) dX3_makesThird_90 rfl (by decide) ?_
        refine g_iand (pc' := 92) dX3_makesThird_91 rfl ?_
        refine g_iconst (pc' := 93) (v := 1) dX3_makesThird_92 rfl (by decide) ?_
        obtain ⟨q15, hqq15, hf⟩ := Option.bind_eq_some_iff.mp hf
        have hJq15 : bG (g, mdX3_makesThird, n0, u0, Q) (tW A M w) 111 [some (.ref A.1), none, some (.int y2), some (.int y3), some (.int q15.1), some (.int q15.2), some (.int s.2.2)] [] := by
          refine g_iinc (pc' := 114) (v := s.2.2 + 1) (L' := [some (.ref A.1), none, some (.int y2), some (.int y3), some (.int q15.1), some (.int q15.2), some (.int (s.2.2 + 1))]) dX3_makesThird_111 rfl rfl rfl (Nat.le_of_ble_eq_true rfl) rfl rfl ?_
          refine g_goto (tgt := 69) dX3_makesThird_114 (by decide) ?_
          exact ih _ r hf kx
        replace hf := hqq15
        refine g_icmp_ne (tgt := 111) (pc' := 96) dX3_makesThird_93 (by decide) rfl (fun h16 => ?_) (fun h16 => ?_)
        · replace hf := (if_neg h16).symm.trans hf
          obtain rfl := Option.some.inj hf
          exact hJq15
        · replace hf := (if_pos h16).symm.trans hf
          refine g_iload (pc' := 98) dX3_makesThird_96 rfl rfl ?_
          refine g_aload_n (pc' := 99) dX3_makesThird_98 rfl rfl rfl ?_
          refine g_iload (pc' := 101) dX3_makesThird_99 rfl rfl ?_
          refine g_iconst (pc' := 102) (v := 2) dX3_makesThird_101 rfl (by decide) ?_
          obtain ⟨q17, hq17, hf⟩ := Option.bind_eq_some_iff.mp hf
          refine g_callV (pc' := 105) (mx := mdX3_its) (as := [.int s.2.2, .int 2]) (wX3_its g hA _ _ s.2.2 2 hq17) oX3_its ⟨Nat.le_of_ble_eq_true rfl, Nat.le_of_ble_eq_true rfl⟩ dX3_makesThird_102 rfl (ci := 3) rfl tC ⟨by decide +kernel, by decide +kernel⟩ oX3_its.2.2.2 rfl q1134 q1136 qs36 qs36 q1136 (Nat.le_of_ble_eq_true rfl) (Nat.le_of_ble_eq_true rfl) (g_rI ?_) g_nt rfl
          refine g_iadd (pc' := 106) dX3_makesThird_105 rfl ?_
          refine g_istore (pc' := 108) (L' := [some (.ref A.1), none, some (.int y2), some (.int y3), some (.int (s.1 + q17)), some (.int s.2.1), some (.int s.2.2)]) dX3_makesThird_106 rfl (Nat.le_of_ble_eq_true rfl) rfl rfl ?_
          refine g_iinc (pc' := 111) (v := s.2.1 + 1) (L' := [some (.ref A.1), none, some (.int y2), some (.int y3), some (.int (s.1 + q17)), some (.int (s.2.1 + 1)), some (.int s.2.2)]) dX3_makesThird_108 rfl rfl rfl (Nat.le_of_ble_eq_true rfl) rfl rfl ?_
          obtain rfl := Option.some.inj hf
          exact hJq15
set_option maxHeartbeats 4000000 in
theorem wX3_makesThird (g : bGh) {A : tA} (hA : tO A) (w : bWl) (M : tM) (x1 : Int32) {r : tM} (hf : fX3_makesThird M x1 = some r) : bM g mdX3_makesThird (tW A M w) [.ref A.1, .int x1] (q_ none (tW A r w)) := by
  unfold fX3_makesThird at hf
  change bG _ _ 0 [some (.ref A.1), some (.int x1)] []
  refine g_iconst (pc' := 1) (v := 0) dX3_makesThird_0 rfl (by decide) ?_
  refine g_istore_n (pc' := 2) (L' := [some (.ref A.1), some (.int x1), some (.int 0)]) dX3_makesThird_1 rfl rfl (Nat.le_of_ble_eq_true rfl) rfl rfl ?_
  obtain ⟨q5, hq5, hf⟩ := Option.bind_eq_some_iff.mp hf
  refine wX3_makesThird_l2 hA x1 FU 0 q5 hq5 ?_
  refine g_iload_n (pc' := 28) dX3_makesThird_27 rfl rfl rfl ?_
  refine g_bipush (pc' := 30) (v := 16) dX3_makesThird_28 rfl (by decide) ?_
  refine g_icmp_eq (tgt := 52) (pc' := 33) dX3_makesThird_30 (by decide) rfl (fun h6 => ?_) (fun h6 => ?_)
  · replace hf := (if_pos h6).symm.trans hf
    obtain rfl := Option.some.inj hf
    exact g_vret dX3_makesThird_52 rfl ⟨rfl, rfl⟩
  · replace hf := (if_neg h6).symm.trans hf
    refine g_aload_n (pc' := 34) dX3_makesThird_33 rfl rfl rfl ?_
    refine g_iload_n (pc' := 35) dX3_makesThird_34 rfl rfl rfl ?_
    obtain ⟨q7, hq7, hf⟩ := Option.bind_eq_some_iff.mp hf
    refine g_callV (pc' := 38) (mx := mdX3_isOnRoad) (as := [.int q5]) (wX3_isOnRoad g hA _ _ q5 hq7) oX3_isOnRoad ⟨Nat.le_of_ble_eq_true rfl, Nat.le_of_ble_eq_true rfl⟩ dX3_makesThird_35 rfl (ci := 3) rfl tC ⟨by decide +kernel, by decide +kernel⟩ oX3_isOnRoad.2.2.2 rfl q1279 q1281 qs55 qs55 q1281 (Nat.le_of_ble_eq_true rfl) (Nat.le_of_ble_eq_true rfl) (g_rI ?_) g_nt rfl
    refine g_if_ne (tgt := 52) (pc' := 41) dX3_makesThird_38 (by decide) rfl (fun h8 => ?_) (fun h8 => ?_)
    · replace hf := (if_neg h8).symm.trans hf
      obtain rfl := Option.some.inj hf
      exact g_vret dX3_makesThird_52 rfl ⟨rfl, rfl⟩
    · replace hf := (if_pos h8).symm.trans hf
      refine g_aload_n (pc' := 42) dX3_makesThird_41 rfl rfl rfl ?_
      refine gt_get (k := 0) (pc' := 45) (by decide) dX3_makesThird_42 rfl q1048 rfl ?_
      refine g_iconst (pc' := 46) (v := 0) dX3_makesThird_45 rfl (by decide) ?_
      obtain ⟨v9, hv9, hf⟩ := Option.bind_eq_some_iff.mp hf
      refine gt_iald (pc' := 47) hA (by decide) dX3_makesThird_46 rfl hv9 ?_
      refine g_bipush (pc' := 49) (v := 10) dX3_makesThird_47 rfl (by decide) ?_
      refine g_icmp_ne (tgt := 53) (pc' := 52) dX3_makesThird_49 (by decide) rfl (fun h10 => ?_) (fun h10 => ?_)
      · replace hf := (if_neg h10).symm.trans hf
        refine g_aload_n (pc' := 54) dX3_makesThird_53 rfl rfl rfl ?_
        refine g_iload_n (pc' := 55) dX3_makesThird_54 rfl rfl rfl ?_
        refine g_iload_n (pc' := 56) dX3_makesThird_55 rfl rfl rfl ?_
        obtain ⟨q11, hq11, hf⟩ := Option.bind_eq_some_iff.mp hf
        refine g_callV (pc' := 59) (mx := mdX3_lodgersOf) (as := [.int x1, .int q5]) (wX3_lodgersOf g hA _ _ x1 q5 hq11) oX3_lodgersOf ⟨Nat.le_of_ble_eq_true rfl, Nat.le_of_ble_eq_true rfl⟩ dX3_makesThird_56 rfl (ci := 3) rfl tC ⟨by decide +kernel, by decide +kernel⟩ oX3_lodgersOf.2.2.2 rfl q1275 q1277 qs54 qs54 q1277 (Nat.le_of_ble_eq_true rfl) (Nat.le_of_ble_eq_true rfl) (g_rI ?_) g_nt rfl
        refine g_istore_n (pc' := 60) (L' := [some (.ref A.1), some (.int x1), some (.int q5), some (.int q11)]) dX3_makesThird_59 rfl rfl (Nat.le_of_ble_eq_true rfl) rfl rfl ?_
        refine g_iconst (pc' := 61) (v := 0) dX3_makesThird_60 rfl (by decide) ?_
        refine g_istore (pc' := 63) (L' := [some (.ref A.1), some (.int x1), some (.int q5), some (.int q11), some (.int 0)]) dX3_makesThird_61 rfl (Nat.le_of_ble_eq_true rfl) rfl rfl ?_
        refine g_iconst (pc' := 64) (v := 0) dX3_makesThird_63 rfl (by decide) ?_
        refine g_istore (pc' := 66) (L' := [some (.ref A.1), some (.int x1), some (.int q5), some (.int q11), some (.int 0), some (.int 0)]) dX3_makesThird_64 rfl (Nat.le_of_ble_eq_true rfl) rfl rfl ?_
        refine g_iconst (pc' := 67) (v := 0) dX3_makesThird_66 rfl (by decide) ?_
        refine g_istore (pc' := 69) (L' := [some (.ref A.1), some (.int x1), some (.int q5), some (.int q11), some (.int 0), some (.int 0), some (.int 0)]) dX3_makesThird_67 rfl (Nat.le_of_ble_eq_true rfl) rfl rfl ?_
        refine g_drop [1] (L' := [some (.ref A.1), none, some (.int q5), some (.int q11), some (.int 0), some (.int 0), some (.int 0)]) rfl ?_
        obtain ⟨q18, hq18, hf⟩ := Option.bind_eq_some_iff.mp hf
        refine wX3_makesThird_l69 hA q5 q11 FU (0, 0, 0) q18 hq18 ?_
        refine g_aload_n (pc' := 118) dX3_makesThird_117 rfl rfl rfl ?_
        refine g_iconst (pc' := 119) (v := 0) dX3_makesThird_118 rfl (by decide) ?_
        refine g_iload_n (pc' := 120) dX3_makesThird_119 rfl rfl rfl ?_
        obtain ⟨q19, hq19, hf⟩ := Option.bind_eq_some_iff.mp hf
        refine g_callV (pc' := 123) (mx := mdX3_adds) (as := [.int 0, .int q5]) (wX3_adds g hA _ _ 0 q5 hq19) oX3_adds ⟨Nat.le_of_ble_eq_true rfl, Nat.le_of_ble_eq_true rfl⟩ dX3_makesThird_120 rfl (ci := 3) rfl tC ⟨by decide +kernel, by decide +kernel⟩ oX3_adds.2.2.2 rfl q1165 q1167 qs40 qs40 q1167 (Nat.le_of_ble_eq_true rfl) (Nat.le_of_ble_eq_true rfl) (g_rI ?_) g_nt rfl
        refine g_istore (pc' := 125) (L' := [some (.ref A.1), none, some (.int q5), some (.int q11), some (.int q18.1), some (.int q18.2.1), some (.int q19.1)]) dX3_makesThird_123 rfl (Nat.le_of_ble_eq_true rfl) rfl rfl ?_
        refine g_aload_n (pc' := 126) dX3_makesThird_125 rfl rfl rfl ?_
        refine gt_get (k := 0) (pc' := 129) (by decide) dX3_makesThird_126 rfl q1048 rfl ?_
        refine g_iload (pc' := 131) dX3_makesThird_129 rfl rfl ?_
        refine g_iconst (pc' := 132) (v := 2) dX3_makesThird_131 rfl (by decide) ?_
        obtain ⟨q20, hq20, hf⟩ := Option.bind_eq_some_iff.mp hf
        refine g_callS (pc' := 135) (as := [.int q19.1, .int 2]) (wX3_spotOf g _ q19.1 2 hq20) oX3_spotOf ⟨Nat.le_of_ble_eq_true rfl, Nat.le_of_ble_eq_true rfl⟩ dX3_makesThird_132 rfl q1138 q1139 q86 (Nat.le_of_ble_eq_true rfl) (Nat.le_of_ble_eq_true rfl) (g_rI ?_) g_nt rfl
        refine g_iload (pc' := 137) dX3_makesThird_135 rfl rfl ?_
        refine g_iconst (pc' := 138) (v := 2) dX3_makesThird_137 rfl (by decide) ?_
        refine g_idiv (pc' := 139) dX3_makesThird_138 rfl (by decide) ?_
        obtain ⟨w21, hw21, hf⟩ := Option.bind_eq_some_iff.mp hf
        refine gt_iast (pc' := 140) hA (by decide) dX3_makesThird_139 rfl hw21 ?_
        obtain rfl := Option.some.inj hf
        exact g_vret dX3_makesThird_140 rfl ⟨rfl, rfl⟩
      · replace hf := (if_pos h10).symm.trans hf
        obtain rfl := Option.some.inj hf
        exact g_vret dX3_makesThird_52 rfl ⟨rfl, rfl⟩
def mdX3_day : bMD := (yX3_day, cX3_day, 2, none, [], 7, 144)
theorem oX3_day : bOkc mdX3_day 0 := ⟨by decide +kernel, ⟨by decide +kernel, by decide +kernel⟩, by decide +kernel, q1266⟩
def fX3_day_l2  (rec : (Int32 × tM) → Option (Int32 × tM)) (s : Int32 × tM) : Option (Int32 × tM) :=
  Option.bind (rA s.2 0 0) fun v1 =>
  (if v1 ≤ s.1 then
  some (s.1, s.2)
else
  Option.bind (fX3_its s.2 s.1 4) fun q3 =>
  Option.bind (α := tM) ((if q3 = (-1) then
  some s.2
else
  Option.bind (fX3_feeds s.2 s.1) fun q6 =>
  some q6)) fun q4 =>
  rec ((s.1 + 1), q4))
def fX3_day_l35  (rec : (Int32 × tM) → Option (Int32 × tM)) (s : Int32 × tM) : Option (Int32 × tM) :=
  Option.bind (rA s.2 0 0) fun v8 =>
  (if v8 ≤ s.1 then
  some (s.1, s.2)
else
  Option.bind (fX3_spotOf s.1 3) fun q10 =>
  Option.bind (fX3_its s.2 s.1 3) fun q11 =>
  Option.bind (fX3_heldTo (q11 + 1) 999) fun q12 =>
  Option.bind (wA s.2 0 q10 q12) fun w13 =>
  rec ((s.1 + 1), w13))
def fX3_day_l77  (rec : (Int32 × tM) → Option (Int32 × tM)) (s : Int32 × tM) : Option (Int32 × tM) :=
  (if 8 ≤ s.1 then
  some (s.1, s.2)
else
  Option.bind (fX3_makesThird s.2 s.1) fun q16 =>
  rec ((s.1 + 1), q16))
def fX3_day_l96  (rec : (Int32 × tM) → Option (Int32 × tM)) (s : Int32 × tM) : Option (Int32 × tM) :=
  Option.bind (rA s.2 0 0) fun v18 =>
  (if v18 ≤ s.1 then
  some (s.1, s.2)
else
  Option.bind (fX3_its s.2 s.1 4) fun q20 =>
  Option.bind (α := tM) ((if q20 = (-1) then
  Option.bind (fX3_its s.2 s.1 1) fun q23 =>
  Option.bind (fX3_isTrue s.2 q23) fun q24 =>
  (if q24 = 0 then
  Option.bind (fX3_spotOf s.1 4) fun q26 =>
  Option.bind (fX3_hostOf s.2 s.1) fun q27 =>
  Option.bind (wA s.2 0 q26 q27) fun w28 =>
  some w28
else
  some s.2)
else
  some s.2)) fun q21 =>
  rec ((s.1 + 1), q21))
def fX3_day (M : tM)  : Option tM :=
  Option.bind (lpF (fX3_day_l2) FU (0, M)) fun q7 =>
  Option.bind (lpF (fX3_day_l35) FU (0, q7.2)) fun q14 =>
  Option.bind (lpF (fX3_day_l77) FU (0, q14.2)) fun q17 =>
  Option.bind (lpF (fX3_day_l96) FU (0, q17.2)) fun q29 =>
  Option.bind (rA q29.2 0 1) fun v30 =>
  Option.bind (wA q29.2 0 1 (v30 + 1)) fun w31 =>
  some w31
set_option maxHeartbeats 4000000 in
theorem wX3_day_l2 {g : bGh} {A : tA} (hA : tO A) {w : bWl} {n0 u0 : Nat} {Q : Outcome → bWl → Prop}  : ∀ (n : Nat) (s : Int32 × tM) (r : (Int32 × tM)), lpF (fX3_day_l2) n s = some r → bG (g, mdX3_day, n0, u0, Q) (tW A r.2 w) 33 [some (.ref A.1), some (.int r.1)] [] → bG (g, mdX3_day, n0, u0, Q) (tW A s.2 w) 2 [some (.ref A.1), some (.int s.1)] [] := by
  intro n
  induction n with
  | zero => intro s r hf; cases hf
  | succ n ih =>
    intro s r hf kx
    rw [lpF_s] at hf
    unfold fX3_day_l2 at hf
    refine g_iload_n (pc' := 3) dX3_day_2 rfl rfl rfl ?_
    refine g_aload_n (pc' := 4) dX3_day_3 rfl rfl rfl ?_
    refine gt_get (k := 0) (pc' := 7) (by decide) dX3_day_4 rfl q1048 rfl ?_
    refine g_iconst (pc' := 8) (v := 0) dX3_day_7 rfl (by decide) ?_
    obtain ⟨v1, hv1, hf⟩ := Option.bind_eq_some_iff.mp hf
    refine gt_iald (pc' := 9) hA (by decide) dX3_day_8 rfl hv1 ?_
    refine g_icmp_ge (tgt := 33) (pc' := 12) dX3_day_9 (by decide) rfl (fun h2 => ?_) (fun h2 => ?_)
    · replace hf := (if_pos h2).symm.trans hf
      obtain rfl := Option.some.inj hf
      exact kx
    · replace hf := (if_neg h2).symm.trans hf
      refine g_aload_n (pc' := 13) dX3_day_12 rfl rfl rfl ?_
      refine g_iload_n (pc' := 14) dX3_day_13 rfl rfl rfl ?_
      refine g_iconst (pc' := 15) (v := 4) dX3_day_14 rfl (by decide) ?_
      obtain ⟨q3, hq3, hf⟩ := Option.bind_eq_some_iff.mp hf
      refine g_callV (pc' := 18) (mx := mdX3_its) (as := [.int s.1, .int 4]) (wX3_its g hA _ _ s.1 4 hq3) oX3_its ⟨Nat.le_of_ble_eq_true rfl, Nat.le_of_ble_eq_true rfl⟩ dX3_day_15 rfl (ci := 3) rfl tC ⟨by decide +kernel, by decide +kernel⟩ oX3_its.2.2.2 rfl q1134 q1136 qs36 qs36 q1136 (Nat.le_of_ble_eq_true rfl) (Nat.le_of_ble_eq_true rfl) (g_rI ?_) g_nt rfl
      refine g_iconst (pc' := 19) (v := (-1)) dX3_day_18 rfl (by decide) ?_
      obtain ⟨q4, hqq4, hf⟩ := Option.bind_eq_some_iff.mp hf
      have hJq4 : bG (g, mdX3_day, n0, u0, Q) (tW A q4 w) 27 [some (.ref A.1), some (.int s.1)] [] := by
        refine g_iinc (pc' := 30) (v := s.1 + 1) (L' := [some (.ref A.1), some (.int (s.1 + 1))]) dX3_day_27 rfl rfl rfl (Nat.le_of_ble_eq_true rfl) rfl rfl ?_
        refine g_goto (tgt := 2) dX3_day_30 (by decide) ?_
        exact ih _ r hf kx
      replace hf := hqq4
      refine g_icmp_eq (tgt := 27) (pc' := 22) dX3_day_19 (by decide) rfl (fun h5 => ?_) (fun h5 => ?_)
      · replace hf := (if_pos h5).symm.trans hf
        obtain rfl := Option.some.inj hf
        exact hJq4
      · replace hf := (if_neg h5).symm.trans hf
        refine g_aload_n (pc' := 23) dX3_day_22 rfl rfl rfl ?_
        refine g_iload_n (pc' := 24) dX3_day_23 rfl rfl rfl ?_
        obtain ⟨q6, hq6, hf⟩ := Option.bind_eq_some_iff.mp hf
        refine g_callV (pc' := 27) (mx := mdX3_feeds) (as := [.int s.1]) (wX3_feeds g hA _ _ s.1 hq6) oX3_feeds ⟨Nat.le_of_ble_eq_true rfl, Nat.le_of_ble_eq_true rfl⟩ dX3_day_24 rfl (ci := 3) rfl tC ⟨by decide +kernel, by decide +kernel⟩ oX3_feeds.2.2.2 rfl q1267 q1269 qs52 qs52 q1269 (Nat.le_of_ble_eq_true rfl) (Nat.le_of_ble_eq_true rfl) (g_rV ?_) g_nt rfl
        obtain rfl := Option.some.inj hf
        exact hJq4
set_option maxHeartbeats 4000000 in
theorem wX3_day_l35 {g : bGh} {A : tA} (hA : tO A) {w : bWl} {n0 u0 : Nat} {Q : Outcome → bWl → Prop}  : ∀ (n : Nat) (s : Int32 × tM) (r : (Int32 × tM)), lpF (fX3_day_l35) n s = some r → bG (g, mdX3_day, n0, u0, Q) (tW A r.2 w) 75 [some (.ref A.1), some (.int r.1)] [] → bG (g, mdX3_day, n0, u0, Q) (tW A s.2 w) 35 [some (.ref A.1), some (.int s.1)] [] := by
  intro n
  induction n with
  | zero => intro s r hf; cases hf
  | succ n ih =>
    intro s r hf kx
    rw [lpF_s] at hf
    unfold fX3_day_l35 at hf
    refine g_iload_n (pc' := 36) dX3_day_35 rfl rfl rfl ?_
    refine g_aload_n (pc' := 37) dX3_day_36 rfl rfl rfl ?_
    refine gt_get (k := 0) (pc' := 40) (by decide) dX3_day_37 rfl q1048 rfl ?_
    refine g_iconst (pc' := 41) (v := 0) dX3_day_40 rfl (by decide) ?_
    obtain ⟨v8, hv8, hf⟩ := Option.bind_eq_some_iff.mp hf
    refine gt_iald (pc' := 42) hA (by decide) dX3_day_41 rfl hv8 ?_
    refine g_icmp_ge (tgt := 75) (pc' := 45) dX3_day_42 (by decide) rfl (fun h9 => ?_) (fun h9 => ?_)
    · replace hf := (if_pos h9).symm.trans hf
      obtain rfl := Option.some.inj hf
      exact kx
    · replace hf := (if_neg h9).symm.trans hf
      refine g_aload_n (pc' := 46) dX3_day_45 rfl rfl rfl ?_
      refine gt_get (k := 0) (pc' := 49) (by decide) dX3_day_46 rfl q1048 rfl ?_
      refine g_iload_n (pc' := 50) dX3_day_49 rfl rfl rfl ?_
      refine g_iconst (pc' := 51) (v := 3) dX3_day_50 rfl (by decide) ?_
      obtain ⟨q10, hq10, hf⟩ := Option.bind_eq_some_iff.mp hf
      refine g_callS (pc' := 54) (as := [.int s.1, .int 3]) (wX3_spotOf g _ s.1 3 hq10) oX3_spotOf ⟨Nat.le_of_ble_eq_true rfl, Nat.le_of_ble_eq_true rfl⟩ dX3_day_51 rfl q1138 q1139 q86 (Nat.le_of_ble_eq_true rfl) (Nat.le_of_ble_eq_true rfl) (g_rI ?_) g_nt rfl
      refine g_aload_n (pc' := 55) dX3_day_54 rfl rfl rfl ?_
      refine g_iload_n (pc' := 56) dX3_day_55 rfl rfl rfl ?_
      refine g_iconst (pc' := 57) (v := 3) dX3_day_56 rfl (by decide) ?_
      obtain ⟨q11, hq11, hf⟩ := Option.bind_eq_some_iff.mp hf
      refine g_callV (pc' := 60) (mx := mdX3_its) (as := [.int s.1, .int 3]) (wX3_its g hA _ _ s.1 3 hq11) oX3_its ⟨Nat.le_of_ble_eq_true rfl, Nat.le_of_ble_eq_true rfl⟩ dX3_day_57 rfl (ci := 3) rfl tC ⟨by decide +kernel, by decide +kernel⟩ oX3_its.2.2.2 rfl q1134 q1136 qs36 qs36 q1136 (Nat.le_of_ble_eq_true rfl) (Nat.le_of_ble_eq_true rfl) (g_rI ?_) g_nt rfl
      refine g_iconst (pc' := 61) (v := 1) dX3_day_60 rfl (by decide) ?_
      refine g_iadd (pc' := 62) dX3_day_61 rfl ?_
      refine g_sipush (pc' := 65) (v := 999) dX3_day_62 rfl (by decide) ?_
      obtain ⟨q12, hq12, hf⟩ := Option.bind_eq_some_iff.mp hf
      refine g_callS (pc' := 68) (as := [.int (q11 + 1), .int 999]) (wX3_heldTo g _ (q11 + 1) 999 hq12) oX3_heldTo ⟨Nat.le_of_ble_eq_true rfl, Nat.le_of_ble_eq_true rfl⟩ dX3_day_65 rfl q1239 q1240 q86 (Nat.le_of_ble_eq_true rfl) (Nat.le_of_ble_eq_true rfl) (g_rI ?_) g_nt rfl
      obtain ⟨w13, hw13, hf⟩ := Option.bind_eq_some_iff.mp hf
      refine gt_iast (pc' := 69) hA (by decide) dX3_day_68 rfl hw13 ?_
      refine g_iinc (pc' := 72) (v := s.1 + 1) (L' := [some (.ref A.1), some (.int (s.1 + 1))]) dX3_day_69 rfl rfl rfl (Nat.le_of_ble_eq_true rfl) rfl rfl ?_
      refine g_goto (tgt := 35) dX3_day_72 (by decide) ?_
      exact ih _ r hf kx
set_option maxHeartbeats 4000000 in
theorem wX3_day_l77 {g : bGh} {A : tA} (hA : tO A) {w : bWl} {n0 u0 : Nat} {Q : Outcome → bWl → Prop}  : ∀ (n : Nat) (s : Int32 × tM) (r : (Int32 × tM)), lpF (fX3_day_l77) n s = some r → bG (g, mdX3_day, n0, u0, Q) (tW A r.2 w) 94 [some (.ref A.1), some (.int r.1)] [] → bG (g, mdX3_day, n0, u0, Q) (tW A s.2 w) 77 [some (.ref A.1), some (.int s.1)] [] := by
  intro n
  induction n with
  | zero => intro s r hf; cases hf
  | succ n ih =>
    intro s r hf kx
    rw [lpF_s] at hf
    unfold fX3_day_l77 at hf
    refine g_iload_n (pc' := 78) dX3_day_77 rfl rfl rfl ?_
    refine g_bipush (pc' := 80) (v := 8) dX3_day_78 rfl (by decide) ?_
    refine g_icmp_ge (tgt := 94) (pc' := 83) dX3_day_80 (by decide) rfl (fun h15 => ?_) (fun h15 => ?_)
    · replace hf := (if_pos h15).symm.trans hf
      obtain rfl := Option.some.inj hf
      exact kx
    · replace hf := (if_neg h15).symm.trans hf
      refine g_aload_n (pc' := 84) dX3_day_83 rfl rfl rfl ?_
      refine g_iload_n (pc' := 85) dX3_day_84 rfl rfl rfl ?_
      obtain ⟨q16, hq16, hf⟩ := Option.bind_eq_some_iff.mp hf
      refine g_callV (pc' := 88) (mx := mdX3_makesThird) (as := [.int s.1]) (wX3_makesThird g hA _ _ s.1 hq16) oX3_makesThird ⟨Nat.le_of_ble_eq_true rfl, Nat.le_of_ble_eq_true rfl⟩ dX3_day_85 rfl (ci := 3) rfl tC ⟨by decide +kernel, by decide +kernel⟩ oX3_makesThird.2.2.2 rfl q1271 q1273 qs53 qs53 q1273 (Nat.le_of_ble_eq_true rfl) (Nat.le_of_ble_eq_true rfl) (g_rV ?_) g_nt rfl
      refine g_iinc (pc' := 91) (v := s.1 + 1) (L' := [some (.ref A.1), some (.int (s.1 + 1))]) dX3_day_88 rfl rfl rfl (Nat.le_of_ble_eq_true rfl) rfl rfl ?_
      refine g_goto (tgt := 77) dX3_day_91 (by decide) ?_
      exact ih _ r hf kx
set_option maxHeartbeats 4000000 in
theorem wX3_day_l96 {g : bGh} {A : tA} (hA : tO A) {w : bWl} {n0 u0 : Nat} {Q : Outcome → bWl → Prop}  : ∀ (n : Nat) (s : Int32 × tM) (r : (Int32 × tM)), lpF (fX3_day_l96) n s = some r → bG (g, mdX3_day, n0, u0, Q) (tW A r.2 w) 150 [some (.ref A.1), some (.int r.1)] [] → bG (g, mdX3_day, n0, u0, Q) (tW A s.2 w) 96 [some (.ref A.1), some (.int s.1)] [] := by
  intro n
  induction n with
  | zero => intro s r hf; cases hf
  | succ n ih =>
    intro s r hf kx
    rw [lpF_s] at hf
    unfold fX3_day_l96 at hf
    refine g_iload_n (pc' := 97) dX3_day_96 rfl rfl rfl ?_
    refine g_aload_n (pc' := 98) dX3_day_97 rfl rfl rfl ?_
    refine gt_get (k := 0) (pc' := 101) (by decide) dX3_day_98 rfl q1048 rfl ?_
    refine g_iconst (pc' := 102) (v := 0) dX3_day_101 rfl (by decide) ?_
    obtain ⟨v18, hv18, hf⟩ := Option.bind_eq_some_iff.mp hf
    refine gt_iald (pc' := 103) hA (by decide) dX3_day_102 rfl hv18 ?_
    refine g_icmp_ge (tgt := 150) (pc' := 106) dX3_day_103 (by decide) rfl (fun h19 => ?_) (fun h19 => ?_)
    · replace hf := (if_pos h19).symm.trans hf
      obtain rfl := Option.some.inj hf
      exact kx
    · replace hf := (if_neg h19).symm.trans hf
      refine g_aload_n (pc' := 107) dX3_day_106 rfl rfl rfl ?_
      refine g_iload_n (pc' := 108) dX3_day_107 rfl rfl rfl ?_
      refine g_iconst (pc' := 109) (v := 4) dX3_day_108 rfl (by decide) ?_
      obtain ⟨q20, hq20, hf⟩ := Option.bind_eq_some_iff.mp hf
      refine g_callV (pc' := 112) (mx := mdX3_its) (as := [.int s.1, .int 4]) (wX3_its g hA _ _ s.1 4 hq20) oX3_its ⟨Nat.le_of_ble_eq_true rfl, Nat.le_of_ble_eq_true rfl⟩ dX3_day_109 rfl (ci := 3) rfl tC ⟨by decide +kernel, by decide +kernel⟩ oX3_its.2.2.2 rfl q1134 q1136 qs36 qs36 q1136 (Nat.le_of_ble_eq_true rfl) (Nat.le_of_ble_eq_true rfl) (g_rI ?_) g_nt rfl
      refine g_iconst (pc' := 113) (v := (-1)) dX3_day_112 rfl (by decide) ?_
      obtain ⟨q21, hqq21, hf⟩ := Option.bind_eq_some_iff.mp hf
      have hJq21 : bG (g, mdX3_day, n0, u0, Q) (tW A q21 w) 144 [some (.ref A.1), some (.int s.1)] [] := by
        refine g_iinc (pc' := 147) (v := s.1 + 1) (L' := [some (.ref A.1), some (.int (s.1 + 1))]) dX3_day_144 rfl rfl rfl (Nat.le_of_ble_eq_true rfl) rfl rfl ?_
        refine g_goto (tgt := 96) dX3_day_147 (by decide) ?_
        exact ih _ r hf kx
      replace hf := hqq21
      refine g_icmp_ne (tgt := 144) (pc' := 116) dX3_day_113 (by decide) rfl (fun h22 => ?_) (fun h22 => ?_)
      · replace hf := (if_neg h22).symm.trans hf
        obtain rfl := Option.some.inj hf
        exact hJq21
      · replace hf := (if_pos h22).symm.trans hf
        refine g_aload_n (pc' := 117) dX3_day_116 rfl rfl rfl ?_
        refine g_aload_n (pc' := 118) dX3_day_117 rfl rfl rfl ?_
        refine g_iload_n (pc' := 119) dX3_day_118 rfl rfl rfl ?_
        refine g_iconst (pc' := 120) (v := 1) dX3_day_119 rfl (by decide) ?_
        obtain ⟨q23, hq23, hf⟩ := Option.bind_eq_some_iff.mp hf
        refine g_callV (pc' := 123) (mx := mdX3_its) (as := [.int s.1, .int 1]) (wX3_its g hA _ _ s.1 1 hq23) oX3_its ⟨Nat.le_of_ble_eq_true rfl, Nat.le_of_ble_eq_true rfl⟩ dX3_day_120 rfl (ci := 3) rfl tC ⟨by decide +kernel, by decide +kernel⟩ oX3_its.2.2.2 rfl q1134 q1136 qs36 qs36 q1136 (Nat.le_of_ble_eq_true rfl) (Nat.le_of_ble_eq_true rfl) (g_rI ?_) g_nt rfl
        obtain ⟨q24, hq24, hf⟩ := Option.bind_eq_some_iff.mp hf
        refine g_callV (pc' := 126) (mx := mdX3_isTrue) (as := [.int q23]) (wX3_isTrue g hA _ _ q23 hq24) oX3_isTrue ⟨Nat.le_of_ble_eq_true rfl, Nat.le_of_ble_eq_true rfl⟩ dX3_day_123 rfl (ci := 3) rfl tC ⟨by decide +kernel, by decide +kernel⟩ oX3_isTrue.2.2.2 rfl q1221 q1223 qs46 qs46 q1223 (Nat.le_of_ble_eq_true rfl) (Nat.le_of_ble_eq_true rfl) (g_rI ?_) g_nt rfl
        refine g_if_ne (tgt := 144) (pc' := 129) dX3_day_126 (by decide) rfl (fun h25 => ?_) (fun h25 => ?_)
        · replace hf := (if_neg h25).symm.trans hf
          obtain rfl := Option.some.inj hf
          exact hJq21
        · replace hf := (if_pos h25).symm.trans hf
          refine g_aload_n (pc' := 130) dX3_day_129 rfl rfl rfl ?_
          refine gt_get (k := 0) (pc' := 133) (by decide) dX3_day_130 rfl q1048 rfl ?_
          refine g_iload_n (pc' := 134) dX3_day_133 rfl rfl rfl ?_
          refine g_iconst (pc' := 135) (v := 4) dX3_day_134 rfl (by decide) ?_
          obtain ⟨q26, hq26, hf⟩ := Option.bind_eq_some_iff.mp hf
          refine g_callS (pc' := 138) (as := [.int s.1, .int 4]) (wX3_spotOf g _ s.1 4 hq26) oX3_spotOf ⟨Nat.le_of_ble_eq_true rfl, Nat.le_of_ble_eq_true rfl⟩ dX3_day_135 rfl q1138 q1139 q86 (Nat.le_of_ble_eq_true rfl) (Nat.le_of_ble_eq_true rfl) (g_rI ?_) g_nt rfl
          refine g_aload_n (pc' := 139) dX3_day_138 rfl rfl rfl ?_
          refine g_iload_n (pc' := 140) dX3_day_139 rfl rfl rfl ?_
          obtain ⟨q27, hq27, hf⟩ := Option.bind_eq_some_iff.mp hf
          refine g_callV (pc' := 143) (mx := mdX3_hostOf) (as := [.int s.1]) (wX3_hostOf g hA _ _ s.1 hq27) oX3_hostOf ⟨Nat.le_of_ble_eq_true rfl, Nat.le_of_ble_eq_true rfl⟩ dX3_day_140 rfl (ci := 3) rfl tC ⟨by decide +kernel, by decide +kernel⟩ oX3_hostOf.2.2.2 rfl q1226 q1228 qs47 qs47 q1228 (Nat.le_of_ble_eq_true rfl) (Nat.le_of_ble_eq_true rfl) (g_rI ?_) g_nt rfl
          obtain ⟨w28, hw28, hf⟩ := Option.bind_eq_some_iff.mp hf
          refine gt_iast (pc' := 144) hA (by decide) dX3_day_143 rfl hw28 ?_
          obtain rfl := Option.some.inj hf
          exact hJq21
set_option maxHeartbeats 4000000 in
theorem wX3_day (g : bGh) {A : tA} (hA : tO A) (w : bWl) (M : tM)  {r : tM} (hf : fX3_day M  = some r) : bM g mdX3_day (tW A M w) [.ref A.1] (q_ none (tW A r w)) := by
  unfold fX3_day at hf
  change bG _ _ 0 [some (.ref A.1)] []
  refine g_iconst (pc' := 1) (v := 0) dX3_day_0 rfl (by decide) ?_
  refine g_istore_n (pc' := 2) (L' := [some (.ref A.1), some (.int 0)]) dX3_day_1 rfl rfl (Nat.le_of_ble_eq_true rfl) rfl rfl ?_
  obtain ⟨q7, hq7, hf⟩ := Option.bind_eq_some_iff.mp hf
  refine wX3_day_l2 hA FU (0, M) q7 hq7 ?_
  refine g_iconst (pc' := 34) (v := 0) dX3_day_33 rfl (by decide) ?_
  refine g_istore_n (pc' := 35) (L' := [some (.ref A.1), some (.int 0)]) dX3_day_34 rfl rfl (Nat.le_of_ble_eq_true rfl) rfl rfl ?_
  obtain ⟨q14, hq14, hf⟩ := Option.bind_eq_some_iff.mp hf
  refine wX3_day_l35 hA FU (0, q7.2) q14 hq14 ?_
  refine g_iconst (pc' := 76) (v := 0) dX3_day_75 rfl (by decide) ?_
  refine g_istore_n (pc' := 77) (L' := [some (.ref A.1), some (.int 0)]) dX3_day_76 rfl rfl (Nat.le_of_ble_eq_true rfl) rfl rfl ?_
  obtain ⟨q17, hq17, hf⟩ := Option.bind_eq_some_iff.mp hf
  refine wX3_day_l77 hA FU (0, q14.2) q17 hq17 ?_
  refine g_iconst (pc' := 95) (v := 0) dX3_day_94 rfl (by decide) ?_
  refine g_istore_n (pc' := 96) (L' := [some (.ref A.1), some (.int 0)]) dX3_day_95 rfl rfl (Nat.le_of_ble_eq_true rfl) rfl rfl ?_
  obtain ⟨q29, hq29, hf⟩ := Option.bind_eq_some_iff.mp hf
  refine wX3_day_l96 hA FU (0, q17.2) q29 hq29 ?_
  refine g_aload_n (pc' := 151) dX3_day_150 rfl rfl rfl ?_
  refine gt_get (k := 0) (pc' := 154) (by decide) dX3_day_151 rfl q1048 rfl ?_
  refine g_iconst (pc' := 155) (v := 1) dX3_day_154 rfl (by decide) ?_
  refine g_dup2 (pc' := 156) dX3_day_155 rfl rfl rfl ?_
  obtain ⟨v30, hv30, hf⟩ := Option.bind_eq_some_iff.mp hf
  refine gt_iald (pc' := 157) hA (by decide) dX3_day_156 rfl hv30 ?_
  refine g_iconst (pc' := 158) (v := 1) dX3_day_157 rfl (by decide) ?_
  refine g_iadd (pc' := 159) dX3_day_158 rfl ?_
  obtain ⟨w31, hw31, hf⟩ := Option.bind_eq_some_iff.mp hf
  refine gt_iast (pc' := 160) hA (by decide) dX3_day_159 rfl hw31 ?_
  obtain rfl := Option.some.inj hf
  exact g_vret dX3_day_160 rfl ⟨rfl, rfl⟩
def mdX3_daysGo : bMD := (yX3_daysGo, cX3_daysGo, 3, none, [], 8, 165)
theorem oX3_daysGo : bOkc mdX3_daysGo 1 := ⟨by decide +kernel, ⟨by decide +kernel, by decide +kernel⟩, by decide +kernel, q1262⟩
def fX3_daysGo_l2 (y1 : Int32) (rec : (Int32 × tM) → Option (Int32 × tM)) (s : Int32 × tM) : Option (Int32 × tM) :=
  (if y1 ≤ s.1 then
  some (s.1, s.2)
else
  Option.bind (fX3_day s.2) fun q2 =>
  rec ((s.1 + 1), q2))
def fX3_daysGo (M : tM) (x1 : Int32) : Option tM :=
  Option.bind (lpF (fX3_daysGo_l2 x1) FU (0, M)) fun q3 =>
  some q3.2
set_option maxHeartbeats 4000000 in
theorem wX3_daysGo_l2 {g : bGh} {A : tA} (hA : tO A) {w : bWl} {n0 u0 : Nat} {Q : Outcome → bWl → Prop} (y1 : Int32) : ∀ (n : Nat) (s : Int32 × tM) (r : (Int32 × tM)), lpF (fX3_daysGo_l2 y1) n s = some r → bG (g, mdX3_daysGo, n0, u0, Q) (tW A r.2 w) 17 [some (.ref A.1), some (.int y1), some (.int r.1)] [] → bG (g, mdX3_daysGo, n0, u0, Q) (tW A s.2 w) 2 [some (.ref A.1), some (.int y1), some (.int s.1)] [] := by
  intro n
  induction n with
  | zero => intro s r hf; cases hf
  | succ n ih =>
    intro s r hf kx
    rw [lpF_s] at hf
    unfold fX3_daysGo_l2 at hf
    refine g_iload_n (pc' := 3) dX3_daysGo_2 rfl rfl rfl ?_
    refine g_iload_n (pc' := 4) dX3_daysGo_3 rfl rfl rfl ?_
    refine g_icmp_ge (tgt := 17) (pc' := 7) dX3_daysGo_4 (by decide) rfl (fun h1 => ?_) (fun h1 => ?_)
    · replace hf := (if_pos h1).symm.trans hf
      obtain rfl := Option.some.inj hf
      exact kx
    · replace hf := (if_neg h1).symm.trans hf
      refine g_aload_n (pc' := 8) dX3_daysGo_7 rfl rfl rfl ?_
      obtain ⟨q2, hq2, hf⟩ := Option.bind_eq_some_iff.mp hf
      refine g_callV (pc' := 11) (mx := mdX3_day) (as := []) (wX3_day g hA _ _ hq2) oX3_day ⟨Nat.le_of_ble_eq_true rfl, Nat.le_of_ble_eq_true rfl⟩ dX3_daysGo_8 rfl (ci := 3) rfl tC ⟨by decide +kernel, by decide +kernel⟩ oX3_day.2.2.2 rfl q1263 q1265 qs51 qs51 q1265 (Nat.le_of_ble_eq_true rfl) (Nat.le_of_ble_eq_true rfl) (g_rV ?_) g_nt rfl
      refine g_iinc (pc' := 14) (v := s.1 + 1) (L' := [some (.ref A.1), some (.int y1), some (.int (s.1 + 1))]) dX3_daysGo_11 rfl rfl rfl (Nat.le_of_ble_eq_true rfl) rfl rfl ?_
      refine g_goto (tgt := 2) dX3_daysGo_14 (by decide) ?_
      exact ih _ r hf kx
set_option maxHeartbeats 4000000 in
theorem wX3_daysGo (g : bGh) {A : tA} (hA : tO A) (w : bWl) (M : tM) (x1 : Int32) {r : tM} (hf : fX3_daysGo M x1 = some r) : bM g mdX3_daysGo (tW A M w) [.ref A.1, .int x1] (q_ none (tW A r w)) := by
  unfold fX3_daysGo at hf
  change bG _ _ 0 [some (.ref A.1), some (.int x1)] []
  refine g_iconst (pc' := 1) (v := 0) dX3_daysGo_0 rfl (by decide) ?_
  refine g_istore_n (pc' := 2) (L' := [some (.ref A.1), some (.int x1), some (.int 0)]) dX3_daysGo_1 rfl rfl (Nat.le_of_ble_eq_true rfl) rfl rfl ?_
  obtain ⟨q3, hq3, hf⟩ := Option.bind_eq_some_iff.mp hf
  refine wX3_daysGo_l2 hA x1 FU (0, M) q3 hq3 ?_
  obtain rfl := Option.some.inj hf
  exact g_vret dX3_daysGo_17 rfl ⟨rfl, rfl⟩
def mdX3_days : bMD := (yX3_days, cX3_days, 2, (some FieldType.int), [], 9, 187)
theorem oX3_days : bOkc mdX3_days 1 := ⟨by decide +kernel, ⟨by decide +kernel, by decide +kernel⟩, by decide +kernel, q1257⟩
def fX3_days (M : tM) (x1 : Int32) : Option (Int32 × tM) :=
  Option.bind (fX3_in ((x1 : Int32).toInt64) 1 60) fun q1 =>
  (if q1 = 0 then
  Option.bind (fX3_finds M (-1000000001)) fun q8 =>
  some (q8.1, q8.2)
else
  Option.bind (rA M 0 1) fun v3 =>
  (if (v3 + x1) ≤ 9999 then
  Option.bind (fX3_daysGo M x1) fun q5 =>
  Option.bind (rA q5 0 0) fun v6 =>
  some (v6, q5)
else
  Option.bind (fX3_finds M (-1000000005)) fun q7 =>
  some (q7.1, q7.2)))
set_option maxHeartbeats 4000000 in
theorem wX3_days (g : bGh) {A : tA} (hA : tO A) (w : bWl) (M : tM) (x1 : Int32) {r : (Int32 × tM)} (hf : fX3_days M x1 = some r) : bM g mdX3_days (tW A M w) [.ref A.1, .int x1] (q_ (eI r.1) (tW A r.2 w)) := by
  unfold fX3_days at hf
  change bG _ _ 0 [some (.ref A.1), some (.int x1)] []
  refine g_iload_n (pc' := 1) dX3_days_0 rfl rfl rfl ?_
  refine g_i2l (pc' := 2) dX3_days_1 rfl ?_
  refine g_lconst (pc' := 3) (v := 1) dX3_days_2 rfl (by decide) ?_
  refine g_ldc2 (pc' := 6) dX3_days_3 rfl q1258 ?_
  obtain ⟨q1, hq1, hf⟩ := Option.bind_eq_some_iff.mp hf
  refine g_callS (pc' := 9) (as := [.long ((x1 : Int32).toInt64), .long 1, .long 60]) (wX3_in g _ ((x1 : Int32).toInt64) 1 60 hq1) oX3_in ⟨Nat.le_of_ble_eq_true rfl, Nat.le_of_ble_eq_true rfl⟩ dX3_days_6 rfl q1102 q1103 q86 (Nat.le_of_ble_eq_true rfl) (Nat.le_of_ble_eq_true rfl) (g_rI ?_) g_nt rfl
  refine g_if_ne (tgt := 19) (pc' := 12) dX3_days_9 (by decide) rfl (fun h2 => ?_) (fun h2 => ?_)
  · replace hf := (if_neg h2).symm.trans hf
    refine g_aload_n (pc' := 20) dX3_days_19 rfl rfl rfl ?_
    refine gt_get (k := 0) (pc' := 23) (by decide) dX3_days_20 rfl q1048 rfl ?_
    refine g_iconst (pc' := 24) (v := 1) dX3_days_23 rfl (by decide) ?_
    obtain ⟨v3, hv3, hf⟩ := Option.bind_eq_some_iff.mp hf
    refine gt_iald (pc' := 25) hA (by decide) dX3_days_24 rfl hv3 ?_
    refine g_iload_n (pc' := 26) dX3_days_25 rfl rfl rfl ?_
    refine g_iadd (pc' := 27) dX3_days_26 rfl ?_
    refine g_sipush (pc' := 30) (v := 9999) dX3_days_27 rfl (by decide) ?_
    refine g_icmp_le (tgt := 40) (pc' := 33) dX3_days_30 (by decide) rfl (fun h4 => ?_) (fun h4 => ?_)
    · replace hf := (if_pos h4).symm.trans hf
      refine g_aload_n (pc' := 41) dX3_days_40 rfl rfl rfl ?_
      refine g_iload_n (pc' := 42) dX3_days_41 rfl rfl rfl ?_
      obtain ⟨q5, hq5, hf⟩ := Option.bind_eq_some_iff.mp hf
      refine g_callV (pc' := 45) (mx := mdX3_daysGo) (as := [.int x1]) (wX3_daysGo g hA _ _ x1 hq5) oX3_daysGo ⟨Nat.le_of_ble_eq_true rfl, Nat.le_of_ble_eq_true rfl⟩ dX3_days_42 rfl (ci := 3) rfl tC ⟨by decide +kernel, by decide +kernel⟩ oX3_daysGo.2.2.2 rfl q1259 q1261 qs50 qs50 q1261 (Nat.le_of_ble_eq_true rfl) (Nat.le_of_ble_eq_true rfl) (g_rV ?_) g_nt rfl
      refine g_aload_n (pc' := 46) dX3_days_45 rfl rfl rfl ?_
      refine gt_get (k := 0) (pc' := 49) (by decide) dX3_days_46 rfl q1048 rfl ?_
      refine g_iconst (pc' := 50) (v := 0) dX3_days_49 rfl (by decide) ?_
      obtain ⟨v6, hv6, hf⟩ := Option.bind_eq_some_iff.mp hf
      refine gt_iald (pc' := 51) hA (by decide) dX3_days_50 rfl hv6 ?_
      obtain rfl := Option.some.inj hf
      exact g_iret dX3_days_51 rfl rfl ⟨rfl, rfl⟩
    · replace hf := (if_neg h4).symm.trans hf
      refine g_aload_n (pc' := 34) dX3_days_33 rfl rfl rfl ?_
      refine g_ldc (pc' := 36) dX3_days_34 rfl q1225 ?_
      obtain ⟨q7, hq7, hf⟩ := Option.bind_eq_some_iff.mp hf
      refine g_callV (pc' := 39) (mx := mdX3_finds) (as := [.int (-1000000005)]) (wX3_finds g hA _ _ (-1000000005) hq7) oX3_finds ⟨Nat.le_of_ble_eq_true rfl, Nat.le_of_ble_eq_true rfl⟩ dX3_days_36 rfl (ci := 3) rfl tC ⟨by decide +kernel, by decide +kernel⟩ oX3_finds.2.2.2 rfl q1117 q1119 qs33 qs33 q1119 (Nat.le_of_ble_eq_true rfl) (Nat.le_of_ble_eq_true rfl) (g_rI ?_) g_nt rfl
      obtain rfl := Option.some.inj hf
      exact g_iret dX3_days_39 rfl rfl ⟨rfl, rfl⟩
  · replace hf := (if_pos h2).symm.trans hf
    refine g_aload_n (pc' := 13) dX3_days_12 rfl rfl rfl ?_
    refine g_ldc (pc' := 15) dX3_days_13 rfl q1116 ?_
    obtain ⟨q8, hq8, hf⟩ := Option.bind_eq_some_iff.mp hf
    refine g_callV (pc' := 18) (mx := mdX3_finds) (as := [.int (-1000000001)]) (wX3_finds g hA _ _ (-1000000001) hq8) oX3_finds ⟨Nat.le_of_ble_eq_true rfl, Nat.le_of_ble_eq_true rfl⟩ dX3_days_15 rfl (ci := 3) rfl tC ⟨by decide +kernel, by decide +kernel⟩ oX3_finds.2.2.2 rfl q1117 q1119 qs33 qs33 q1119 (Nat.le_of_ble_eq_true rfl) (Nat.le_of_ble_eq_true rfl) (g_rI ?_) g_nt rfl
    obtain rfl := Option.some.inj hf
    exact g_iret dX3_days_18 rfl rfl ⟨rfl, rfl⟩
def mdX3_bulks : bMD := (yX3_bulks, cX3_bulks, 3, (some FieldType.int), [], 3, 55)
theorem oX3_bulks : bOkc mdX3_bulks 0 := ⟨by decide +kernel, ⟨by decide +kernel, by decide +kernel⟩, by decide +kernel, q1290⟩
def fX3_bulks_l4 (M : tM)  (rec : (Int32 × Int32) → Option (Int32 × Int32)) (s : Int32 × Int32) : Option (Int32 × Int32) :=
  Option.bind (rA M 0 0) fun v1 =>
  (if v1 ≤ s.2 then
  some (s.1, s.2)
else
  Option.bind (fX3_its M s.2 2) fun q3 =>
  rec ((s.1 + q3), (s.2 + 1)))
def fX3_bulks (M : tM)  : Option Int32 :=
  Option.bind (lpF (fX3_bulks_l4 M) FU (0, 0)) fun q4 =>
  some q4.1
set_option maxHeartbeats 4000000 in
theorem wX3_bulks_l4 {g : bGh} {A : tA} (hA : tO A) {w : bWl} {M : tM} {n0 u0 : Nat} {Q : Outcome → bWl → Prop}  : ∀ (n : Nat) (s : Int32 × Int32) (r : (Int32 × Int32)), lpF (fX3_bulks_l4 M) n s = some r → bG (g, mdX3_bulks, n0, u0, Q) (tW A M w) 29 [some (.ref A.1), some (.int r.1), some (.int r.2)] [] → bG (g, mdX3_bulks, n0, u0, Q) (tW A M w) 4 [some (.ref A.1), some (.int s.1), some (.int s.2)] [] := by
  intro n
  induction n with
  | zero => intro s r hf; cases hf
  | succ n ih =>
    intro s r hf kx
    rw [lpF_s] at hf
    unfold fX3_bulks_l4 at hf
    refine g_iload_n (pc' := 5) dX3_bulks_4 rfl rfl rfl ?_
    refine g_aload_n (pc' := 6) dX3_bulks_5 rfl rfl rfl ?_
    refine gt_get (k := 0) (pc' := 9) (by decide) dX3_bulks_6 rfl q1048 rfl ?_
    refine g_iconst (pc' := 10) (v := 0) dX3_bulks_9 rfl (by decide) ?_
    obtain ⟨v1, hv1, hf⟩ := Option.bind_eq_some_iff.mp hf
    refine gt_iald (pc' := 11) hA (by decide) dX3_bulks_10 rfl hv1 ?_
    refine g_icmp_ge (tgt := 29) (pc' := 14) dX3_bulks_11 (by decide) rfl (fun h2 => ?_) (fun h2 => ?_)
    · replace hf := (if_pos h2).symm.trans hf
      obtain rfl := Option.some.inj hf
      exact kx
    · replace hf := (if_neg h2).symm.trans hf
      refine g_iload_n (pc' := 15) dX3_bulks_14 rfl rfl rfl ?_
      refine g_aload_n (pc' := 16) dX3_bulks_15 rfl rfl rfl ?_
      refine g_iload_n (pc' := 17) dX3_bulks_16 rfl rfl rfl ?_
      refine g_iconst (pc' := 18) (v := 2) dX3_bulks_17 rfl (by decide) ?_
      obtain ⟨q3, hq3, hf⟩ := Option.bind_eq_some_iff.mp hf
      refine g_callV (pc' := 21) (mx := mdX3_its) (as := [.int s.2, .int 2]) (wX3_its g hA _ _ s.2 2 hq3) oX3_its ⟨Nat.le_of_ble_eq_true rfl, Nat.le_of_ble_eq_true rfl⟩ dX3_bulks_18 rfl (ci := 3) rfl tC ⟨by decide +kernel, by decide +kernel⟩ oX3_its.2.2.2 rfl q1134 q1136 qs36 qs36 q1136 (Nat.le_of_ble_eq_true rfl) (Nat.le_of_ble_eq_true rfl) (g_rI ?_) g_nt rfl
      refine g_iadd (pc' := 22) dX3_bulks_21 rfl ?_
      refine g_istore_n (pc' := 23) (L' := [some (.ref A.1), some (.int (s.1 + q3)), some (.int s.2)]) dX3_bulks_22 rfl rfl (Nat.le_of_ble_eq_true rfl) rfl rfl ?_
      refine g_iinc (pc' := 26) (v := s.2 + 1) (L' := [some (.ref A.1), some (.int (s.1 + q3)), some (.int (s.2 + 1))]) dX3_bulks_23 rfl rfl rfl (Nat.le_of_ble_eq_true rfl) rfl rfl ?_
      refine g_goto (tgt := 4) dX3_bulks_26 (by decide) ?_
      exact ih _ r hf kx
set_option maxHeartbeats 4000000 in
theorem wX3_bulks (g : bGh) {A : tA} (hA : tO A) (w : bWl) (M : tM)  {r : Int32} (hf : fX3_bulks M  = some r) : bM g mdX3_bulks (tW A M w) [.ref A.1] (q_ (eI r) (tW A M w)) := by
  unfold fX3_bulks at hf
  change bG _ _ 0 [some (.ref A.1)] []
  refine g_iconst (pc' := 1) (v := 0) dX3_bulks_0 rfl (by decide) ?_
  refine g_istore_n (pc' := 2) (L' := [some (.ref A.1), some (.int 0)]) dX3_bulks_1 rfl rfl (Nat.le_of_ble_eq_true rfl) rfl rfl ?_
  refine g_iconst (pc' := 3) (v := 0) dX3_bulks_2 rfl (by decide) ?_
  refine g_istore_n (pc' := 4) (L' := [some (.ref A.1), some (.int 0), some (.int 0)]) dX3_bulks_3 rfl rfl (Nat.le_of_ble_eq_true rfl) rfl rfl ?_
  obtain ⟨q4, hq4, hf⟩ := Option.bind_eq_some_iff.mp hf
  refine wX3_bulks_l4 hA FU (0, 0) q4 hq4 ?_
  refine g_iload_n (pc' := 30) dX3_bulks_29 rfl rfl rfl ?_
  obtain rfl := Option.some.inj hf
  exact g_iret dX3_bulks_30 rfl rfl ⟨rfl, rfl⟩
def mdX3_larders : bMD := (yX3_larders, cX3_larders, 3, (some FieldType.int), [], 3, 55)
theorem oX3_larders : bOkc mdX3_larders 0 := ⟨by decide +kernel, ⟨by decide +kernel, by decide +kernel⟩, by decide +kernel, q1294⟩
def fX3_larders_l4 (M : tM)  (rec : (Int32 × Int32) → Option (Int32 × Int32)) (s : Int32 × Int32) : Option (Int32 × Int32) :=
  (if 8 ≤ s.2 then
  some (s.1, s.2)
else
  Option.bind (fX3_has M s.2 1) fun q2 =>
  rec ((s.1 + q2), (s.2 + 1)))
def fX3_larders (M : tM)  : Option Int32 :=
  Option.bind (lpF (fX3_larders_l4 M) FU (0, 0)) fun q3 =>
  some q3.1
set_option maxHeartbeats 4000000 in
theorem wX3_larders_l4 {g : bGh} {A : tA} (hA : tO A) {w : bWl} {M : tM} {n0 u0 : Nat} {Q : Outcome → bWl → Prop}  : ∀ (n : Nat) (s : Int32 × Int32) (r : (Int32 × Int32)), lpF (fX3_larders_l4 M) n s = some r → bG (g, mdX3_larders, n0, u0, Q) (tW A M w) 25 [some (.ref A.1), some (.int r.1), some (.int r.2)] [] → bG (g, mdX3_larders, n0, u0, Q) (tW A M w) 4 [some (.ref A.1), some (.int s.1), some (.int s.2)] [] := by
  intro n
  induction n with
  | zero => intro s r hf; cases hf
  | succ n ih =>
    intro s r hf kx
    rw [lpF_s] at hf
    unfold fX3_larders_l4 at hf
    refine g_iload_n (pc' := 5) dX3_larders_4 rfl rfl rfl ?_
    refine g_bipush (pc' := 7) (v := 8) dX3_larders_5 rfl (by decide) ?_
    refine g_icmp_ge (tgt := 25) (pc' := 10) dX3_larders_7 (by decide) rfl (fun h1 => ?_) (fun h1 => ?_)
    · replace hf := (if_pos h1).symm.trans hf
      obtain rfl := Option.some.inj hf
      exact kx
    · replace hf := (if_neg h1).symm.trans hf
      refine g_iload_n (pc' := 11) dX3_larders_10 rfl rfl rfl ?_
      refine g_aload_n (pc' := 12) dX3_larders_11 rfl rfl rfl ?_
      refine g_iload_n (pc' := 13) dX3_larders_12 rfl rfl rfl ?_
      refine g_iconst (pc' := 14) (v := 1) dX3_larders_13 rfl (by decide) ?_
      obtain ⟨q2, hq2, hf⟩ := Option.bind_eq_some_iff.mp hf
      refine g_callV (pc' := 17) (mx := mdX3_has) (as := [.int s.2, .int 1]) (wX3_has g hA _ _ s.2 1 hq2) oX3_has ⟨Nat.le_of_ble_eq_true rfl, Nat.le_of_ble_eq_true rfl⟩ dX3_larders_14 rfl (ci := 3) rfl tC ⟨by decide +kernel, by decide +kernel⟩ oX3_has.2.2.2 rfl q1126 q1128 qs34 qs34 q1128 (Nat.le_of_ble_eq_true rfl) (Nat.le_of_ble_eq_true rfl) (g_rI ?_) g_nt rfl
      refine g_iadd (pc' := 18) dX3_larders_17 rfl ?_
      refine g_istore_n (pc' := 19) (L' := [some (.ref A.1), some (.int (s.1 + q2)), some (.int s.2)]) dX3_larders_18 rfl rfl (Nat.le_of_ble_eq_true rfl) rfl rfl ?_
      refine g_iinc (pc' := 22) (v := s.2 + 1) (L' := [some (.ref A.1), some (.int (s.1 + q2)), some (.int (s.2 + 1))]) dX3_larders_19 rfl rfl rfl (Nat.le_of_ble_eq_true rfl) rfl rfl ?_
      refine g_goto (tgt := 4) dX3_larders_22 (by decide) ?_
      exact ih _ r hf kx
set_option maxHeartbeats 4000000 in
theorem wX3_larders (g : bGh) {A : tA} (hA : tO A) (w : bWl) (M : tM)  {r : Int32} (hf : fX3_larders M  = some r) : bM g mdX3_larders (tW A M w) [.ref A.1] (q_ (eI r) (tW A M w)) := by
  unfold fX3_larders at hf
  change bG _ _ 0 [some (.ref A.1)] []
  refine g_iconst (pc' := 1) (v := 0) dX3_larders_0 rfl (by decide) ?_
  refine g_istore_n (pc' := 2) (L' := [some (.ref A.1), some (.int 0)]) dX3_larders_1 rfl rfl (Nat.le_of_ble_eq_true rfl) rfl rfl ?_
  refine g_iconst (pc' := 3) (v := 0) dX3_larders_2 rfl (by decide) ?_
  refine g_istore_n (pc' := 4) (L' := [some (.ref A.1), some (.int 0), some (.int 0)]) dX3_larders_3 rfl rfl (Nat.le_of_ble_eq_true rfl) rfl rfl ?_
  obtain ⟨q3, hq3, hf⟩ := Option.bind_eq_some_iff.mp hf
  refine wX3_larders_l4 hA FU (0, 0) q3 hq3 ?_
  refine g_iload_n (pc' := 26) dX3_larders_25 rfl rfl rfl ?_
  obtain rfl := Option.some.inj hf
  exact g_iret dX3_larders_26 rfl rfl ⟨rfl, rfl⟩
def mdX3_freeBeds : bMD := (yX3_freeBeds, cX3_freeBeds, 3, (some FieldType.int), [], 5, 99)
theorem oX3_freeBeds : bOkc mdX3_freeBeds 0 := ⟨by decide +kernel, ⟨by decide +kernel, by decide +kernel⟩, by decide +kernel, q1298⟩
def fX3_freeBeds_l4 (M : tM)  (rec : (Int32 × Int32) → Option (Int32 × Int32)) (s : Int32 × Int32) : Option (Int32 × Int32) :=
  (if 8 ≤ s.2 then
  some (s.1, s.2)
else
  Option.bind (fX3_isFree M s.2) fun q2 =>
  Option.bind (α := Int32) ((if q2 = 0 then
  some 0
else
  Option.bind (fX3_has M s.2 0) fun q5 =>
  Option.bind (fX3_thoseAt M s.2) fun q6 =>
  Option.bind (fX3_ones q6) fun q7 =>
  some (q5 - q7))) fun q3 =>
  rec ((s.1 + q3), (s.2 + 1)))
def fX3_freeBeds (M : tM)  : Option Int32 :=
  Option.bind (lpF (fX3_freeBeds_l4 M) FU (0, 0)) fun q8 =>
  some q8.1
set_option maxHeartbeats 4000000 in
theorem wX3_freeBeds_l4 {g : bGh} {A : tA} (hA : tO A) {w : bWl} {M : tM} {n0 u0 : Nat} {Q : Outcome → bWl → Prop}  : ∀ (n : Nat) (s : Int32 × Int32) (r : (Int32 × Int32)), lpF (fX3_freeBeds_l4 M) n s = some r → bG (g, mdX3_freeBeds, n0, u0, Q) (tW A M w) 46 [some (.ref A.1), some (.int r.1), some (.int r.2)] [] → bG (g, mdX3_freeBeds, n0, u0, Q) (tW A M w) 4 [some (.ref A.1), some (.int s.1), some (.int s.2)] [] := by
  intro n
  induction n with
  | zero => intro s r hf; cases hf
  | succ n ih =>
    intro s r hf kx
    rw [lpF_s] at hf
    unfold fX3_freeBeds_l4 at hf
    refine g_iload_n (pc' := 5) dX3_freeBeds_4 rfl rfl rfl ?_
    refine g_bipush (pc' := 7) (v := 8) dX3_freeBeds_5 rfl (by decide) ?_
    refine g_icmp_ge (tgt := 46) (pc' := 10) dX3_freeBeds_7 (by decide) rfl (fun h1 => ?_) (fun h1 => ?_)
    · replace hf := (if_pos h1).symm.trans hf
      obtain rfl := Option.some.inj hf
      exact kx
    · replace hf := (if_neg h1).symm.trans hf
      refine g_iload_n (pc' := 11) dX3_freeBeds_10 rfl rfl rfl ?_
      refine g_aload_n (pc' := 12) dX3_freeBeds_11 rfl rfl rfl ?_
      refine g_iload_n (pc' := 13) dX3_freeBeds_12 rfl rfl rfl ?_
      obtain ⟨q2, hq2, hf⟩ := Option.bind_eq_some_iff.mp hf
      refine g_callV (pc' := 16) (mx := mdX3_isFree) (as := [.int s.2]) (wX3_isFree g hA _ _ s.2 hq2) oX3_isFree ⟨Nat.le_of_ble_eq_true rfl, Nat.le_of_ble_eq_true rfl⟩ dX3_freeBeds_13 rfl (ci := 3) rfl tC ⟨by decide +kernel, by decide +kernel⟩ oX3_isFree.2.2.2 rfl q1210 q1212 qs45 qs45 q1212 (Nat.le_of_ble_eq_true rfl) (Nat.le_of_ble_eq_true rfl) (g_rI ?_) g_nt rfl
      obtain ⟨q3, hqq3, hf⟩ := Option.bind_eq_some_iff.mp hf
      have hJq3 : bG (g, mdX3_freeBeds, n0, u0, Q) (tW A M w) 38 [some (.ref A.1), none, some (.int s.2)] [.int q3, .int s.1] := by
        refine g_iadd (pc' := 39) dX3_freeBeds_38 rfl ?_
        refine g_istore_n (pc' := 40) (L' := [some (.ref A.1), some (.int (s.1 + q3)), some (.int s.2)]) dX3_freeBeds_39 rfl rfl (Nat.le_of_ble_eq_true rfl) rfl rfl ?_
        refine g_iinc (pc' := 43) (v := s.2 + 1) (L' := [some (.ref A.1), some (.int (s.1 + q3)), some (.int (s.2 + 1))]) dX3_freeBeds_40 rfl rfl rfl (Nat.le_of_ble_eq_true rfl) rfl rfl ?_
        refine g_goto (tgt := 4) dX3_freeBeds_43 (by decide) ?_
        exact ih _ r hf kx
      replace hf := hqq3
      refine g_if_eq (tgt := 37) (pc' := 19) dX3_freeBeds_16 (by decide) rfl (fun h4 => ?_) (fun h4 => ?_)
      · replace hf := (if_pos h4).symm.trans hf
        refine g_iconst (pc' := 38) (v := 0) dX3_freeBeds_37 rfl (by decide) ?_
        obtain rfl := Option.some.inj hf
        refine g_drop [1] (L' := [some (.ref A.1), none, some (.int s.2)]) rfl ?_
        exact hJq3
      · replace hf := (if_neg h4).symm.trans hf
        refine g_aload_n (pc' := 20) dX3_freeBeds_19 rfl rfl rfl ?_
        refine g_iload_n (pc' := 21) dX3_freeBeds_20 rfl rfl rfl ?_
        refine g_iconst (pc' := 22) (v := 0) dX3_freeBeds_21 rfl (by decide) ?_
        obtain ⟨q5, hq5, hf⟩ := Option.bind_eq_some_iff.mp hf
        refine g_callV (pc' := 25) (mx := mdX3_has) (as := [.int s.2, .int 0]) (wX3_has g hA _ _ s.2 0 hq5) oX3_has ⟨Nat.le_of_ble_eq_true rfl, Nat.le_of_ble_eq_true rfl⟩ dX3_freeBeds_22 rfl (ci := 3) rfl tC ⟨by decide +kernel, by decide +kernel⟩ oX3_has.2.2.2 rfl q1126 q1128 qs34 qs34 q1128 (Nat.le_of_ble_eq_true rfl) (Nat.le_of_ble_eq_true rfl) (g_rI ?_) g_nt rfl
        refine g_aload_n (pc' := 26) dX3_freeBeds_25 rfl rfl rfl ?_
        refine g_iload_n (pc' := 27) dX3_freeBeds_26 rfl rfl rfl ?_
        obtain ⟨q6, hq6, hf⟩ := Option.bind_eq_some_iff.mp hf
        refine g_callV (pc' := 30) (mx := mdX3_thoseAt) (as := [.int s.2]) (wX3_thoseAt g hA _ _ s.2 hq6) oX3_thoseAt ⟨Nat.le_of_ble_eq_true rfl, Nat.le_of_ble_eq_true rfl⟩ dX3_freeBeds_27 rfl (ci := 3) rfl tC ⟨by decide +kernel, by decide +kernel⟩ oX3_thoseAt.2.2.2 rfl q1130 q1132 qs35 qs35 q1132 (Nat.le_of_ble_eq_true rfl) (Nat.le_of_ble_eq_true rfl) (g_rI ?_) g_nt rfl
        obtain ⟨q7, hq7, hf⟩ := Option.bind_eq_some_iff.mp hf
        refine g_callS (pc' := 33) (as := [.int q6]) (wX3_ones g _ q6 hq7) oX3_ones ⟨Nat.le_of_ble_eq_true rfl, Nat.le_of_ble_eq_true rfl⟩ dX3_freeBeds_30 rfl q1214 q1215 q86 (Nat.le_of_ble_eq_true rfl) (Nat.le_of_ble_eq_true rfl) (g_rI ?_) g_nt rfl
        refine g_isub (pc' := 34) dX3_freeBeds_33 rfl ?_
        refine g_goto (tgt := 38) dX3_freeBeds_34 (by decide) ?_
        obtain rfl := Option.some.inj hf
        refine g_drop [1] (L' := [some (.ref A.1), none, some (.int s.2)]) rfl ?_
        exact hJq3
set_option maxHeartbeats 4000000 in
theorem wX3_freeBeds (g : bGh) {A : tA} (hA : tO A) (w : bWl) (M : tM)  {r : Int32} (hf : fX3_freeBeds M  = some r) : bM g mdX3_freeBeds (tW A M w) [.ref A.1] (q_ (eI r) (tW A M w)) := by
  unfold fX3_freeBeds at hf
  change bG _ _ 0 [some (.ref A.1)] []
  refine g_iconst (pc' := 1) (v := 0) dX3_freeBeds_0 rfl (by decide) ?_
  refine g_istore_n (pc' := 2) (L' := [some (.ref A.1), some (.int 0)]) dX3_freeBeds_1 rfl rfl (Nat.le_of_ble_eq_true rfl) rfl rfl ?_
  refine g_iconst (pc' := 3) (v := 0) dX3_freeBeds_2 rfl (by decide) ?_
  refine g_istore_n (pc' := 4) (L' := [some (.ref A.1), some (.int 0), some (.int 0)]) dX3_freeBeds_3 rfl rfl (Nat.le_of_ble_eq_true rfl) rfl rfl ?_
  obtain ⟨q8, hq8, hf⟩ := Option.bind_eq_some_iff.mp hf
  refine wX3_freeBeds_l4 hA FU (0, 0) q8 hq8 ?_
  refine g_iload_n (pc' := 47) dX3_freeBeds_46 rfl rfl rfl ?_
  obtain rfl := Option.some.inj hf
  exact g_iret dX3_freeBeds_47 rfl rfl ⟨rfl, rfl⟩
def mdX3_eaten : bMD := (yX3_eaten, cX3_eaten, 3, (some FieldType.int), [], 5, 101)
theorem oX3_eaten : bOkc mdX3_eaten 0 := ⟨by decide +kernel, ⟨by decide +kernel, by decide +kernel⟩, by decide +kernel, q1302⟩
def fX3_eaten_l4 (M : tM)  (rec : (Int32 × Int32) → Option (Int32 × Int32)) (s : Int32 × Int32) : Option (Int32 × Int32) :=
  (if 8 ≤ s.2 then
  some (s.1, s.2)
else
  Option.bind (fX3_eatenAt M s.2) fun q2 =>
  rec ((s.1 + q2), (s.2 + 1)))
def fX3_eaten (M : tM)  : Option Int32 :=
  Option.bind (lpF (fX3_eaten_l4 M) FU (0, 0)) fun q3 =>
  some q3.1
set_option maxHeartbeats 4000000 in
theorem wX3_eaten_l4 {g : bGh} {A : tA} (hA : tO A) {w : bWl} {M : tM} {n0 u0 : Nat} {Q : Outcome → bWl → Prop}  : ∀ (n : Nat) (s : Int32 × Int32) (r : (Int32 × Int32)), lpF (fX3_eaten_l4 M) n s = some r → bG (g, mdX3_eaten, n0, u0, Q) (tW A M w) 24 [some (.ref A.1), some (.int r.1), some (.int r.2)] [] → bG (g, mdX3_eaten, n0, u0, Q) (tW A M w) 4 [some (.ref A.1), some (.int s.1), some (.int s.2)] [] := by
  intro n
  induction n with
  | zero => intro s r hf; cases hf
  | succ n ih =>
    intro s r hf kx
    rw [lpF_s] at hf
    unfold fX3_eaten_l4 at hf
    refine g_iload_n (pc' := 5) dX3_eaten_4 rfl rfl rfl ?_
    refine g_bipush (pc' := 7) (v := 8) dX3_eaten_5 rfl (by decide) ?_
    refine g_icmp_ge (tgt := 24) (pc' := 10) dX3_eaten_7 (by decide) rfl (fun h1 => ?_) (fun h1 => ?_)
    · replace hf := (if_pos h1).symm.trans hf
      obtain rfl := Option.some.inj hf
      exact kx
    · replace hf := (if_neg h1).symm.trans hf
      refine g_iload_n (pc' := 11) dX3_eaten_10 rfl rfl rfl ?_
      refine g_aload_n (pc' := 12) dX3_eaten_11 rfl rfl rfl ?_
      refine g_iload_n (pc' := 13) dX3_eaten_12 rfl rfl rfl ?_
      obtain ⟨q2, hq2, hf⟩ := Option.bind_eq_some_iff.mp hf
      refine g_callV (pc' := 16) (mx := mdX3_eatenAt) (as := [.int s.2]) (wX3_eatenAt g hA _ _ s.2 hq2) oX3_eatenAt ⟨Nat.le_of_ble_eq_true rfl, Nat.le_of_ble_eq_true rfl⟩ dX3_eaten_13 rfl (ci := 3) rfl tC ⟨by decide +kernel, by decide +kernel⟩ oX3_eatenAt.2.2.2 rfl q1145 q1147 qs38 qs38 q1147 (Nat.le_of_ble_eq_true rfl) (Nat.le_of_ble_eq_true rfl) (g_rI ?_) g_nt rfl
      refine g_iadd (pc' := 17) dX3_eaten_16 rfl ?_
      refine g_istore_n (pc' := 18) (L' := [some (.ref A.1), some (.int (s.1 + q2)), some (.int s.2)]) dX3_eaten_17 rfl rfl (Nat.le_of_ble_eq_true rfl) rfl rfl ?_
      refine g_iinc (pc' := 21) (v := s.2 + 1) (L' := [some (.ref A.1), some (.int (s.1 + q2)), some (.int (s.2 + 1))]) dX3_eaten_18 rfl rfl rfl (Nat.le_of_ble_eq_true rfl) rfl rfl ?_
      refine g_goto (tgt := 4) dX3_eaten_21 (by decide) ?_
      exact ih _ r hf kx
set_option maxHeartbeats 4000000 in
theorem wX3_eaten (g : bGh) {A : tA} (hA : tO A) (w : bWl) (M : tM)  {r : Int32} (hf : fX3_eaten M  = some r) : bM g mdX3_eaten (tW A M w) [.ref A.1] (q_ (eI r) (tW A M w)) := by
  unfold fX3_eaten at hf
  change bG _ _ 0 [some (.ref A.1)] []
  refine g_iconst (pc' := 1) (v := 0) dX3_eaten_0 rfl (by decide) ?_
  refine g_istore_n (pc' := 2) (L' := [some (.ref A.1), some (.int 0)]) dX3_eaten_1 rfl rfl (Nat.le_of_ble_eq_true rfl) rfl rfl ?_
  refine g_iconst (pc' := 3) (v := 0) dX3_eaten_2 rfl (by decide) ?_
  refine g_istore_n (pc' := 4) (L' := [some (.ref A.1), some (.int 0), some (.int 0)]) dX3_eaten_3 rfl rfl (Nat.le_of_ble_eq_true rfl) rfl rfl ?_
  obtain ⟨q3, hq3, hf⟩ := Option.bind_eq_some_iff.mp hf
  refine wX3_eaten_l4 hA FU (0, 0) q3 hq3 ?_
  refine g_iload_n (pc' := 25) dX3_eaten_24 rfl rfl rfl ?_
  obtain rfl := Option.some.inj hf
  exact g_iret dX3_eaten_25 rfl rfl ⟨rfl, rfl⟩
def mdX3_now : bMD := (yX3_now, cX3_now, 2, (some FieldType.int), [], 6, 123)
theorem oX3_now : bOkc mdX3_now 1 := ⟨by decide +kernel, ⟨by decide +kernel, by decide +kernel⟩, by decide +kernel, q1286⟩
def fX3_now (M : tM) (x1 : Int32) : Option (Int32 × tM) :=
  (if x1 = 0 then
  Option.bind (rA M 0 1) fun v2 =>
  some (v2, M)
else
  (if x1 = 1 then
  Option.bind (rA M 0 2) fun v4 =>
  some (v4, M)
else
  (if x1 = 2 then
  Option.bind (fX3_thoseAt M (-1)) fun q6 =>
  some (q6, M)
else
  (if x1 = 3 then
  Option.bind (fX3_bulks M) fun q8 =>
  some (q8, M)
else
  (if x1 = 4 then
  Option.bind (fX3_larders M) fun q10 =>
  some (q10, M)
else
  (if x1 = 5 then
  Option.bind (fX3_freeBeds M) fun q12 =>
  some (q12, M)
else
  (if x1 = 6 then
  Option.bind (fX3_eaten M) fun q14 =>
  some (q14, M)
else
  Option.bind (fX3_finds M (-1000000001)) fun q15 =>
  some (q15.1, q15.2))))))))
set_option maxHeartbeats 4000000 in
theorem wX3_now (g : bGh) {A : tA} (hA : tO A) (w : bWl) (M : tM) (x1 : Int32) {r : (Int32 × tM)} (hf : fX3_now M x1 = some r) : bM g mdX3_now (tW A M w) [.ref A.1, .int x1] (q_ (eI r.1) (tW A r.2 w)) := by
  unfold fX3_now at hf
  change bG _ _ 0 [some (.ref A.1), some (.int x1)] []
  refine g_iload_n (pc' := 1) dX3_now_0 rfl rfl rfl ?_
  by_cases h1 : x1 = 0
  · replace hf := (if_pos h1).symm.trans hf
    refine g_tableIn (tgt := 44) dX3_now_1 (by rw [h1]; decide) (by rw [h1]; decide) (by rw [h1]; rfl) (by decide) ?_
    refine g_aload_n (pc' := 45) dX3_now_44 rfl rfl rfl ?_
    refine gt_get (k := 0) (pc' := 48) (by decide) dX3_now_45 rfl q1048 rfl ?_
    refine g_iconst (pc' := 49) (v := 1) dX3_now_48 rfl (by decide) ?_
    obtain ⟨v2, hv2, hf⟩ := Option.bind_eq_some_iff.mp hf
    refine gt_iald (pc' := 50) hA (by decide) dX3_now_49 rfl hv2 ?_
    obtain rfl := Option.some.inj hf
    exact g_iret dX3_now_50 rfl rfl ⟨rfl, rfl⟩
  · replace hf := (if_neg h1).symm.trans hf
    by_cases h3 : x1 = 1
    · replace hf := (if_pos h3).symm.trans hf
      refine g_tableIn (tgt := 51) dX3_now_1 (by rw [h3]; decide) (by rw [h3]; decide) (by rw [h3]; rfl) (by decide) ?_
      refine g_aload_n (pc' := 52) dX3_now_51 rfl rfl rfl ?_
      refine gt_get (k := 0) (pc' := 55) (by decide) dX3_now_52 rfl q1048 rfl ?_
      refine g_iconst (pc' := 56) (v := 2) dX3_now_55 rfl (by decide) ?_
      obtain ⟨v4, hv4, hf⟩ := Option.bind_eq_some_iff.mp hf
      refine gt_iald (pc' := 57) hA (by decide) dX3_now_56 rfl hv4 ?_
      obtain rfl := Option.some.inj hf
      exact g_iret dX3_now_57 rfl rfl ⟨rfl, rfl⟩
    · replace hf := (if_neg h3).symm.trans hf
      by_cases h5 : x1 = 2
      · replace hf := (if_pos h5).symm.trans hf
        refine g_tableIn (tgt := 58) dX3_now_1 (by rw [h5]; decide) (by rw [h5]; decide) (by rw [h5]; rfl) (by decide) ?_
        refine g_aload_n (pc' := 59) dX3_now_58 rfl rfl rfl ?_
        refine g_iconst (pc' := 60) (v := (-1)) dX3_now_59 rfl (by decide) ?_
        obtain ⟨q6, hq6, hf⟩ := Option.bind_eq_some_iff.mp hf
        refine g_callV (pc' := 63) (mx := mdX3_thoseAt) (as := [.int (-1)]) (wX3_thoseAt g hA _ _ (-1) hq6) oX3_thoseAt ⟨Nat.le_of_ble_eq_true rfl, Nat.le_of_ble_eq_true rfl⟩ dX3_now_60 rfl (ci := 3) rfl tC ⟨by decide +kernel, by decide +kernel⟩ oX3_thoseAt.2.2.2 rfl q1130 q1132 qs35 qs35 q1132 (Nat.le_of_ble_eq_true rfl) (Nat.le_of_ble_eq_true rfl) (g_rI ?_) g_nt rfl
        obtain rfl := Option.some.inj hf
        exact g_iret dX3_now_63 rfl rfl ⟨rfl, rfl⟩
      · replace hf := (if_neg h5).symm.trans hf
        by_cases h7 : x1 = 3
        · replace hf := (if_pos h7).symm.trans hf
          refine g_tableIn (tgt := 64) dX3_now_1 (by rw [h7]; decide) (by rw [h7]; decide) (by rw [h7]; rfl) (by decide) ?_
          refine g_aload_n (pc' := 65) dX3_now_64 rfl rfl rfl ?_
          obtain ⟨q8, hq8, hf⟩ := Option.bind_eq_some_iff.mp hf
          refine g_callV (pc' := 68) (mx := mdX3_bulks) (as := []) (wX3_bulks g hA _ _ hq8) oX3_bulks ⟨Nat.le_of_ble_eq_true rfl, Nat.le_of_ble_eq_true rfl⟩ dX3_now_65 rfl (ci := 3) rfl tC ⟨by decide +kernel, by decide +kernel⟩ oX3_bulks.2.2.2 rfl q1287 q1289 qs56 qs56 q1289 (Nat.le_of_ble_eq_true rfl) (Nat.le_of_ble_eq_true rfl) (g_rI ?_) g_nt rfl
          obtain rfl := Option.some.inj hf
          exact g_iret dX3_now_68 rfl rfl ⟨rfl, rfl⟩
        · replace hf := (if_neg h7).symm.trans hf
          by_cases h9 : x1 = 4
          · replace hf := (if_pos h9).symm.trans hf
            refine g_tableIn (tgt := 69) dX3_now_1 (by rw [h9]; decide) (by rw [h9]; decide) (by rw [h9]; rfl) (by decide) ?_
            refine g_aload_n (pc' := 70) dX3_now_69 rfl rfl rfl ?_
            obtain ⟨q10, hq10, hf⟩ := Option.bind_eq_some_iff.mp hf
            refine g_callV (pc' := 73) (mx := mdX3_larders) (as := []) (wX3_larders g hA _ _ hq10) oX3_larders ⟨Nat.le_of_ble_eq_true rfl, Nat.le_of_ble_eq_true rfl⟩ dX3_now_70 rfl (ci := 3) rfl tC ⟨by decide +kernel, by decide +kernel⟩ oX3_larders.2.2.2 rfl q1291 q1293 qs57 qs57 q1293 (Nat.le_of_ble_eq_true rfl) (Nat.le_of_ble_eq_true rfl) (g_rI ?_) g_nt rfl
            obtain rfl := Option.some.inj hf
            exact g_iret dX3_now_73 rfl rfl ⟨rfl, rfl⟩
          · replace hf := (if_neg h9).symm.trans hf
            by_cases h11 : x1 = 5
            · replace hf := (if_pos h11).symm.trans hf
              refine g_tableIn (tgt := 74) dX3_now_1 (by rw [h11]; decide) (by rw [h11]; decide) (by rw [h11]; rfl) (by decide) ?_
              refine g_aload_n (pc' := 75) dX3_now_74 rfl rfl rfl ?_
              obtain ⟨q12, hq12, hf⟩ := Option.bind_eq_some_iff.mp hf
              refine g_callV (pc' := 78) (mx := mdX3_freeBeds) (as := []) (wX3_freeBeds g hA _ _ hq12) oX3_freeBeds ⟨Nat.le_of_ble_eq_true rfl, Nat.le_of_ble_eq_true rfl⟩ dX3_now_75 rfl (ci := 3) rfl tC ⟨by decide +kernel, by decide +kernel⟩ oX3_freeBeds.2.2.2 rfl q1295 q1297 qs58 qs58 q1297 (Nat.le_of_ble_eq_true rfl) (Nat.le_of_ble_eq_true rfl) (g_rI ?_) g_nt rfl
              obtain rfl := Option.some.inj hf
              exact g_iret dX3_now_78 rfl rfl ⟨rfl, rfl⟩
            · replace hf := (if_neg h11).symm.trans hf
              by_cases h13 : x1 = 6
              · replace hf := (if_pos h13).symm.trans hf
                refine g_tableIn (tgt := 79) dX3_now_1 (by rw [h13]; decide) (by rw [h13]; decide) (by rw [h13]; rfl) (by decide) ?_
                refine g_aload_n (pc' := 80) dX3_now_79 rfl rfl rfl ?_
                obtain ⟨q14, hq14, hf⟩ := Option.bind_eq_some_iff.mp hf
                refine g_callV (pc' := 83) (mx := mdX3_eaten) (as := []) (wX3_eaten g hA _ _ hq14) oX3_eaten ⟨Nat.le_of_ble_eq_true rfl, Nat.le_of_ble_eq_true rfl⟩ dX3_now_80 rfl (ci := 3) rfl tC ⟨by decide +kernel, by decide +kernel⟩ oX3_eaten.2.2.2 rfl q1299 q1301 qs59 qs59 q1301 (Nat.le_of_ble_eq_true rfl) (Nat.le_of_ble_eq_true rfl) (g_rI ?_) g_nt rfl
                obtain rfl := Option.some.inj hf
                exact g_iret dX3_now_83 rfl rfl ⟨rfl, rfl⟩
              · replace hf := (if_neg h13).symm.trans hf
                refine g_tableOut (tgt := 84) dX3_now_1 (by have kh1 := lv_neT h1 (a := 0) rfl; have kh3 := lv_neT h3 (a := 1) rfl; have kh5 := lv_neT h5 (a := 2) rfl; have kh7 := lv_neT h7 (a := 3) rfl; have kh9 := lv_neT h9 (a := 4) rfl; have kh11 := lv_neT h11 (a := 5) rfl; have kh13 := lv_neT h13 (a := 6) rfl; omega) (by decide) ?_
                refine g_aload_n (pc' := 85) dX3_now_84 rfl rfl rfl ?_
                refine g_ldc (pc' := 87) dX3_now_85 rfl q1116 ?_
                obtain ⟨q15, hq15, hf⟩ := Option.bind_eq_some_iff.mp hf
                refine g_callV (pc' := 90) (mx := mdX3_finds) (as := [.int (-1000000001)]) (wX3_finds g hA _ _ (-1000000001) hq15) oX3_finds ⟨Nat.le_of_ble_eq_true rfl, Nat.le_of_ble_eq_true rfl⟩ dX3_now_87 rfl (ci := 3) rfl tC ⟨by decide +kernel, by decide +kernel⟩ oX3_finds.2.2.2 rfl q1117 q1119 qs33 qs33 q1119 (Nat.le_of_ble_eq_true rfl) (Nat.le_of_ble_eq_true rfl) (g_rI ?_) g_nt rfl
                obtain rfl := Option.some.inj hf
                exact g_iret dX3_now_90 rfl rfl ⟨rfl, rfl⟩
def mdX3_isAhead : bMD := (yX3_isAhead, cX3_isAhead, 1, (some FieldType.boolean), [], 2, 37)
theorem oX3_isAhead : bOkc mdX3_isAhead 1 := ⟨by decide +kernel, ⟨by decide +kernel, by decide +kernel⟩, by decide +kernel, q1309⟩
def fX3_isAhead (x0 : Int32) : Option Int32 :=
  Option.bind (fX3_in ((x0 : Int32).toInt64) 0 60) fun q1 =>
  bz q1 (some q1)
set_option maxHeartbeats 4000000 in
theorem wX3_isAhead (g : bGh) (w : bWl) (x0 : Int32) {r : Int32} (hf : fX3_isAhead x0 = some r) : bM g mdX3_isAhead w [.int x0] (q_ (eI r) w) := by
  unfold fX3_isAhead at hf
  change bG _ _ 0 [some (.int x0)] []
  refine g_iload_n (pc' := 1) dX3_isAhead_0 rfl rfl rfl ?_
  refine g_i2l (pc' := 2) dX3_isAhead_1 rfl ?_
  refine g_lconst (pc' := 3) (v := 0) dX3_isAhead_2 rfl (by decide) ?_
  refine g_ldc2 (pc' := 6) dX3_isAhead_3 rfl q1258 ?_
  obtain ⟨q1, hq1, hf⟩ := Option.bind_eq_some_iff.mp hf
  refine g_callS (pc' := 9) (as := [.long ((x0 : Int32).toInt64), .long 0, .long 60]) (wX3_in g _ ((x0 : Int32).toInt64) 0 60 hq1) oX3_in ⟨Nat.le_of_ble_eq_true rfl, Nat.le_of_ble_eq_true rfl⟩ dX3_isAhead_6 rfl q1102 q1103 q86 (Nat.le_of_ble_eq_true rfl) (Nat.le_of_ble_eq_true rfl) (g_rI ?_) g_nt rfl
  obtain ⟨h2, hf⟩ := bz_spec hf
  obtain rfl := Option.some.inj hf
  exact g_iret dX3_isAhead_9 rfl (bz_nar h2) ⟨rfl, rfl⟩
def mdX3_laysAside : bMD := (yX3_laysAside, cX3_laysAside, 2, none, [], 1, 12)
theorem oX3_laysAside : bOkc mdX3_laysAside 0 := ⟨by decide +kernel, ⟨by decide +kernel, by decide +kernel⟩, by decide +kernel, q1317⟩
def fX3_laysAside_l2  (rec : (Int32 × tM) → Option (Int32 × tM)) (s : Int32 × tM) : Option (Int32 × tM) :=
  (if 77 ≤ s.1 then
  some (s.1, s.2)
else
  Option.bind (rA s.2 0 s.1) fun v2 =>
  Option.bind (wA s.2 3 s.1 v2) fun w3 =>
  rec ((s.1 + 1), w3))
def fX3_laysAside (M : tM)  : Option tM :=
  Option.bind (lpF (fX3_laysAside_l2) FU (0, M)) fun q4 =>
  some q4.2
set_option maxHeartbeats 4000000 in
theorem wX3_laysAside_l2 {g : bGh} {A : tA} (hA : tO A) {w : bWl} {n0 u0 : Nat} {Q : Outcome → bWl → Prop}  : ∀ (n : Nat) (s : Int32 × tM) (r : (Int32 × tM)), lpF (fX3_laysAside_l2) n s = some r → bG (g, mdX3_laysAside, n0, u0, Q) (tW A r.2 w) 26 [some (.ref A.1), some (.int r.1)] [] → bG (g, mdX3_laysAside, n0, u0, Q) (tW A s.2 w) 2 [some (.ref A.1), some (.int s.1)] [] := by
  intro n
  induction n with
  | zero => intro s r hf; cases hf
  | succ n ih =>
    intro s r hf kx
    rw [lpF_s] at hf
    unfold fX3_laysAside_l2 at hf
    refine g_iload_n (pc' := 3) dX3_laysAside_2 rfl rfl rfl ?_
    refine g_bipush (pc' := 5) (v := 77) dX3_laysAside_3 rfl (by decide) ?_
    refine g_icmp_ge (tgt := 26) (pc' := 8) dX3_laysAside_5 (by decide) rfl (fun h1 => ?_) (fun h1 => ?_)
    · replace hf := (if_pos h1).symm.trans hf
      obtain rfl := Option.some.inj hf
      exact kx
    · replace hf := (if_neg h1).symm.trans hf
      refine g_aload_n (pc' := 9) dX3_laysAside_8 rfl rfl rfl ?_
      refine gt_get (k := 3) (pc' := 12) (by decide) dX3_laysAside_9 rfl q1051 rfl ?_
      refine g_iload_n (pc' := 13) dX3_laysAside_12 rfl rfl rfl ?_
      refine g_aload_n (pc' := 14) dX3_laysAside_13 rfl rfl rfl ?_
      refine gt_get (k := 0) (pc' := 17) (by decide) dX3_laysAside_14 rfl q1048 rfl ?_
      refine g_iload_n (pc' := 18) dX3_laysAside_17 rfl rfl rfl ?_
      obtain ⟨v2, hv2, hf⟩ := Option.bind_eq_some_iff.mp hf
      refine gt_iald (pc' := 19) hA (by decide) dX3_laysAside_18 rfl hv2 ?_
      obtain ⟨w3, hw3, hf⟩ := Option.bind_eq_some_iff.mp hf
      refine gt_iast (pc' := 20) hA (by decide) dX3_laysAside_19 rfl hw3 ?_
      refine g_iinc (pc' := 23) (v := s.1 + 1) (L' := [some (.ref A.1), some (.int (s.1 + 1))]) dX3_laysAside_20 rfl rfl rfl (Nat.le_of_ble_eq_true rfl) rfl rfl ?_
      refine g_goto (tgt := 2) dX3_laysAside_23 (by decide) ?_
      exact ih _ r hf kx
set_option maxHeartbeats 4000000 in
theorem wX3_laysAside (g : bGh) {A : tA} (hA : tO A) (w : bWl) (M : tM)  {r : tM} (hf : fX3_laysAside M  = some r) : bM g mdX3_laysAside (tW A M w) [.ref A.1] (q_ none (tW A r w)) := by
  unfold fX3_laysAside at hf
  change bG _ _ 0 [some (.ref A.1)] []
  refine g_iconst (pc' := 1) (v := 0) dX3_laysAside_0 rfl (by decide) ?_
  refine g_istore_n (pc' := 2) (L' := [some (.ref A.1), some (.int 0)]) dX3_laysAside_1 rfl rfl (Nat.le_of_ble_eq_true rfl) rfl rfl ?_
  obtain ⟨q4, hq4, hf⟩ := Option.bind_eq_some_iff.mp hf
  refine wX3_laysAside_l2 hA FU (0, M) q4 hq4 ?_
  obtain rfl := Option.some.inj hf
  exact g_vret dX3_laysAside_26 rfl ⟨rfl, rfl⟩
def mdX3_takesBack : bMD := (yX3_takesBack, cX3_takesBack, 3, (some FieldType.int), [], 1, 12)
theorem oX3_takesBack : bOkc mdX3_takesBack 1 := ⟨by decide +kernel, ⟨by decide +kernel, by decide +kernel⟩, by decide +kernel, q1321⟩
def fX3_takesBack_l2 (y1 : Int32) (rec : (Int32 × tM) → Option (Int32 × tM)) (s : Int32 × tM) : Option (Int32 × tM) :=
  (if 77 ≤ s.1 then
  some (s.1, s.2)
else
  Option.bind (rA s.2 3 s.1) fun v2 =>
  Option.bind (wA s.2 0 s.1 v2) fun w3 =>
  rec ((s.1 + 1), w3))
def fX3_takesBack (M : tM) (x1 : Int32) : Option (Int32 × tM) :=
  Option.bind (lpF (fX3_takesBack_l2 x1) FU (0, M)) fun q4 =>
  some (x1, q4.2)
set_option maxHeartbeats 4000000 in
theorem wX3_takesBack_l2 {g : bGh} {A : tA} (hA : tO A) {w : bWl} {n0 u0 : Nat} {Q : Outcome → bWl → Prop} (y1 : Int32) : ∀ (n : Nat) (s : Int32 × tM) (r : (Int32 × tM)), lpF (fX3_takesBack_l2 y1) n s = some r → bG (g, mdX3_takesBack, n0, u0, Q) (tW A r.2 w) 26 [some (.ref A.1), some (.int y1), some (.int r.1)] [] → bG (g, mdX3_takesBack, n0, u0, Q) (tW A s.2 w) 2 [some (.ref A.1), some (.int y1), some (.int s.1)] [] := by
  intro n
  induction n with
  | zero => intro s r hf; cases hf
  | succ n ih =>
    intro s r hf kx
    rw [lpF_s] at hf
    unfold fX3_takesBack_l2 at hf
    refine g_iload_n (pc' := 3) dX3_takesBack_2 rfl rfl rfl ?_
    refine g_bipush (pc' := 5) (v := 77) dX3_takesBack_3 rfl (by decide) ?_
    refine g_icmp_ge (tgt := 26) (pc' := 8) dX3_takesBack_5 (by decide) rfl (fun h1 => ?_) (fun h1 => ?_)
    · replace hf := (if_pos h1).symm.trans hf
      obtain rfl := Option.some.inj hf
      exact kx
    · replace hf := (if_neg h1).symm.trans hf
      refine g_aload_n (pc' := 9) dX3_takesBack_8 rfl rfl rfl ?_
      refine gt_get (k := 0) (pc' := 12) (by decide) dX3_takesBack_9 rfl q1048 rfl ?_
      refine g_iload_n (pc' := 13) dX3_takesBack_12 rfl rfl rfl ?_
      refine g_aload_n (pc' := 14) dX3_takesBack_13 rfl rfl rfl ?_
      refine gt_get (k := 3) (pc' := 17) (by decide) dX3_takesBack_14 rfl q1051 rfl ?_
      refine g_iload_n (pc' := 18) dX3_takesBack_17 rfl rfl rfl ?_
      obtain ⟨v2, hv2, hf⟩ := Option.bind_eq_some_iff.mp hf
      refine gt_iald (pc' := 19) hA (by decide) dX3_takesBack_18 rfl hv2 ?_
      obtain ⟨w3, hw3, hf⟩ := Option.bind_eq_some_iff.mp hf
      refine gt_iast (pc' := 20) hA (by decide) dX3_takesBack_19 rfl hw3 ?_
      refine g_iinc (pc' := 23) (v := s.1 + 1) (L' := [some (.ref A.1), some (.int y1), some (.int (s.1 + 1))]) dX3_takesBack_20 rfl rfl rfl (Nat.le_of_ble_eq_true rfl) rfl rfl ?_
      refine g_goto (tgt := 2) dX3_takesBack_23 (by decide) ?_
      exact ih _ r hf kx
set_option maxHeartbeats 4000000 in
theorem wX3_takesBack (g : bGh) {A : tA} (hA : tO A) (w : bWl) (M : tM) (x1 : Int32) {r : (Int32 × tM)} (hf : fX3_takesBack M x1 = some r) : bM g mdX3_takesBack (tW A M w) [.ref A.1, .int x1] (q_ (eI r.1) (tW A r.2 w)) := by
  unfold fX3_takesBack at hf
  change bG _ _ 0 [some (.ref A.1), some (.int x1)] []
  refine g_iconst (pc' := 1) (v := 0) dX3_takesBack_0 rfl (by decide) ?_
  refine g_istore_n (pc' := 2) (L' := [some (.ref A.1), some (.int x1), some (.int 0)]) dX3_takesBack_1 rfl rfl (Nat.le_of_ble_eq_true rfl) rfl rfl ?_
  obtain ⟨q4, hq4, hf⟩ := Option.bind_eq_some_iff.mp hf
  refine wX3_takesBack_l2 hA x1 FU (0, M) q4 hq4 ?_
  refine g_iload_n (pc' := 27) dX3_takesBack_26 rfl rfl rfl ?_
  obtain rfl := Option.some.inj hf
  exact g_iret dX3_takesBack_27 rfl rfl ⟨rfl, rfl⟩
def mdX3_behind : bMD := (yX3_behind, cX3_behind, 3, (some FieldType.int), [], 9, 187)
theorem oX3_behind : bOkc mdX3_behind 2 := ⟨by decide +kernel, ⟨by decide +kernel, by decide +kernel⟩, by decide +kernel, q1313⟩
def fX3_behind (M : tM) (x1 : Int32) (x2 : Int32) : Option (Int32 × tM) :=
  Option.bind (fX3_laysAside M) fun q1 =>
  Option.bind (fX3_daysGo q1 x2) fun q2 =>
  Option.bind (rA q2 0 x1) fun v3 =>
  Option.bind (fX3_takesBack q2 v3) fun q4 =>
  some (q4.1, q4.2)
set_option maxHeartbeats 4000000 in
theorem wX3_behind (g : bGh) {A : tA} (hA : tO A) (w : bWl) (M : tM) (x1 : Int32) (x2 : Int32) {r : (Int32 × tM)} (hf : fX3_behind M x1 x2 = some r) : bM g mdX3_behind (tW A M w) [.ref A.1, .int x1, .int x2] (q_ (eI r.1) (tW A r.2 w)) := by
  unfold fX3_behind at hf
  change bG _ _ 0 [some (.ref A.1), some (.int x1), some (.int x2)] []
  refine g_aload_n (pc' := 1) dX3_behind_0 rfl rfl rfl ?_
  obtain ⟨q1, hq1, hf⟩ := Option.bind_eq_some_iff.mp hf
  refine g_callV (pc' := 4) (mx := mdX3_laysAside) (as := []) (wX3_laysAside g hA _ _ hq1) oX3_laysAside ⟨Nat.le_of_ble_eq_true rfl, Nat.le_of_ble_eq_true rfl⟩ dX3_behind_1 rfl (ci := 3) rfl tC ⟨by decide +kernel, by decide +kernel⟩ oX3_laysAside.2.2.2 rfl q1314 q1316 qs61 qs61 q1316 (Nat.le_of_ble_eq_true rfl) (Nat.le_of_ble_eq_true rfl) (g_rV ?_) g_nt rfl
  refine g_aload_n (pc' := 5) dX3_behind_4 rfl rfl rfl ?_
  refine g_iload_n (pc' := 6) dX3_behind_5 rfl rfl rfl ?_
  obtain ⟨q2, hq2, hf⟩ := Option.bind_eq_some_iff.mp hf
  refine g_callV (pc' := 9) (mx := mdX3_daysGo) (as := [.int x2]) (wX3_daysGo g hA _ _ x2 hq2) oX3_daysGo ⟨Nat.le_of_ble_eq_true rfl, Nat.le_of_ble_eq_true rfl⟩ dX3_behind_6 rfl (ci := 3) rfl tC ⟨by decide +kernel, by decide +kernel⟩ oX3_daysGo.2.2.2 rfl q1259 q1261 qs50 qs50 q1261 (Nat.le_of_ble_eq_true rfl) (Nat.le_of_ble_eq_true rfl) (g_rV ?_) g_nt rfl
  refine g_aload_n (pc' := 10) dX3_behind_9 rfl rfl rfl ?_
  refine g_aload_n (pc' := 11) dX3_behind_10 rfl rfl rfl ?_
  refine gt_get (k := 0) (pc' := 14) (by decide) dX3_behind_11 rfl q1048 rfl ?_
  refine g_iload_n (pc' := 15) dX3_behind_14 rfl rfl rfl ?_
  obtain ⟨v3, hv3, hf⟩ := Option.bind_eq_some_iff.mp hf
  refine gt_iald (pc' := 16) hA (by decide) dX3_behind_15 rfl hv3 ?_
  obtain ⟨q4, hq4, hf⟩ := Option.bind_eq_some_iff.mp hf
  refine g_callV (pc' := 19) (mx := mdX3_takesBack) (as := [.int v3]) (wX3_takesBack g hA _ _ v3 hq4) oX3_takesBack ⟨Nat.le_of_ble_eq_true rfl, Nat.le_of_ble_eq_true rfl⟩ dX3_behind_16 rfl (ci := 3) rfl tC ⟨by decide +kernel, by decide +kernel⟩ oX3_takesBack.2.2.2 rfl q1318 q1320 qs62 qs62 q1320 (Nat.le_of_ble_eq_true rfl) (Nat.le_of_ble_eq_true rfl) (g_rI ?_) g_nt rfl
  obtain rfl := Option.some.inj hf
  exact g_iret dX3_behind_19 rfl rfl ⟨rfl, rfl⟩
def mdX3_on : bMD := (yX3_on, cX3_on, 4, (some FieldType.int), [], 10, 209)
theorem oX3_on : bOkc mdX3_on 3 := ⟨by decide +kernel, ⟨by decide +kernel, by decide +kernel⟩, by decide +kernel, q1306⟩
def fX3_on (M : tM) (x1 : Int32) (x2 : Int32) (x3 : Int32) : Option (Int32 × tM) :=
  Option.bind (fX3_isRumour M x1) fun q1 =>
  (if q1 = 0 then
  Option.bind (fX3_finds M (-1000000001)) fun q3 =>
  some (q3.1, q3.2)
else
  Option.bind (fX3_isAhead x2) fun q4 =>
  (if q4 = 0 then
  Option.bind (fX3_finds M (-1000000001)) fun q6 =>
  some (q6.1, q6.2)
else
  Option.bind (fX3_in ((x3 : Int32).toInt64) 0 1) fun q7 =>
  (if q7 = 0 then
  Option.bind (fX3_finds M (-1000000001)) fun q13 =>
  some (q13.1, q13.2)
else
  Option.bind (α := Int32) ((if x3 = 0 then
  some 4
else
  some 2)) fun q9 =>
  Option.bind (fX3_spotOf x1 q9) fun q11 =>
  Option.bind (fX3_behind M q11 x2) fun q12 =>
  some (q12.1, q12.2))))
set_option maxHeartbeats 4000000 in
theorem wX3_on (g : bGh) {A : tA} (hA : tO A) (w : bWl) (M : tM) (x1 : Int32) (x2 : Int32) (x3 : Int32) {r : (Int32 × tM)} (hf : fX3_on M x1 x2 x3 = some r) : bM g mdX3_on (tW A M w) [.ref A.1, .int x1, .int x2, .int x3] (q_ (eI r.1) (tW A r.2 w)) := by
  unfold fX3_on at hf
  change bG _ _ 0 [some (.ref A.1), some (.int x1), some (.int x2), some (.int x3)] []
  refine g_aload_n (pc' := 1) dX3_on_0 rfl rfl rfl ?_
  refine g_iload_n (pc' := 2) dX3_on_1 rfl rfl rfl ?_
  obtain ⟨q1, hq1, hf⟩ := Option.bind_eq_some_iff.mp hf
  refine g_callV (pc' := 5) (mx := mdX3_isRumour) (as := [.int x1]) (wX3_isRumour g hA _ _ x1 hq1) oX3_isRumour ⟨Nat.le_of_ble_eq_true rfl, Nat.le_of_ble_eq_true rfl⟩ dX3_on_2 rfl (ci := 3) rfl tC ⟨by decide +kernel, by decide +kernel⟩ oX3_isRumour.2.2.2 rfl q1173 q1175 qs41 qs41 q1175 (Nat.le_of_ble_eq_true rfl) (Nat.le_of_ble_eq_true rfl) (g_rI ?_) g_nt rfl
  refine g_if_eq (tgt := 25) (pc' := 8) dX3_on_5 (by decide) rfl (fun h2 => ?_) (fun h2 => ?_)
  · replace hf := (if_pos h2).symm.trans hf
    refine g_aload_n (pc' := 26) dX3_on_25 rfl rfl rfl ?_
    refine g_ldc (pc' := 28) dX3_on_26 rfl q1116 ?_
    obtain ⟨q3, hq3, hf⟩ := Option.bind_eq_some_iff.mp hf
    refine g_callV (pc' := 31) (mx := mdX3_finds) (as := [.int (-1000000001)]) (wX3_finds g hA _ _ (-1000000001) hq3) oX3_finds ⟨Nat.le_of_ble_eq_true rfl, Nat.le_of_ble_eq_true rfl⟩ dX3_on_28 rfl (ci := 3) rfl tC ⟨by decide +kernel, by decide +kernel⟩ oX3_finds.2.2.2 rfl q1117 q1119 qs33 qs33 q1119 (Nat.le_of_ble_eq_true rfl) (Nat.le_of_ble_eq_true rfl) (g_rI ?_) g_nt rfl
    obtain rfl := Option.some.inj hf
    exact g_iret dX3_on_31 rfl rfl ⟨rfl, rfl⟩
  · replace hf := (if_neg h2).symm.trans hf
    refine g_iload_n (pc' := 9) dX3_on_8 rfl rfl rfl ?_
    obtain ⟨q4, hq4, hf⟩ := Option.bind_eq_some_iff.mp hf
    refine g_callS (pc' := 12) (as := [.int x2]) (wX3_isAhead g _ x2 hq4) oX3_isAhead ⟨Nat.le_of_ble_eq_true rfl, Nat.le_of_ble_eq_true rfl⟩ dX3_on_9 rfl q1307 q1308 q86 (Nat.le_of_ble_eq_true rfl) (Nat.le_of_ble_eq_true rfl) (g_rI ?_) g_nt rfl
    refine g_if_eq (tgt := 25) (pc' := 15) dX3_on_12 (by decide) rfl (fun h5 => ?_) (fun h5 => ?_)
    · replace hf := (if_pos h5).symm.trans hf
      refine g_aload_n (pc' := 26) dX3_on_25 rfl rfl rfl ?_
      refine g_ldc (pc' := 28) dX3_on_26 rfl q1116 ?_
      obtain ⟨q6, hq6, hf⟩ := Option.bind_eq_some_iff.mp hf
      refine g_callV (pc' := 31) (mx := mdX3_finds) (as := [.int (-1000000001)]) (wX3_finds g hA _ _ (-1000000001) hq6) oX3_finds ⟨Nat.le_of_ble_eq_true rfl, Nat.le_of_ble_eq_true rfl⟩ dX3_on_28 rfl (ci := 3) rfl tC ⟨by decide +kernel, by decide +kernel⟩ oX3_finds.2.2.2 rfl q1117 q1119 qs33 qs33 q1119 (Nat.le_of_ble_eq_true rfl) (Nat.le_of_ble_eq_true rfl) (g_rI ?_) g_nt rfl
      obtain rfl := Option.some.inj hf
      exact g_iret dX3_on_31 rfl rfl ⟨rfl, rfl⟩
    · replace hf := (if_neg h5).symm.trans hf
      refine g_iload_n (pc' := 16) dX3_on_15 rfl rfl rfl ?_
      refine g_i2l (pc' := 17) dX3_on_16 rfl ?_
      refine g_lconst (pc' := 18) (v := 0) dX3_on_17 rfl (by decide) ?_
      refine g_lconst (pc' := 19) (v := 1) dX3_on_18 rfl (by decide) ?_
      obtain ⟨q7, hq7, hf⟩ := Option.bind_eq_some_iff.mp hf
      refine g_callS (pc' := 22) (as := [.long ((x3 : Int32).toInt64), .long 0, .long 1]) (wX3_in g _ ((x3 : Int32).toInt64) 0 1 hq7) oX3_in ⟨Nat.le_of_ble_eq_true rfl, Nat.le_of_ble_eq_true rfl⟩ dX3_on_19 rfl q1102 q1103 q86 (Nat.le_of_ble_eq_true rfl) (Nat.le_of_ble_eq_true rfl) (g_rI ?_) g_nt rfl
      refine g_if_ne (tgt := 32) (pc' := 25) dX3_on_22 (by decide) rfl (fun h8 => ?_) (fun h8 => ?_)
      · replace hf := (if_neg h8).symm.trans hf
        refine g_aload_n (pc' := 33) dX3_on_32 rfl rfl rfl ?_
        refine g_iload_n (pc' := 34) dX3_on_33 rfl rfl rfl ?_
        refine g_iload_n (pc' := 35) dX3_on_34 rfl rfl rfl ?_
        obtain ⟨q9, hqq9, hf⟩ := Option.bind_eq_some_iff.mp hf
        have hJq9 : bG (g, mdX3_on, (tW A M w).2.1, (tW A M w).2.2.1, (q_ (eI r.1) (tW A r.2 w))) (tW A M w) 43 [some (.ref A.1), none, some (.int x2), none] [.int q9, .int x1, .ref A.1] := by
          obtain ⟨q11, hq11, hf⟩ := Option.bind_eq_some_iff.mp hf
          refine g_callS (pc' := 46) (as := [.int x1, .int q9]) (wX3_spotOf g _ x1 q9 hq11) oX3_spotOf ⟨Nat.le_of_ble_eq_true rfl, Nat.le_of_ble_eq_true rfl⟩ dX3_on_43 rfl q1138 q1139 q86 (Nat.le_of_ble_eq_true rfl) (Nat.le_of_ble_eq_true rfl) (g_rI ?_) g_nt rfl
          refine g_iload_n (pc' := 47) dX3_on_46 rfl rfl rfl ?_
          obtain ⟨q12, hq12, hf⟩ := Option.bind_eq_some_iff.mp hf
          refine g_callV (pc' := 50) (mx := mdX3_behind) (as := [.int q11, .int x2]) (wX3_behind g hA _ _ q11 x2 hq12) oX3_behind ⟨Nat.le_of_ble_eq_true rfl, Nat.le_of_ble_eq_true rfl⟩ dX3_on_47 rfl (ci := 3) rfl tC ⟨by decide +kernel, by decide +kernel⟩ oX3_behind.2.2.2 rfl q1310 q1312 qs60 qs60 q1312 (Nat.le_of_ble_eq_true rfl) (Nat.le_of_ble_eq_true rfl) (g_rI ?_) g_nt rfl
          obtain rfl := Option.some.inj hf
          exact g_iret dX3_on_50 rfl rfl ⟨rfl, rfl⟩
        replace hf := hqq9
        refine g_if_ne (tgt := 42) (pc' := 38) dX3_on_35 (by decide) rfl (fun h10 => ?_) (fun h10 => ?_)
        · replace hf := (if_neg h10).symm.trans hf
          refine g_iconst (pc' := 43) (v := 2) dX3_on_42 rfl (by decide) ?_
          obtain rfl := Option.some.inj hf
          refine g_drop [1, 3] (L' := [some (.ref A.1), none, some (.int x2), none]) rfl ?_
          exact hJq9
        · replace hf := (if_pos h10).symm.trans hf
          refine g_iconst (pc' := 39) (v := 4) dX3_on_38 rfl (by decide) ?_
          refine g_goto (tgt := 43) dX3_on_39 (by decide) ?_
          obtain rfl := Option.some.inj hf
          refine g_drop [1, 3] (L' := [some (.ref A.1), none, some (.int x2), none]) rfl ?_
          exact hJq9
      · replace hf := (if_pos h8).symm.trans hf
        refine g_aload_n (pc' := 26) dX3_on_25 rfl rfl rfl ?_
        refine g_ldc (pc' := 28) dX3_on_26 rfl q1116 ?_
        obtain ⟨q13, hq13, hf⟩ := Option.bind_eq_some_iff.mp hf
        refine g_callV (pc' := 31) (mx := mdX3_finds) (as := [.int (-1000000001)]) (wX3_finds g hA _ _ (-1000000001) hq13) oX3_finds ⟨Nat.le_of_ble_eq_true rfl, Nat.le_of_ble_eq_true rfl⟩ dX3_on_28 rfl (ci := 3) rfl tC ⟨by decide +kernel, by decide +kernel⟩ oX3_finds.2.2.2 rfl q1117 q1119 qs33 qs33 q1119 (Nat.le_of_ble_eq_true rfl) (Nat.le_of_ble_eq_true rfl) (g_rI ?_) g_nt rfl
        obtain rfl := Option.some.inj hf
        exact g_iret dX3_on_31 rfl rfl ⟨rfl, rfl⟩
