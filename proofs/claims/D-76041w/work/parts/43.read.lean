/-! printed by tools/gen.py: 43.read -/
set_option maxRecDepth 100000
def mdX11_init : bMD := (yX11_init, cX11_init, 4, none, [], 2, 60)
theorem oX11_init : bOkc mdX11_init 3 := ⟨by decide +kernel, ⟨by decide +kernel, by decide +kernel⟩, by decide +kernel, q787⟩
def fX11_init (w : bWl) (a0 : Nat) (a1 : Nat) (x2 : Int32) (a3 : Nat) : Option bWl :=
  Option.bind (hP w (okc 11) a0 0 (.ref a1)) fun w1 =>
  Option.bind (hP w1 (okc 11) a0 1 (.int x2)) fun w2 =>
  Option.bind (hP w2 (okc 11) a0 2 (.ref a3)) fun w3 =>
  some w3
set_option maxHeartbeats 4000000 in
theorem wX11_init (g : bGh) (w : bWl) (a0 : Nat) (a1 : Nat) (x2 : Int32) (a3 : Nat) {r : bWl} (hf : fX11_init w a0 a1 x2 a3 = some r) : bM g mdX11_init w [.ref a0, .ref a1, .int x2, .ref a3] (q_ none r) := by
  unfold fX11_init at hf
  change bG _ _ 0 [some (.ref a0), some (.ref a1), some (.int x2), some (.ref a3)] []
  refine g_aload_n (pc' := 1) dX11_init_0 rfl rfl rfl ?_
  refine g_obj (pc' := 4) dX11_init_1 rfl q788 ⟨Nat.le_of_ble_eq_true rfl, Nat.le_of_ble_eq_true rfl⟩ (Nat.le_of_ble_eq_true rfl) ?_
  refine g_aload_n (pc' := 5) dX11_init_4 rfl rfl rfl ?_
  refine g_aload_n (pc' := 6) dX11_init_5 rfl rfl rfl ?_
  obtain ⟨w1, hw1, hf⟩ := Option.bind_eq_some_iff.mp hf
  refine g_putF (ty := (.array .byte)) (pc' := 9) (fok_11 0 (by decide)) (Or.inl rfl) dX11_init_6 rfl q789 rfl rfl (by decide +kernel) rfl rfl hw1 ?_
  refine g_aload_n (pc' := 10) dX11_init_9 rfl rfl rfl ?_
  refine g_iload_n (pc' := 11) dX11_init_10 rfl rfl rfl ?_
  obtain ⟨w2, hw2, hf⟩ := Option.bind_eq_some_iff.mp hf
  refine g_putF (ty := .int) (pc' := 14) (fok_11 1 (by decide)) (Or.inl rfl) dX11_init_11 rfl q790 rfl rfl (by decide +kernel) rfl rfl hw2 ?_
  refine g_aload_n (pc' := 15) dX11_init_14 rfl rfl rfl ?_
  refine g_aload_n (pc' := 16) dX11_init_15 rfl rfl rfl ?_
  obtain ⟨w3, hw3, hf⟩ := Option.bind_eq_some_iff.mp hf
  refine g_putF (ty := (.object "RumourBeds$Town")) (pc' := 19) (fok_11 2 (by decide)) (Or.inl rfl) dX11_init_16 rfl q791 rfl rfl (by decide +kernel) rfl rfl hw3 ?_
  obtain rfl := Option.some.inj hf
  exact g_vret dX11_init_19 rfl ⟨rfl, rfl⟩
def mdX11_isAt : bMD := (yX11_isAt, cX11_isAt, 4, (some FieldType.boolean), [], 2, 37)
theorem oX11_isAt : bOkc mdX11_isAt 3 := ⟨by decide +kernel, ⟨by decide +kernel, by decide +kernel⟩, by decide +kernel, q819⟩
def fX11_isAt (w : bWl) (a0 : Nat) (x1 : Int32) (x2 : Int32) (x3 : Int32) : Option Int32 :=
  Option.bind (hI w (okc 11) a0 1) fun v1 =>
  (if v1 ≤ x1 then
  some 0
else
  Option.bind (hR w (okc 11) a0 0) fun v3 =>
  Option.bind (aI w 1 v3 x1) fun v4 =>
  Option.bind (fX0_in ((v4 : Int32).toInt64) ((x2 : Int32).toInt64) ((x3 : Int32).toInt64)) fun q5 =>
  (if q5 = 0 then
  some 0
else
  some 1))
set_option maxHeartbeats 4000000 in
theorem wX11_isAt (g : bGh) (w : bWl) (a0 : Nat) (x1 : Int32) (x2 : Int32) (x3 : Int32) {r : Int32} (hf : fX11_isAt w a0 x1 x2 x3 = some r) : bM g mdX11_isAt w [.ref a0, .int x1, .int x2, .int x3] (q_ (eI r) w) := by
  unfold fX11_isAt at hf
  change bG _ _ 0 [some (.ref a0), some (.int x1), some (.int x2), some (.int x3)] []
  refine g_iload_n (pc' := 1) dX11_isAt_0 rfl rfl rfl ?_
  refine g_aload_n (pc' := 2) dX11_isAt_1 rfl rfl rfl ?_
  obtain ⟨v1, hv1, hf⟩ := Option.bind_eq_some_iff.mp hf
  refine g_get (pc' := 5) (fok_11 1 (by decide)) (Or.inl rfl) dX11_isAt_2 rfl q790 (hI_spec hv1) ?_
  refine g_icmp_ge (tgt := 29) (pc' := 8) dX11_isAt_5 (by decide) rfl (fun h2 => ?_) (fun h2 => ?_)
  · replace hf := (if_pos h2).symm.trans hf
    refine g_iconst (pc' := 30) (v := 0) dX11_isAt_29 rfl (by decide) ?_
    obtain rfl := Option.some.inj hf
    exact g_iret dX11_isAt_30 rfl (by decide +kernel) ⟨rfl, rfl⟩
  · replace hf := (if_neg h2).symm.trans hf
    refine g_aload_n (pc' := 9) dX11_isAt_8 rfl rfl rfl ?_
    obtain ⟨v3, hv3, hf⟩ := Option.bind_eq_some_iff.mp hf
    refine g_get (pc' := 12) (fok_11 0 (by decide)) (Or.inl rfl) dX11_isAt_9 rfl q789 (hR_spec hv3) ?_
    refine g_iload_n (pc' := 13) dX11_isAt_12 rfl rfl rfl ?_
    obtain ⟨v4, hv4, hf⟩ := Option.bind_eq_some_iff.mp hf
    refine g_bald (pc' := 14) dX11_isAt_13 rfl hv4 ?_
    refine g_i2l (pc' := 15) dX11_isAt_14 rfl ?_
    refine g_iload_n (pc' := 16) dX11_isAt_15 rfl rfl rfl ?_
    refine g_i2l (pc' := 17) dX11_isAt_16 rfl ?_
    refine g_iload_n (pc' := 18) dX11_isAt_17 rfl rfl rfl ?_
    refine g_i2l (pc' := 19) dX11_isAt_18 rfl ?_
    obtain ⟨q5, hq5, hf⟩ := Option.bind_eq_some_iff.mp hf
    refine g_callSN (pc' := 22) (host := "RumourBeds") (as := [.long ((v4 : Int32).toInt64), .long ((x2 : Int32).toInt64), .long ((x3 : Int32).toInt64)]) (wX0_in g _ ((v4 : Int32).toInt64) ((x2 : Int32).toInt64) ((x3 : Int32).toInt64) hq5) oX0_in ⟨Nat.le_of_ble_eq_true rfl, Nat.le_of_ble_eq_true rfl⟩ dX11_isAt_19 rfl (List.mem_of_getElem? (i := 15) rfl) q210 q83 (Nat.le_of_ble_eq_true rfl) (Nat.le_of_ble_eq_true rfl) (g_rI ?_) g_nt rfl
    refine g_if_eq (tgt := 29) (pc' := 25) dX11_isAt_22 (by decide) rfl (fun h6 => ?_) (fun h6 => ?_)
    · replace hf := (if_pos h6).symm.trans hf
      refine g_iconst (pc' := 30) (v := 0) dX11_isAt_29 rfl (by decide) ?_
      obtain rfl := Option.some.inj hf
      exact g_iret dX11_isAt_30 rfl (by decide +kernel) ⟨rfl, rfl⟩
    · replace hf := (if_neg h6).symm.trans hf
      refine g_iconst (pc' := 26) (v := 1) dX11_isAt_25 rfl (by decide) ?_
      refine g_goto (tgt := 30) dX11_isAt_26 (by decide) ?_
      obtain rfl := Option.some.inj hf
      exact g_iret dX11_isAt_30 rfl (by decide +kernel) ⟨rfl, rfl⟩
def mdX11_next : bMD := (yX11_next, cX11_next, 3, none, [], 3, 60)
theorem oX11_next : bOkc mdX11_next 0 := ⟨by decide +kernel, ⟨by decide +kernel, by decide +kernel⟩, by decide +kernel, q815⟩
def fX11_next_l8 (b0 : Nat) (rec : (bWl) → Option (bWl)) (s : bWl) : Option (bWl) :=
  Option.bind (hI s (okc 11) b0 4) fun v3 =>
  Option.bind (vK 11 s b0 (fX11_isAt s b0 v3 32 32)) fun q4 =>
  (if q4 = 0 then
  some s
else
  Option.bind (hI s (okc 11) b0 4) fun v7 =>
  Option.bind (hP s (okc 11) b0 4 (.int (v7 + 1))) fun w8 =>
  rec w8)
def fX11_next_l142 (b0 : Nat) (y1 : Int32) (y2 : Int32) (rec : (bWl) → Option (bWl)) (s : bWl) : Option (bWl) :=
  (if y1 = 0 then
  some s
else
  Option.bind (hI s (okc 11) b0 5) fun v35 =>
  Option.bind (vK 11 s b0 (fX11_isAt s b0 v35 97 122)) fun q36 =>
  (if q36 = 0 then
  some s
else
  Option.bind (hI s (okc 11) b0 5) fun v39 =>
  Option.bind (hP s (okc 11) b0 5 (.int (v39 + 1))) fun w40 =>
  rec w40))
def fX11_next_l174 (b0 : Nat) (y2 : Int32) (rec : (bWl) → Option (bWl)) (s : bWl) : Option (bWl) :=
  (if y2 = 0 then
  some s
else
  Option.bind (hI s (okc 11) b0 5) fun v43 =>
  Option.bind (vK 11 s b0 (fX11_isAt s b0 v43 48 57)) fun q44 =>
  (if q44 = 0 then
  some s
else
  Option.bind (hI s (okc 11) b0 5) fun v47 =>
  Option.bind (hP s (okc 11) b0 5 (.int (v47 + 1))) fun w48 =>
  rec w48))
def fX11_next (w : bWl) (a0 : Nat) : Option bWl :=
  Option.bind (hI w (okc 11) a0 5) fun v1 =>
  Option.bind (hP w (okc 11) a0 4 (.int v1)) fun w2 =>
  Option.bind (lpF (fX11_next_l8 a0) FU w2) fun q9 =>
  Option.bind (hI q9 (okc 11) a0 4) fun v10 =>
  Option.bind (hP q9 (okc 11) a0 5 (.int v10)) fun w11 =>
  Option.bind (hI w11 (okc 11) a0 4) fun v12 =>
  Option.bind (vK 11 w11 a0 (fX11_isAt w11 a0 v12 97 122)) fun q13 =>
  Option.bind (hI w11 (okc 11) a0 4) fun v15 =>
  Option.bind (vK 11 w11 a0 (fX11_isAt w11 a0 v15 48 57)) fun q16 =>
  Option.bind (hI w11 (okc 11) a0 4) fun v18 =>
  Option.bind (hI w11 (okc 11) a0 1) fun v19 =>
  Option.bind (α := Int32) ((if v18 = v19 then
  some 0
else
  (if q13 = 0 then
  (if q16 = 0 then
  Option.bind (hR w11 (okc 11) a0 0) fun v24 =>
  Option.bind (hI w11 (okc 11) a0 4) fun v25 =>
  Option.bind (aI w11 1 v24 v25) fun v26 =>
  (if v26 = 59 then
  some 3
else
  some 4)
else
  some 2)
else
  some 1))) fun q20 =>
  Option.bind (hP w11 (okc 11) a0 3 (.int q20)) fun w28 =>
  Option.bind (hI w28 (okc 11) a0 3) fun v29 =>
  Option.bind (α := bWl) ((if v29 ≤ 2 then
  some w28
else
  Option.bind (hI w28 (okc 11) a0 5) fun v32 =>
  Option.bind (hP w28 (okc 11) a0 5 (.int (v32 + 1))) fun w33 =>
  some w33)) fun q30 =>
  Option.bind (lpF (fX11_next_l142 a0 q13 q16) FU q30) fun q41 =>
  Option.bind (lpF (fX11_next_l174 a0 q16) FU q41) fun q49 =>
  some q49
set_option maxHeartbeats 4000000 in
theorem wX11_next_l8 {g : bGh} {n0 u0 : Nat} {Q : Outcome → bWl → Prop} (b0 : Nat) : ∀ (n : Nat) (s : bWl) (r : (bWl)), lpF (fX11_next_l8 b0) n s = some r → bG (g, mdX11_next, n0, u0, Q) r 36 [some (.ref b0)] [] → bG (g, mdX11_next, n0, u0, Q) s 8 [some (.ref b0)] [] := by
  intro n
  induction n with
  | zero => intro s r hf; cases hf
  | succ n ih =>
    intro s r hf kx
    rw [lpF_s] at hf
    unfold fX11_next_l8 at hf
    refine g_aload_n (pc' := 9) dX11_next_8 rfl rfl rfl ?_
    refine g_aload_n (pc' := 10) dX11_next_9 rfl rfl rfl ?_
    obtain ⟨v3, hv3, hf⟩ := Option.bind_eq_some_iff.mp hf
    refine g_get (pc' := 13) (fok_11 4 (by decide)) (Or.inl rfl) dX11_next_10 rfl q793 (hI_spec hv3) ?_
    refine g_bipush (pc' := 15) (v := 32) dX11_next_13 rfl (by decide) ?_
    refine g_bipush (pc' := 17) (v := 32) dX11_next_15 rfl (by decide) ?_
    obtain ⟨q4, hq4, hf⟩ := Option.bind_eq_some_iff.mp hf
    obtain ⟨h5, hq4⟩ := vK_spec hq4
    refine g_callV (pc' := 20) (mx := mdX11_isAt) (as := [.int v3, .int 32, .int 32]) (wX11_isAt g _ b0 v3 32 32 hq4) oX11_isAt ⟨Nat.le_of_ble_eq_true rfl, Nat.le_of_ble_eq_true rfl⟩ dX11_next_17 rfl (ci := 11) rfl h5 ⟨by decide +kernel, by decide +kernel⟩ oX11_isAt.2.2.2 rfl q816 q818 qs15 qs15 q818 (Nat.le_of_ble_eq_true rfl) (Nat.le_of_ble_eq_true rfl) (g_rI ?_) g_nt rfl
    refine g_if_eq (tgt := 36) (pc' := 23) dX11_next_20 (by decide) rfl (fun h6 => ?_) (fun h6 => ?_)
    · replace hf := (if_pos h6).symm.trans hf
      obtain rfl := Option.some.inj hf
      exact kx
    · replace hf := (if_neg h6).symm.trans hf
      refine g_aload_n (pc' := 24) dX11_next_23 rfl rfl rfl ?_
      refine g_dup (pc' := 25) dX11_next_24 rfl rfl ?_
      obtain ⟨v7, hv7, hf⟩ := Option.bind_eq_some_iff.mp hf
      refine g_get (pc' := 28) (fok_11 4 (by decide)) (Or.inl rfl) dX11_next_25 rfl q793 (hI_spec hv7) ?_
      refine g_iconst (pc' := 29) (v := 1) dX11_next_28 rfl (by decide) ?_
      refine g_iadd (pc' := 30) dX11_next_29 rfl ?_
      obtain ⟨w8, hw8, hf⟩ := Option.bind_eq_some_iff.mp hf
      refine g_put (ty := .int) (pc' := 33) (fok_11 4 (by decide)) (Or.inl rfl) dX11_next_30 rfl q793 (by decide +kernel) rfl rfl hw8 ?_
      refine g_goto (tgt := 8) dX11_next_33 (by decide) ?_
      exact ih _ r hf kx
set_option maxHeartbeats 4000000 in
theorem wX11_next_l142 {g : bGh} {n0 u0 : Nat} {Q : Outcome → bWl → Prop} (b0 : Nat) (y1 : Int32) (y2 : Int32) : ∀ (n : Nat) (s : bWl) (r : (bWl)), lpF (fX11_next_l142 b0 y1 y2) n s = some r → bG (g, mdX11_next, n0, u0, Q) r 174 [some (.ref b0), some (.int y1), some (.int y2)] [] → bG (g, mdX11_next, n0, u0, Q) s 142 [some (.ref b0), some (.int y1), some (.int y2)] [] := by
  intro n
  induction n with
  | zero => intro s r hf; cases hf
  | succ n ih =>
    intro s r hf kx
    rw [lpF_s] at hf
    unfold fX11_next_l142 at hf
    refine g_iload_n (pc' := 143) dX11_next_142 rfl rfl rfl ?_
    refine g_if_eq (tgt := 174) (pc' := 146) dX11_next_143 (by decide) rfl (fun h34 => ?_) (fun h34 => ?_)
    · replace hf := (if_pos h34).symm.trans hf
      obtain rfl := Option.some.inj hf
      exact kx
    · replace hf := (if_neg h34).symm.trans hf
      refine g_aload_n (pc' := 147) dX11_next_146 rfl rfl rfl ?_
      refine g_aload_n (pc' := 148) dX11_next_147 rfl rfl rfl ?_
      obtain ⟨v35, hv35, hf⟩ := Option.bind_eq_some_iff.mp hf
      refine g_get (pc' := 151) (fok_11 5 (by decide)) (Or.inl rfl) dX11_next_148 rfl q794 (hI_spec hv35) ?_
      refine g_bipush (pc' := 153) (v := 97) dX11_next_151 rfl (by decide) ?_
      refine g_bipush (pc' := 155) (v := 122) dX11_next_153 rfl (by decide) ?_
      obtain ⟨q36, hq36, hf⟩ := Option.bind_eq_some_iff.mp hf
      obtain ⟨h37, hq36⟩ := vK_spec hq36
      refine g_callV (pc' := 158) (mx := mdX11_isAt) (as := [.int v35, .int 97, .int 122]) (wX11_isAt g _ b0 v35 97 122 hq36) oX11_isAt ⟨Nat.le_of_ble_eq_true rfl, Nat.le_of_ble_eq_true rfl⟩ dX11_next_155 rfl (ci := 11) rfl h37 ⟨by decide +kernel, by decide +kernel⟩ oX11_isAt.2.2.2 rfl q816 q818 qs15 qs15 q818 (Nat.le_of_ble_eq_true rfl) (Nat.le_of_ble_eq_true rfl) (g_rI ?_) g_nt rfl
      refine g_if_eq (tgt := 174) (pc' := 161) dX11_next_158 (by decide) rfl (fun h38 => ?_) (fun h38 => ?_)
      · replace hf := (if_pos h38).symm.trans hf
        obtain rfl := Option.some.inj hf
        exact kx
      · replace hf := (if_neg h38).symm.trans hf
        refine g_aload_n (pc' := 162) dX11_next_161 rfl rfl rfl ?_
        refine g_dup (pc' := 163) dX11_next_162 rfl rfl ?_
        obtain ⟨v39, hv39, hf⟩ := Option.bind_eq_some_iff.mp hf
        refine g_get (pc' := 166) (fok_11 5 (by decide)) (Or.inl rfl) dX11_next_163 rfl q794 (hI_spec hv39) ?_
        refine g_iconst (pc' := 167) (v := 1) dX11_next_166 rfl (by decide) ?_
        refine g_iadd (pc' := 168) dX11_next_167 rfl ?_
        obtain ⟨w40, hw40, hf⟩ := Option.bind_eq_some_iff.mp hf
        refine g_put (ty := .int) (pc' := 171) (fok_11 5 (by decide)) (Or.inl rfl) dX11_next_168 rfl q794 (by decide +kernel) rfl rfl hw40 ?_
        refine g_goto (tgt := 142) dX11_next_171 (by decide) ?_
        exact ih _ r hf kx
set_option maxHeartbeats 4000000 in
theorem wX11_next_l174 {g : bGh} {n0 u0 : Nat} {Q : Outcome → bWl → Prop} (b0 : Nat) (y2 : Int32) : ∀ (n : Nat) (s : bWl) (r : (bWl)), lpF (fX11_next_l174 b0 y2) n s = some r → bG (g, mdX11_next, n0, u0, Q) r 206 [some (.ref b0), none, some (.int y2)] [] → bG (g, mdX11_next, n0, u0, Q) s 174 [some (.ref b0), none, some (.int y2)] [] := by
  intro n
  induction n with
  | zero => intro s r hf; cases hf
  | succ n ih =>
    intro s r hf kx
    rw [lpF_s] at hf
    unfold fX11_next_l174 at hf
    refine g_iload_n (pc' := 175) dX11_next_174 rfl rfl rfl ?_
    refine g_if_eq (tgt := 206) (pc' := 178) dX11_next_175 (by decide) rfl (fun h42 => ?_) (fun h42 => ?_)
    · replace hf := (if_pos h42).symm.trans hf
      obtain rfl := Option.some.inj hf
      exact kx
    · replace hf := (if_neg h42).symm.trans hf
      refine g_aload_n (pc' := 179) dX11_next_178 rfl rfl rfl ?_
      refine g_aload_n (pc' := 180) dX11_next_179 rfl rfl rfl ?_
      obtain ⟨v43, hv43, hf⟩ := Option.bind_eq_some_iff.mp hf
      refine g_get (pc' := 183) (fok_11 5 (by decide)) (Or.inl rfl) dX11_next_180 rfl q794 (hI_spec hv43) ?_
      refine g_bipush (pc' := 185) (v := 48) dX11_next_183 rfl (by decide) ?_
      refine g_bipush (pc' := 187) (v := 57) dX11_next_185 rfl (by decide) ?_
      obtain ⟨q44, hq44, hf⟩ := Option.bind_eq_some_iff.mp hf
      obtain ⟨h45, hq44⟩ := vK_spec hq44
      refine g_callV (pc' := 190) (mx := mdX11_isAt) (as := [.int v43, .int 48, .int 57]) (wX11_isAt g _ b0 v43 48 57 hq44) oX11_isAt ⟨Nat.le_of_ble_eq_true rfl, Nat.le_of_ble_eq_true rfl⟩ dX11_next_187 rfl (ci := 11) rfl h45 ⟨by decide +kernel, by decide +kernel⟩ oX11_isAt.2.2.2 rfl q816 q818 qs15 qs15 q818 (Nat.le_of_ble_eq_true rfl) (Nat.le_of_ble_eq_true rfl) (g_rI ?_) g_nt rfl
      refine g_if_eq (tgt := 206) (pc' := 193) dX11_next_190 (by decide) rfl (fun h46 => ?_) (fun h46 => ?_)
      · replace hf := (if_pos h46).symm.trans hf
        obtain rfl := Option.some.inj hf
        exact kx
      · replace hf := (if_neg h46).symm.trans hf
        refine g_aload_n (pc' := 194) dX11_next_193 rfl rfl rfl ?_
        refine g_dup (pc' := 195) dX11_next_194 rfl rfl ?_
        obtain ⟨v47, hv47, hf⟩ := Option.bind_eq_some_iff.mp hf
        refine g_get (pc' := 198) (fok_11 5 (by decide)) (Or.inl rfl) dX11_next_195 rfl q794 (hI_spec hv47) ?_
        refine g_iconst (pc' := 199) (v := 1) dX11_next_198 rfl (by decide) ?_
        refine g_iadd (pc' := 200) dX11_next_199 rfl ?_
        obtain ⟨w48, hw48, hf⟩ := Option.bind_eq_some_iff.mp hf
        refine g_put (ty := .int) (pc' := 203) (fok_11 5 (by decide)) (Or.inl rfl) dX11_next_200 rfl q794 (by decide +kernel) rfl rfl hw48 ?_
        refine g_goto (tgt := 174) dX11_next_203 (by decide) ?_
        exact ih _ r hf kx
set_option maxHeartbeats 4000000 in
theorem wX11_next (g : bGh) (w : bWl) (a0 : Nat) {r : bWl} (hf : fX11_next w a0 = some r) : bM g mdX11_next w [.ref a0] (q_ none r) := by
  unfold fX11_next at hf
  change bG _ _ 0 [some (.ref a0)] []
  refine g_aload_n (pc' := 1) dX11_next_0 rfl rfl rfl ?_
  refine g_aload_n (pc' := 2) dX11_next_1 rfl rfl rfl ?_
  obtain ⟨v1, hv1, hf⟩ := Option.bind_eq_some_iff.mp hf
  refine g_get (pc' := 5) (fok_11 5 (by decide)) (Or.inl rfl) dX11_next_2 rfl q794 (hI_spec hv1) ?_
  obtain ⟨w2, hw2, hf⟩ := Option.bind_eq_some_iff.mp hf
  refine g_put (ty := .int) (pc' := 8) (fok_11 4 (by decide)) (Or.inl rfl) dX11_next_5 rfl q793 (by decide +kernel) rfl rfl hw2 ?_
  obtain ⟨q9, hq9, hf⟩ := Option.bind_eq_some_iff.mp hf
  refine wX11_next_l8 a0 FU w2 q9 hq9 ?_
  refine g_aload_n (pc' := 37) dX11_next_36 rfl rfl rfl ?_
  refine g_aload_n (pc' := 38) dX11_next_37 rfl rfl rfl ?_
  obtain ⟨v10, hv10, hf⟩ := Option.bind_eq_some_iff.mp hf
  refine g_get (pc' := 41) (fok_11 4 (by decide)) (Or.inl rfl) dX11_next_38 rfl q793 (hI_spec hv10) ?_
  obtain ⟨w11, hw11, hf⟩ := Option.bind_eq_some_iff.mp hf
  refine g_put (ty := .int) (pc' := 44) (fok_11 5 (by decide)) (Or.inl rfl) dX11_next_41 rfl q794 (by decide +kernel) rfl rfl hw11 ?_
  refine g_aload_n (pc' := 45) dX11_next_44 rfl rfl rfl ?_
  refine g_aload_n (pc' := 46) dX11_next_45 rfl rfl rfl ?_
  obtain ⟨v12, hv12, hf⟩ := Option.bind_eq_some_iff.mp hf
  refine g_get (pc' := 49) (fok_11 4 (by decide)) (Or.inl rfl) dX11_next_46 rfl q793 (hI_spec hv12) ?_
  refine g_bipush (pc' := 51) (v := 97) dX11_next_49 rfl (by decide) ?_
  refine g_bipush (pc' := 53) (v := 122) dX11_next_51 rfl (by decide) ?_
  obtain ⟨q13, hq13, hf⟩ := Option.bind_eq_some_iff.mp hf
  obtain ⟨h14, hq13⟩ := vK_spec hq13
  refine g_callV (pc' := 56) (mx := mdX11_isAt) (as := [.int v12, .int 97, .int 122]) (wX11_isAt g _ a0 v12 97 122 hq13) oX11_isAt ⟨Nat.le_of_ble_eq_true rfl, Nat.le_of_ble_eq_true rfl⟩ dX11_next_53 rfl (ci := 11) rfl h14 ⟨by decide +kernel, by decide +kernel⟩ oX11_isAt.2.2.2 rfl q816 q818 qs15 qs15 q818 (Nat.le_of_ble_eq_true rfl) (Nat.le_of_ble_eq_true rfl) (g_rI ?_) g_nt rfl
  refine g_istore_n (pc' := 57) (L' := [some (.ref a0), some (.int q13)]) dX11_next_56 rfl rfl (Nat.le_of_ble_eq_true rfl) rfl rfl ?_
  refine g_aload_n (pc' := 58) dX11_next_57 rfl rfl rfl ?_
  refine g_aload_n (pc' := 59) dX11_next_58 rfl rfl rfl ?_
  obtain ⟨v15, hv15, hf⟩ := Option.bind_eq_some_iff.mp hf
  refine g_get (pc' := 62) (fok_11 4 (by decide)) (Or.inl rfl) dX11_next_59 rfl q793 (hI_spec hv15) ?_
  refine g_bipush (pc' := 64) (v := 48) dX11_next_62 rfl (by decide) ?_
  refine g_bipush (pc' := 66) (v := 57) dX11_next_64 rfl (by decide) ?_
  obtain ⟨q16, hq16, hf⟩ := Option.bind_eq_some_iff.mp hf
  obtain ⟨h17, hq16⟩ := vK_spec hq16
  refine g_callV (pc' := 69) (mx := mdX11_isAt) (as := [.int v15, .int 48, .int 57]) (wX11_isAt g _ a0 v15 48 57 hq16) oX11_isAt ⟨Nat.le_of_ble_eq_true rfl, Nat.le_of_ble_eq_true rfl⟩ dX11_next_66 rfl (ci := 11) rfl h17 ⟨by decide +kernel, by decide +kernel⟩ oX11_isAt.2.2.2 rfl q816 q818 qs15 qs15 q818 (Nat.le_of_ble_eq_true rfl) (Nat.le_of_ble_eq_true rfl) (g_rI ?_) g_nt rfl
  refine g_istore_n (pc' := 70) (L' := [some (.ref a0), some (.int q13), some (.int q16)]) dX11_next_69 rfl rfl (Nat.le_of_ble_eq_true rfl) rfl rfl ?_
  refine g_aload_n (pc' := 71) dX11_next_70 rfl rfl rfl ?_
  refine g_aload_n (pc' := 72) dX11_next_71 rfl rfl rfl ?_
  obtain ⟨v18, hv18, hf⟩ := Option.bind_eq_some_iff.mp hf
  refine g_get (pc' := 75) (fok_11 4 (by decide)) (Or.inl rfl) dX11_next_72 rfl q793 (hI_spec hv18) ?_
  refine g_aload_n (pc' := 76) dX11_next_75 rfl rfl rfl ?_
  obtain ⟨v19, hv19, hf⟩ := Option.bind_eq_some_iff.mp hf
  refine g_get (pc' := 79) (fok_11 1 (by decide)) (Or.inl rfl) dX11_next_76 rfl q790 (hI_spec hv19) ?_
  obtain ⟨q20, hqq20, hf⟩ := Option.bind_eq_some_iff.mp hf
  have hJq20 : bG (g, mdX11_next, w.2.1, w.2.2.1, (q_ none r)) w11 121 [some (.ref a0), some (.int q13), some (.int q16)] [.int q20, .ref a0] := by
    obtain ⟨w28, hw28, hf⟩ := Option.bind_eq_some_iff.mp hf
    refine g_put (ty := .int) (pc' := 124) (fok_11 3 (by decide)) (Or.inl rfl) dX11_next_121 rfl q792 (by decide +kernel) rfl rfl hw28 ?_
    refine g_aload_n (pc' := 125) dX11_next_124 rfl rfl rfl ?_
    obtain ⟨v29, hv29, hf⟩ := Option.bind_eq_some_iff.mp hf
    refine g_get (pc' := 128) (fok_11 3 (by decide)) (Or.inl rfl) dX11_next_125 rfl q792 (hI_spec hv29) ?_
    refine g_iconst (pc' := 129) (v := 2) dX11_next_128 rfl (by decide) ?_
    obtain ⟨q30, hqq30, hf⟩ := Option.bind_eq_some_iff.mp hf
    have hJq30 : bG (g, mdX11_next, w.2.1, w.2.2.1, (q_ none r)) q30 142 [some (.ref a0), some (.int q13), some (.int q16)] [] := by
      obtain ⟨q41, hq41, hf⟩ := Option.bind_eq_some_iff.mp hf
      refine wX11_next_l142 a0 q13 q16 FU q30 q41 hq41 ?_
      refine g_drop [1] (L' := [some (.ref a0), none, some (.int q16)]) rfl ?_
      obtain ⟨q49, hq49, hf⟩ := Option.bind_eq_some_iff.mp hf
      refine wX11_next_l174 a0 q16 FU q41 q49 hq49 ?_
      obtain rfl := Option.some.inj hf
      exact g_vret dX11_next_206 rfl ⟨rfl, rfl⟩
    replace hf := hqq30
    refine g_icmp_le (tgt := 142) (pc' := 132) dX11_next_129 (by decide) rfl (fun h31 => ?_) (fun h31 => ?_)
    · replace hf := (if_pos h31).symm.trans hf
      obtain rfl := Option.some.inj hf
      exact hJq30
    · replace hf := (if_neg h31).symm.trans hf
      refine g_aload_n (pc' := 133) dX11_next_132 rfl rfl rfl ?_
      refine g_dup (pc' := 134) dX11_next_133 rfl rfl ?_
      obtain ⟨v32, hv32, hf⟩ := Option.bind_eq_some_iff.mp hf
      refine g_get (pc' := 137) (fok_11 5 (by decide)) (Or.inl rfl) dX11_next_134 rfl q794 (hI_spec hv32) ?_
      refine g_iconst (pc' := 138) (v := 1) dX11_next_137 rfl (by decide) ?_
      refine g_iadd (pc' := 139) dX11_next_138 rfl ?_
      obtain ⟨w33, hw33, hf⟩ := Option.bind_eq_some_iff.mp hf
      refine g_put (ty := .int) (pc' := 142) (fok_11 5 (by decide)) (Or.inl rfl) dX11_next_139 rfl q794 (by decide +kernel) rfl rfl hw33 ?_
      obtain rfl := Option.some.inj hf
      exact hJq30
  replace hf := hqq20
  refine g_icmp_ne (tgt := 86) (pc' := 82) dX11_next_79 (by decide) rfl (fun h21 => ?_) (fun h21 => ?_)
  · replace hf := (if_neg h21).symm.trans hf
    refine g_iload_n (pc' := 87) dX11_next_86 rfl rfl rfl ?_
    refine g_if_eq (tgt := 94) (pc' := 90) dX11_next_87 (by decide) rfl (fun h22 => ?_) (fun h22 => ?_)
    · replace hf := (if_pos h22).symm.trans hf
      refine g_iload_n (pc' := 95) dX11_next_94 rfl rfl rfl ?_
      refine g_if_eq (tgt := 102) (pc' := 98) dX11_next_95 (by decide) rfl (fun h23 => ?_) (fun h23 => ?_)
      · replace hf := (if_pos h23).symm.trans hf
        refine g_aload_n (pc' := 103) dX11_next_102 rfl rfl rfl ?_
        obtain ⟨v24, hv24, hf⟩ := Option.bind_eq_some_iff.mp hf
        refine g_get (pc' := 106) (fok_11 0 (by decide)) (Or.inl rfl) dX11_next_103 rfl q789 (hR_spec hv24) ?_
        refine g_aload_n (pc' := 107) dX11_next_106 rfl rfl rfl ?_
        obtain ⟨v25, hv25, hf⟩ := Option.bind_eq_some_iff.mp hf
        refine g_get (pc' := 110) (fok_11 4 (by decide)) (Or.inl rfl) dX11_next_107 rfl q793 (hI_spec hv25) ?_
        obtain ⟨v26, hv26, hf⟩ := Option.bind_eq_some_iff.mp hf
        refine g_bald (pc' := 111) dX11_next_110 rfl hv26 ?_
        refine g_bipush (pc' := 113) (v := 59) dX11_next_111 rfl (by decide) ?_
        refine g_icmp_ne (tgt := 120) (pc' := 116) dX11_next_113 (by decide) rfl (fun h27 => ?_) (fun h27 => ?_)
        · replace hf := (if_neg h27).symm.trans hf
          refine g_iconst (pc' := 121) (v := 4) dX11_next_120 rfl (by decide) ?_
          obtain rfl := Option.some.inj hf
          exact hJq20
        · replace hf := (if_pos h27).symm.trans hf
          refine g_iconst (pc' := 117) (v := 3) dX11_next_116 rfl (by decide) ?_
          refine g_goto (tgt := 121) dX11_next_117 (by decide) ?_
          obtain rfl := Option.some.inj hf
          exact hJq20
      · replace hf := (if_neg h23).symm.trans hf
        refine g_iconst (pc' := 99) (v := 2) dX11_next_98 rfl (by decide) ?_
        refine g_goto (tgt := 121) dX11_next_99 (by decide) ?_
        obtain rfl := Option.some.inj hf
        exact hJq20
    · replace hf := (if_neg h22).symm.trans hf
      refine g_iconst (pc' := 91) (v := 1) dX11_next_90 rfl (by decide) ?_
      refine g_goto (tgt := 121) dX11_next_91 (by decide) ?_
      obtain rfl := Option.some.inj hf
      exact hJq20
  · replace hf := (if_pos h21).symm.trans hf
    refine g_iconst (pc' := 83) (v := 0) dX11_next_82 rfl (by decide) ?_
    refine g_goto (tgt := 121) dX11_next_83 (by decide) ?_
    obtain rfl := Option.some.inj hf
    exact hJq20
def mdX11_isWord : bMD := (yX11_isWord, cX11_isWord, 4, (some FieldType.boolean), [], 6, 150)
theorem oX11_isWord : bOkc mdX11_isWord 1 := ⟨by decide +kernel, ⟨by decide +kernel, by decide +kernel⟩, by decide +kernel, q833⟩
def fX11_isWord_l32 (w : bWl) (b0 : Nat) (s1 : Nat) (rec : (Int32 × Int32) → Option (Int32 × Int32)) (s : Int32 × Int32) : Option (Int32 × Int32) :=
  Option.bind (strLen s1) fun v8 =>
  (if v8 ≤ s.2 then
  some (s.1, s.2)
else
  (if s.1 = 0 then
  some (s.1, s.2)
else
  Option.bind (hR w (okc 11) b0 0) fun v11 =>
  Option.bind (hI w (okc 11) b0 4) fun v12 =>
  Option.bind (aI w 1 v11 (v12 + s.2)) fun v13 =>
  Option.bind (strAt s1 s.2) fun v14 =>
  Option.bind (α := Int32) ((if v13 = v14 then
  some 1
else
  some 0)) fun q15 =>
  rec (q15, (s.2 + 1))))
def fX11_isWord (w : bWl) (a0 : Nat) (s1 : Nat) : Option Int32 :=
  Option.bind (hI w (okc 11) a0 3) fun v1 =>
  Option.bind (α := Int32) ((if v1 = 1 then
  Option.bind (hI w (okc 11) a0 5) fun v4 =>
  Option.bind (hI w (okc 11) a0 4) fun v5 =>
  Option.bind (strLen s1) fun v6 =>
  (if (v4 - v5) = v6 then
  some 1
else
  some 0)
else
  some 0)) fun q2 =>
  Option.bind (lpF (fX11_isWord_l32 w a0 s1) FU (q2, 0)) fun q17 =>
  bz q17.1 (some q17.1)
set_option maxHeartbeats 4000000 in
theorem wX11_isWord_l32 {g : bGh} {w : bWl} {n0 u0 : Nat} {Q : Outcome → bWl → Prop} (b0 : Nat) (s1 : Nat) : ∀ (n : Nat) (s : Int32 × Int32) (r : (Int32 × Int32)), lpF (fX11_isWord_l32 w b0 s1) n s = some r → bG (g, mdX11_isWord, n0, u0, Q) w 75 [some (.ref b0), some (.ref (g.2.2.2.2.1 s1)), some (.int r.1), some (.int r.2)] [] → bG (g, mdX11_isWord, n0, u0, Q) w 32 [some (.ref b0), some (.ref (g.2.2.2.2.1 s1)), some (.int s.1), some (.int s.2)] [] := by
  intro n
  induction n with
  | zero => intro s r hf; cases hf
  | succ n ih =>
    intro s r hf kx
    rw [lpF_s] at hf
    unfold fX11_isWord_l32 at hf
    refine g_iload_n (pc' := 33) dX11_isWord_32 rfl rfl rfl ?_
    refine g_aload_n (pc' := 34) dX11_isWord_33 rfl rfl rfl ?_
    obtain ⟨v8, hv8, hf⟩ := Option.bind_eq_some_iff.mp hf
    refine g_strLen (pc' := 37) dX11_isWord_34 rfl q834 ⟨Nat.le_of_ble_eq_true rfl, Nat.le_of_ble_eq_true rfl⟩ hv8 (Nat.le_of_ble_eq_true rfl) ?_
    refine g_icmp_ge (tgt := 75) (pc' := 40) dX11_isWord_37 (by decide) rfl (fun h9 => ?_) (fun h9 => ?_)
    · replace hf := (if_pos h9).symm.trans hf
      obtain rfl := Option.some.inj hf
      exact kx
    · replace hf := (if_neg h9).symm.trans hf
      refine g_iload_n (pc' := 41) dX11_isWord_40 rfl rfl rfl ?_
      refine g_if_eq (tgt := 75) (pc' := 44) dX11_isWord_41 (by decide) rfl (fun h10 => ?_) (fun h10 => ?_)
      · replace hf := (if_pos h10).symm.trans hf
        obtain rfl := Option.some.inj hf
        exact kx
      · replace hf := (if_neg h10).symm.trans hf
        refine g_aload_n (pc' := 45) dX11_isWord_44 rfl rfl rfl ?_
        obtain ⟨v11, hv11, hf⟩ := Option.bind_eq_some_iff.mp hf
        refine g_get (pc' := 48) (fok_11 0 (by decide)) (Or.inl rfl) dX11_isWord_45 rfl q789 (hR_spec hv11) ?_
        refine g_aload_n (pc' := 49) dX11_isWord_48 rfl rfl rfl ?_
        obtain ⟨v12, hv12, hf⟩ := Option.bind_eq_some_iff.mp hf
        refine g_get (pc' := 52) (fok_11 4 (by decide)) (Or.inl rfl) dX11_isWord_49 rfl q793 (hI_spec hv12) ?_
        refine g_iload_n (pc' := 53) dX11_isWord_52 rfl rfl rfl ?_
        refine g_iadd (pc' := 54) dX11_isWord_53 rfl ?_
        obtain ⟨v13, hv13, hf⟩ := Option.bind_eq_some_iff.mp hf
        refine g_bald (pc' := 55) dX11_isWord_54 rfl hv13 ?_
        refine g_aload_n (pc' := 56) dX11_isWord_55 rfl rfl rfl ?_
        refine g_iload_n (pc' := 57) dX11_isWord_56 rfl rfl rfl ?_
        obtain ⟨v14, hv14, hf⟩ := Option.bind_eq_some_iff.mp hf
        refine g_strAt (pc' := 60) dX11_isWord_57 rfl q844 ⟨Nat.le_of_ble_eq_true rfl, Nat.le_of_ble_eq_true rfl⟩ hv14 (Nat.le_of_ble_eq_true rfl) ?_
        obtain ⟨q15, hqq15, hf⟩ := Option.bind_eq_some_iff.mp hf
        have hJq15 : bG (g, mdX11_isWord, n0, u0, Q) w 68 [some (.ref b0), some (.ref (g.2.2.2.2.1 s1)), none, some (.int s.2)] [.int q15] := by
          refine g_istore_n (pc' := 69) (L' := [some (.ref b0), some (.ref (g.2.2.2.2.1 s1)), some (.int q15), some (.int s.2)]) dX11_isWord_68 rfl rfl (Nat.le_of_ble_eq_true rfl) rfl rfl ?_
          refine g_iinc (pc' := 72) (v := s.2 + 1) (L' := [some (.ref b0), some (.ref (g.2.2.2.2.1 s1)), some (.int q15), some (.int (s.2 + 1))]) dX11_isWord_69 rfl rfl rfl (Nat.le_of_ble_eq_true rfl) rfl rfl ?_
          refine g_goto (tgt := 32) dX11_isWord_72 (by decide) ?_
          exact ih _ r hf kx
        replace hf := hqq15
        refine g_icmp_ne (tgt := 67) (pc' := 63) dX11_isWord_60 (by decide) rfl (fun h16 => ?_) (fun h16 => ?_)
        · replace hf := (if_neg h16).symm.trans hf
          refine g_iconst (pc' := 68) (v := 0) dX11_isWord_67 rfl (by decide) ?_
          obtain rfl := Option.some.inj hf
          refine g_drop [2] (L' := [some (.ref b0), some (.ref (g.2.2.2.2.1 s1)), none, some (.int s.2)]) rfl ?_
          exact hJq15
        · replace hf := (if_pos h16).symm.trans hf
          refine g_iconst (pc' := 64) (v := 1) dX11_isWord_63 rfl (by decide) ?_
          refine g_goto (tgt := 68) dX11_isWord_64 (by decide) ?_
          obtain rfl := Option.some.inj hf
          refine g_drop [2] (L' := [some (.ref b0), some (.ref (g.2.2.2.2.1 s1)), none, some (.int s.2)]) rfl ?_
          exact hJq15
set_option maxHeartbeats 4000000 in
theorem wX11_isWord (g : bGh) (w : bWl) (a0 : Nat) (s1 : Nat) {r : Int32} (hf : fX11_isWord w a0 s1 = some r) : bM g mdX11_isWord w [.ref a0, .ref (g.2.2.2.2.1 s1)] (q_ (eI r) w) := by
  unfold fX11_isWord at hf
  change bG _ _ 0 [some (.ref a0), some (.ref (g.2.2.2.2.1 s1))] []
  refine g_aload_n (pc' := 1) dX11_isWord_0 rfl rfl rfl ?_
  obtain ⟨v1, hv1, hf⟩ := Option.bind_eq_some_iff.mp hf
  refine g_get (pc' := 4) (fok_11 3 (by decide)) (Or.inl rfl) dX11_isWord_1 rfl q792 (hI_spec hv1) ?_
  refine g_iconst (pc' := 5) (v := 1) dX11_isWord_4 rfl (by decide) ?_
  obtain ⟨q2, hqq2, hf⟩ := Option.bind_eq_some_iff.mp hf
  have hJq2 : bG (g, mdX11_isWord, w.2.1, w.2.2.1, (q_ (eI r) w)) w 29 [some (.ref a0), some (.ref (g.2.2.2.2.1 s1))] [.int q2] := by
    refine g_istore_n (pc' := 30) (L' := [some (.ref a0), some (.ref (g.2.2.2.2.1 s1)), some (.int q2)]) dX11_isWord_29 rfl rfl (Nat.le_of_ble_eq_true rfl) rfl rfl ?_
    refine g_iconst (pc' := 31) (v := 0) dX11_isWord_30 rfl (by decide) ?_
    refine g_istore_n (pc' := 32) (L' := [some (.ref a0), some (.ref (g.2.2.2.2.1 s1)), some (.int q2), some (.int 0)]) dX11_isWord_31 rfl rfl (Nat.le_of_ble_eq_true rfl) rfl rfl ?_
    obtain ⟨q17, hq17, hf⟩ := Option.bind_eq_some_iff.mp hf
    refine wX11_isWord_l32 a0 s1 FU (q2, 0) q17 hq17 ?_
    refine g_iload_n (pc' := 76) dX11_isWord_75 rfl rfl rfl ?_
    obtain ⟨h18, hf⟩ := bz_spec hf
    obtain rfl := Option.some.inj hf
    exact g_iret dX11_isWord_76 rfl (bz_nar h18) ⟨rfl, rfl⟩
  replace hf := hqq2
  refine g_icmp_ne (tgt := 28) (pc' := 8) dX11_isWord_5 (by decide) rfl (fun h3 => ?_) (fun h3 => ?_)
  · replace hf := (if_neg h3).symm.trans hf
    refine g_iconst (pc' := 29) (v := 0) dX11_isWord_28 rfl (by decide) ?_
    obtain rfl := Option.some.inj hf
    exact hJq2
  · replace hf := (if_pos h3).symm.trans hf
    refine g_aload_n (pc' := 9) dX11_isWord_8 rfl rfl rfl ?_
    obtain ⟨v4, hv4, hf⟩ := Option.bind_eq_some_iff.mp hf
    refine g_get (pc' := 12) (fok_11 5 (by decide)) (Or.inl rfl) dX11_isWord_9 rfl q794 (hI_spec hv4) ?_
    refine g_aload_n (pc' := 13) dX11_isWord_12 rfl rfl rfl ?_
    obtain ⟨v5, hv5, hf⟩ := Option.bind_eq_some_iff.mp hf
    refine g_get (pc' := 16) (fok_11 4 (by decide)) (Or.inl rfl) dX11_isWord_13 rfl q793 (hI_spec hv5) ?_
    refine g_isub (pc' := 17) dX11_isWord_16 rfl ?_
    refine g_aload_n (pc' := 18) dX11_isWord_17 rfl rfl rfl ?_
    obtain ⟨v6, hv6, hf⟩ := Option.bind_eq_some_iff.mp hf
    refine g_strLen (pc' := 21) dX11_isWord_18 rfl q834 ⟨Nat.le_of_ble_eq_true rfl, Nat.le_of_ble_eq_true rfl⟩ hv6 (Nat.le_of_ble_eq_true rfl) ?_
    refine g_icmp_ne (tgt := 28) (pc' := 24) dX11_isWord_21 (by decide) rfl (fun h7 => ?_) (fun h7 => ?_)
    · replace hf := (if_neg h7).symm.trans hf
      refine g_iconst (pc' := 29) (v := 0) dX11_isWord_28 rfl (by decide) ?_
      obtain rfl := Option.some.inj hf
      exact hJq2
    · replace hf := (if_pos h7).symm.trans hf
      refine g_iconst (pc' := 25) (v := 1) dX11_isWord_24 rfl (by decide) ?_
      refine g_goto (tgt := 29) dX11_isWord_25 (by decide) ?_
      obtain rfl := Option.some.inj hf
      exact hJq2
def mdX11_kindHere : bMD := (yX11_kindHere, cX11_kindHere, 2, (some FieldType.int), [], 7, 173)
theorem oX11_kindHere : bOkc mdX11_kindHere 0 := ⟨by decide +kernel, ⟨by decide +kernel, by decide +kernel⟩, by decide +kernel, q828⟩
def fX11_kindHere (w : bWl) (a0 : Nat) : Option Int32 :=
  Option.bind (vK 11 w a0 (fX11_isWord w a0 0)) fun q1 =>
  Option.bind (α := Int32) ((if q1 = 0 then
  Option.bind (vK 11 w a0 (fX11_isWord w a0 1)) fun q5 =>
  (if q5 = 0 then
  Option.bind (vK 11 w a0 (fX11_isWord w a0 2)) fun q8 =>
  (if q8 = 0 then
  some (-1)
else
  some 2)
else
  some 1)
else
  some 0)) fun q3 =>
  (if q3 < 0 then
  Option.bind (vK 11 w a0 (fX11_isWord w a0 3)) fun q12 =>
  (if q12 = 0 then
  Option.bind (vK 11 w a0 (fX11_isWord w a0 4)) fun q15 =>
  (if q15 = 0 then
  Option.bind (vK 11 w a0 (fX11_isWord w a0 5)) fun q18 =>
  (if q18 = 0 then
  some (-1)
else
  some 5)
else
  some 4)
else
  some 3)
else
  some q3)
set_option maxHeartbeats 4000000 in
theorem wX11_kindHere (g : bGh) (w : bWl) (a0 : Nat) {r : Int32} (hf : fX11_kindHere w a0 = some r) : bM g mdX11_kindHere w [.ref a0] (q_ (eI r) w) := by
  unfold fX11_kindHere at hf
  change bG _ _ 0 [some (.ref a0)] []
  refine g_aload_n (pc' := 1) dX11_kindHere_0 rfl rfl rfl ?_
  refine g_ldcS (pc' := 3) (i := 0) dX11_kindHere_1 rfl (by decide) rfl rfl ?_
  obtain ⟨q1, hq1, hf⟩ := Option.bind_eq_some_iff.mp hf
  obtain ⟨h2, hq1⟩ := vK_spec hq1
  refine g_callV (pc' := 6) (mx := mdX11_isWord) (as := [.ref (g.2.2.2.2.1 0)]) (wX11_isWord g _ a0 0 hq1) oX11_isWord ⟨Nat.le_of_ble_eq_true rfl, Nat.le_of_ble_eq_true rfl⟩ dX11_kindHere_3 rfl (ci := 11) rfl h2 ⟨by decide +kernel, by decide +kernel⟩ oX11_isWord.2.2.2 rfl q830 q832 qs18 qs18 q832 (Nat.le_of_ble_eq_true rfl) (Nat.le_of_ble_eq_true rfl) (g_rI ?_) g_nt rfl
  obtain ⟨q3, hqq3, hf⟩ := Option.bind_eq_some_iff.mp hf
  have hJq3 : bG (g, mdX11_kindHere, w.2.1, w.2.2.1, (q_ (eI r) w)) w 40 [some (.ref a0)] [.int q3] := by
    refine g_istore_n (pc' := 41) (L' := [some (.ref a0), some (.int q3)]) dX11_kindHere_40 rfl rfl (Nat.le_of_ble_eq_true rfl) rfl rfl ?_
    refine g_iload_n (pc' := 42) dX11_kindHere_41 rfl rfl rfl ?_
    refine g_if_lt (tgt := 49) (pc' := 45) dX11_kindHere_42 (by decide) rfl (fun h11 => ?_) (fun h11 => ?_)
    · replace hf := (if_pos h11).symm.trans hf
      refine g_aload_n (pc' := 50) dX11_kindHere_49 rfl rfl rfl ?_
      refine g_ldcS (pc' := 52) (i := 3) dX11_kindHere_50 rfl (by decide) rfl rfl ?_
      obtain ⟨q12, hq12, hf⟩ := Option.bind_eq_some_iff.mp hf
      obtain ⟨h13, hq12⟩ := vK_spec hq12
      refine g_callV (pc' := 55) (mx := mdX11_isWord) (as := [.ref (g.2.2.2.2.1 3)]) (wX11_isWord g _ a0 3 hq12) oX11_isWord ⟨Nat.le_of_ble_eq_true rfl, Nat.le_of_ble_eq_true rfl⟩ dX11_kindHere_52 rfl (ci := 11) rfl h13 ⟨by decide +kernel, by decide +kernel⟩ oX11_isWord.2.2.2 rfl q830 q832 qs18 qs18 q832 (Nat.le_of_ble_eq_true rfl) (Nat.le_of_ble_eq_true rfl) (g_rI ?_) g_nt rfl
      refine g_if_eq (tgt := 62) (pc' := 58) dX11_kindHere_55 (by decide) rfl (fun h14 => ?_) (fun h14 => ?_)
      · replace hf := (if_pos h14).symm.trans hf
        refine g_aload_n (pc' := 63) dX11_kindHere_62 rfl rfl rfl ?_
        refine g_ldcS (pc' := 65) (i := 4) dX11_kindHere_63 rfl (by decide) rfl rfl ?_
        obtain ⟨q15, hq15, hf⟩ := Option.bind_eq_some_iff.mp hf
        obtain ⟨h16, hq15⟩ := vK_spec hq15
        refine g_callV (pc' := 68) (mx := mdX11_isWord) (as := [.ref (g.2.2.2.2.1 4)]) (wX11_isWord g _ a0 4 hq15) oX11_isWord ⟨Nat.le_of_ble_eq_true rfl, Nat.le_of_ble_eq_true rfl⟩ dX11_kindHere_65 rfl (ci := 11) rfl h16 ⟨by decide +kernel, by decide +kernel⟩ oX11_isWord.2.2.2 rfl q830 q832 qs18 qs18 q832 (Nat.le_of_ble_eq_true rfl) (Nat.le_of_ble_eq_true rfl) (g_rI ?_) g_nt rfl
        refine g_if_eq (tgt := 75) (pc' := 71) dX11_kindHere_68 (by decide) rfl (fun h17 => ?_) (fun h17 => ?_)
        · replace hf := (if_pos h17).symm.trans hf
          refine g_aload_n (pc' := 76) dX11_kindHere_75 rfl rfl rfl ?_
          refine g_ldcS (pc' := 78) (i := 5) dX11_kindHere_76 rfl (by decide) rfl rfl ?_
          obtain ⟨q18, hq18, hf⟩ := Option.bind_eq_some_iff.mp hf
          obtain ⟨h19, hq18⟩ := vK_spec hq18
          refine g_callV (pc' := 81) (mx := mdX11_isWord) (as := [.ref (g.2.2.2.2.1 5)]) (wX11_isWord g _ a0 5 hq18) oX11_isWord ⟨Nat.le_of_ble_eq_true rfl, Nat.le_of_ble_eq_true rfl⟩ dX11_kindHere_78 rfl (ci := 11) rfl h19 ⟨by decide +kernel, by decide +kernel⟩ oX11_isWord.2.2.2 rfl q830 q832 qs18 qs18 q832 (Nat.le_of_ble_eq_true rfl) (Nat.le_of_ble_eq_true rfl) (g_rI ?_) g_nt rfl
          refine g_if_eq (tgt := 88) (pc' := 84) dX11_kindHere_81 (by decide) rfl (fun h20 => ?_) (fun h20 => ?_)
          · replace hf := (if_pos h20).symm.trans hf
            refine g_iconst (pc' := 89) (v := (-1)) dX11_kindHere_88 rfl (by decide) ?_
            obtain rfl := Option.some.inj hf
            exact g_iret dX11_kindHere_89 rfl rfl ⟨rfl, rfl⟩
          · replace hf := (if_neg h20).symm.trans hf
            refine g_iconst (pc' := 85) (v := 5) dX11_kindHere_84 rfl (by decide) ?_
            refine g_goto (tgt := 89) dX11_kindHere_85 (by decide) ?_
            obtain rfl := Option.some.inj hf
            exact g_iret dX11_kindHere_89 rfl rfl ⟨rfl, rfl⟩
        · replace hf := (if_neg h17).symm.trans hf
          refine g_iconst (pc' := 72) (v := 4) dX11_kindHere_71 rfl (by decide) ?_
          refine g_goto (tgt := 89) dX11_kindHere_72 (by decide) ?_
          obtain rfl := Option.some.inj hf
          exact g_iret dX11_kindHere_89 rfl rfl ⟨rfl, rfl⟩
      · replace hf := (if_neg h14).symm.trans hf
        refine g_iconst (pc' := 59) (v := 3) dX11_kindHere_58 rfl (by decide) ?_
        refine g_goto (tgt := 89) dX11_kindHere_59 (by decide) ?_
        obtain rfl := Option.some.inj hf
        exact g_iret dX11_kindHere_89 rfl rfl ⟨rfl, rfl⟩
    · replace hf := (if_neg h11).symm.trans hf
      refine g_iload_n (pc' := 46) dX11_kindHere_45 rfl rfl rfl ?_
      refine g_goto (tgt := 89) dX11_kindHere_46 (by decide) ?_
      obtain rfl := Option.some.inj hf
      exact g_iret dX11_kindHere_89 rfl rfl ⟨rfl, rfl⟩
  replace hf := hqq3
  refine g_if_eq (tgt := 13) (pc' := 9) dX11_kindHere_6 (by decide) rfl (fun h4 => ?_) (fun h4 => ?_)
  · replace hf := (if_pos h4).symm.trans hf
    refine g_aload_n (pc' := 14) dX11_kindHere_13 rfl rfl rfl ?_
    refine g_ldcS (pc' := 16) (i := 1) dX11_kindHere_14 rfl (by decide) rfl rfl ?_
    obtain ⟨q5, hq5, hf⟩ := Option.bind_eq_some_iff.mp hf
    obtain ⟨h6, hq5⟩ := vK_spec hq5
    refine g_callV (pc' := 19) (mx := mdX11_isWord) (as := [.ref (g.2.2.2.2.1 1)]) (wX11_isWord g _ a0 1 hq5) oX11_isWord ⟨Nat.le_of_ble_eq_true rfl, Nat.le_of_ble_eq_true rfl⟩ dX11_kindHere_16 rfl (ci := 11) rfl h6 ⟨by decide +kernel, by decide +kernel⟩ oX11_isWord.2.2.2 rfl q830 q832 qs18 qs18 q832 (Nat.le_of_ble_eq_true rfl) (Nat.le_of_ble_eq_true rfl) (g_rI ?_) g_nt rfl
    refine g_if_eq (tgt := 26) (pc' := 22) dX11_kindHere_19 (by decide) rfl (fun h7 => ?_) (fun h7 => ?_)
    · replace hf := (if_pos h7).symm.trans hf
      refine g_aload_n (pc' := 27) dX11_kindHere_26 rfl rfl rfl ?_
      refine g_ldcS (pc' := 29) (i := 2) dX11_kindHere_27 rfl (by decide) rfl rfl ?_
      obtain ⟨q8, hq8, hf⟩ := Option.bind_eq_some_iff.mp hf
      obtain ⟨h9, hq8⟩ := vK_spec hq8
      refine g_callV (pc' := 32) (mx := mdX11_isWord) (as := [.ref (g.2.2.2.2.1 2)]) (wX11_isWord g _ a0 2 hq8) oX11_isWord ⟨Nat.le_of_ble_eq_true rfl, Nat.le_of_ble_eq_true rfl⟩ dX11_kindHere_29 rfl (ci := 11) rfl h9 ⟨by decide +kernel, by decide +kernel⟩ oX11_isWord.2.2.2 rfl q830 q832 qs18 qs18 q832 (Nat.le_of_ble_eq_true rfl) (Nat.le_of_ble_eq_true rfl) (g_rI ?_) g_nt rfl
      refine g_if_eq (tgt := 39) (pc' := 35) dX11_kindHere_32 (by decide) rfl (fun h10 => ?_) (fun h10 => ?_)
      · replace hf := (if_pos h10).symm.trans hf
        refine g_iconst (pc' := 40) (v := (-1)) dX11_kindHere_39 rfl (by decide) ?_
        obtain rfl := Option.some.inj hf
        exact hJq3
      · replace hf := (if_neg h10).symm.trans hf
        refine g_iconst (pc' := 36) (v := 2) dX11_kindHere_35 rfl (by decide) ?_
        refine g_goto (tgt := 40) dX11_kindHere_36 (by decide) ?_
        obtain rfl := Option.some.inj hf
        exact hJq3
    · replace hf := (if_neg h7).symm.trans hf
      refine g_iconst (pc' := 23) (v := 1) dX11_kindHere_22 rfl (by decide) ?_
      refine g_goto (tgt := 40) dX11_kindHere_23 (by decide) ?_
      obtain rfl := Option.some.inj hf
      exact hJq3
  · replace hf := (if_neg h4).symm.trans hf
    refine g_iconst (pc' := 10) (v := 0) dX11_kindHere_9 rfl (by decide) ?_
    refine g_goto (tgt := 40) dX11_kindHere_10 (by decide) ?_
    obtain rfl := Option.some.inj hf
    exact hJq3
def mdX11_must : bMD := (yX11_must, cX11_must, 2, none, [], 5, 116)
theorem oX11_must : bOkc mdX11_must 1 := ⟨by decide +kernel, ⟨by decide +kernel, by decide +kernel⟩, by decide +kernel, q894⟩
def fX11_must (w : bWl) (a0 : Nat) (x1 : Int32) : Option ((Unit ⊕ Nat) × bWl) :=
  (if x1 = 0 then
  Option.bind (nC w (.inr (12, dX12)) 7) fun v2 =>
  Option.bind (hI v2.2 (okc 11) a0 4) fun v3 =>
  Option.bind (fX12_init v2.2 v2.1 v3) fun q4 =>
  some (Sum.inr v2.1, q4)
else
  some (Sum.inl (), w))
set_option maxHeartbeats 4000000 in
theorem wX11_must (g : bGh) (w : bWl) (a0 : Nat) (x1 : Int32) {r : ((Unit ⊕ Nat) × bWl)} (hf : fX11_must w a0 x1 = some r) : bM g mdX11_must w [.ref a0, .int x1] (qX eV r.1 r.2) := by
  unfold fX11_must at hf
  change bG _ _ 0 [some (.ref a0), some (.int x1)] []
  refine g_iload_n (pc' := 1) dX11_must_0 rfl rfl rfl ?_
  refine g_if_ne (tgt := 16) (pc' := 4) dX11_must_1 (by decide) rfl (fun h1 => ?_) (fun h1 => ?_)
  · replace hf := (if_neg h1).symm.trans hf
    obtain rfl := Option.some.inj hf
    exact g_vret dX11_must_16 rfl ⟨rfl, rfl⟩
  · replace hf := (if_pos h1).symm.trans hf
    obtain ⟨v2, hv2, hf⟩ := Option.bind_eq_some_iff.mp hf
    refine g_new (ci := 12) (pc' := 7) rfl in_X12 tyX12_ok dX12_ok dX11_must_4 rfl q895 q896 q104 hv2 ?_
    refine g_dup (pc' := 8) dX11_must_7 rfl rfl ?_
    refine g_aload_n (pc' := 9) dX11_must_8 rfl rfl rfl ?_
    obtain ⟨v3, hv3, hf⟩ := Option.bind_eq_some_iff.mp hf
    refine g_get (pc' := 12) (fok_11 4 (by decide)) (Or.inl rfl) dX11_must_9 rfl q793 (hI_spec hv3) ?_
    obtain ⟨q4, hq4, hf⟩ := Option.bind_eq_some_iff.mp hf
    refine g_callI (pc' := 15) (as := [.int v3]) (wX12_init g _ v2.1 v3 hq4) oX12_init ⟨Nat.le_of_ble_eq_true rfl, Nat.le_of_ble_eq_true rfl⟩ dX11_must_12 rfl rfl q904 q905 (Nat.le_of_ble_eq_true rfl) (Nat.le_of_ble_eq_true rfl) (g_rV ?_) g_nt rfl
    refine g_athrow dX11_must_15 ?_
    obtain rfl := Option.some.inj hf
    exact t_leave rfl ⟨rfl, rfl⟩
def mdX11_wants : bMD := (yX11_wants, cX11_wants, 2, none, [], 7, 173)
theorem oX11_wants : bOkc mdX11_wants 1 := ⟨by decide +kernel, ⟨by decide +kernel, by decide +kernel⟩, by decide +kernel, q918⟩
def fX11_wants (w : bWl) (a0 : Nat) (s1 : Nat) : Option ((Unit ⊕ Nat) × bWl) :=
  Option.bind (vK 11 w a0 (fX11_isWord w a0 s1)) fun q1 =>
  Option.bind (vK 11 w a0 (fX11_must w a0 q1)) fun q3 => sm q3.1 (fun v5 =>
  Option.bind (vK 11 q3.2 a0 (fX11_next q3.2 a0)) fun q7 =>
  some (Sum.inl (), q7)) (fun a6 => some (Sum.inr a6, q3.2))
set_option maxHeartbeats 4000000 in
theorem wX11_wants (g : bGh) (w : bWl) (a0 : Nat) (s1 : Nat) {r : ((Unit ⊕ Nat) × bWl)} (hf : fX11_wants w a0 s1 = some r) : bM g mdX11_wants w [.ref a0, .ref (g.2.2.2.2.1 s1)] (qX eV r.1 r.2) := by
  unfold fX11_wants at hf
  change bG _ _ 0 [some (.ref a0), some (.ref (g.2.2.2.2.1 s1))] []
  refine g_aload_n (pc' := 1) dX11_wants_0 rfl rfl rfl ?_
  refine g_aload_n (pc' := 2) dX11_wants_1 rfl rfl rfl ?_
  refine g_aload_n (pc' := 3) dX11_wants_2 rfl rfl rfl ?_
  obtain ⟨q1, hq1, hf⟩ := Option.bind_eq_some_iff.mp hf
  obtain ⟨h2, hq1⟩ := vK_spec hq1
  refine g_callV (pc' := 6) (mx := mdX11_isWord) (as := [.ref (g.2.2.2.2.1 s1)]) (wX11_isWord g _ a0 s1 hq1) oX11_isWord ⟨Nat.le_of_ble_eq_true rfl, Nat.le_of_ble_eq_true rfl⟩ dX11_wants_3 rfl (ci := 11) rfl h2 ⟨by decide +kernel, by decide +kernel⟩ oX11_isWord.2.2.2 rfl q830 q832 qs18 qs18 q832 (Nat.le_of_ble_eq_true rfl) (Nat.le_of_ble_eq_true rfl) (g_rI ?_) g_nt rfl
  obtain ⟨q3, hq3, hf⟩ := Option.bind_eq_some_iff.mp hf
  obtain ⟨h4, hq3⟩ := vK_spec hq3
  obtain ⟨zq3, wq3⟩ := q3
  cases zq3 with
  | inl v5 =>
    replace hf : _ = some _ := hf
    refine g_callV (pc' := 9) (mx := mdX11_must) (as := [.int q1]) (wX11_must g _ a0 q1 hq3) oX11_must ⟨Nat.le_of_ble_eq_true rfl, Nat.le_of_ble_eq_true rfl⟩ dX11_wants_6 rfl (ci := 11) rfl h4 ⟨by decide +kernel, by decide +kernel⟩ oX11_must.2.2.2 rfl q891 q893 qs20 qs20 q893 (Nat.le_of_ble_eq_true rfl) (Nat.le_of_ble_eq_true rfl) (g_rV ?_) g_nt rfl
    refine g_aload_n (pc' := 10) dX11_wants_9 rfl rfl rfl ?_
    obtain ⟨q7, hq7, hf⟩ := Option.bind_eq_some_iff.mp hf
    obtain ⟨h8, hq7⟩ := vK_spec hq7
    refine g_callV (pc' := 13) (mx := mdX11_next) (as := []) (wX11_next g _ a0 hq7) oX11_next ⟨Nat.le_of_ble_eq_true rfl, Nat.le_of_ble_eq_true rfl⟩ dX11_wants_10 rfl (ci := 11) rfl h8 ⟨by decide +kernel, by decide +kernel⟩ oX11_next.2.2.2 rfl q812 q814 qs14 qs14 q814 (Nat.le_of_ble_eq_true rfl) (Nat.le_of_ble_eq_true rfl) (g_rV ?_) g_nt rfl
    obtain rfl := Option.some.inj hf
    exact g_vret dX11_wants_13 rfl ⟨rfl, rfl⟩
  | inr a6 =>
    replace hf : _ = some _ := hf
    refine g_callV (pc' := 9) (mx := mdX11_must) (as := [.int q1]) (wX11_must g _ a0 q1 hq3) oX11_must ⟨Nat.le_of_ble_eq_true rfl, Nat.le_of_ble_eq_true rfl⟩ dX11_wants_6 rfl (ci := 11) rfl h4 ⟨by decide +kernel, by decide +kernel⟩ oX11_must.2.2.2 rfl q891 q893 qs20 qs20 q893 (Nat.le_of_ble_eq_true rfl) (Nat.le_of_ble_eq_true rfl) g_nr (g_tt ?_) rfl
    obtain rfl := Option.some.inj hf
    exact t_leave rfl ⟨rfl, rfl⟩
def mdX11_numberHere : bMD := (yX11_numberHere, cX11_numberHere, 3, (some FieldType.int), [], 1, 12)
theorem oX11_numberHere : bOkc mdX11_numberHere 0 := ⟨by decide +kernel, ⟨by decide +kernel, by decide +kernel⟩, by decide +kernel, q930⟩
def fX11_numberHere_l7 (w : bWl) (b0 : Nat) (rec : (Int32 × Int32) → Option (Int32 × Int32)) (s : Int32 × Int32) : Option (Int32 × Int32) :=
  Option.bind (hI w (okc 11) b0 5) fun v2 =>
  (if v2 ≤ s.2 then
  some (s.1, s.2)
else
  Option.bind (hI w (okc 11) b0 3) fun v4 =>
  (if v4 = 2 then
  Option.bind (α := Int32) ((if s.1 ≤ 999 then
  Option.bind (hR w (okc 11) b0 0) fun v8 =>
  Option.bind (aI w 1 v8 s.2) fun v9 =>
  some (((10 * s.1) + v9) - 48)
else
  some s.1)) fun q6 =>
  rec (q6, (s.2 + 1))
else
  some (s.1, s.2)))
def fX11_numberHere (w : bWl) (a0 : Nat) : Option Int32 :=
  Option.bind (hI w (okc 11) a0 4) fun v1 =>
  Option.bind (lpF (fX11_numberHere_l7 w a0) FU (0, v1)) fun q10 =>
  some q10.1
set_option maxHeartbeats 4000000 in
theorem wX11_numberHere_l7 {g : bGh} {w : bWl} {n0 u0 : Nat} {Q : Outcome → bWl → Prop} (b0 : Nat) : ∀ (n : Nat) (s : Int32 × Int32) (r : (Int32 × Int32)), lpF (fX11_numberHere_l7 w b0) n s = some r → bG (g, mdX11_numberHere, n0, u0, Q) w 55 [some (.ref b0), some (.int r.1), some (.int r.2)] [] → bG (g, mdX11_numberHere, n0, u0, Q) w 7 [some (.ref b0), some (.int s.1), some (.int s.2)] [] := by
  intro n
  induction n with
  | zero => intro s r hf; cases hf
  | succ n ih =>
    intro s r hf kx
    rw [lpF_s] at hf
    unfold fX11_numberHere_l7 at hf
    refine g_iload_n (pc' := 8) dX11_numberHere_7 rfl rfl rfl ?_
    refine g_aload_n (pc' := 9) dX11_numberHere_8 rfl rfl rfl ?_
    obtain ⟨v2, hv2, hf⟩ := Option.bind_eq_some_iff.mp hf
    refine g_get (pc' := 12) (fok_11 5 (by decide)) (Or.inl rfl) dX11_numberHere_9 rfl q794 (hI_spec hv2) ?_
    refine g_icmp_ge (tgt := 55) (pc' := 15) dX11_numberHere_12 (by decide) rfl (fun h3 => ?_) (fun h3 => ?_)
    · replace hf := (if_pos h3).symm.trans hf
      obtain rfl := Option.some.inj hf
      exact kx
    · replace hf := (if_neg h3).symm.trans hf
      refine g_aload_n (pc' := 16) dX11_numberHere_15 rfl rfl rfl ?_
      obtain ⟨v4, hv4, hf⟩ := Option.bind_eq_some_iff.mp hf
      refine g_get (pc' := 19) (fok_11 3 (by decide)) (Or.inl rfl) dX11_numberHere_16 rfl q792 (hI_spec hv4) ?_
      refine g_iconst (pc' := 20) (v := 2) dX11_numberHere_19 rfl (by decide) ?_
      refine g_icmp_ne (tgt := 55) (pc' := 23) dX11_numberHere_20 (by decide) rfl (fun h5 => ?_) (fun h5 => ?_)
      · replace hf := (if_neg h5).symm.trans hf
        obtain rfl := Option.some.inj hf
        exact kx
      · replace hf := (if_pos h5).symm.trans hf
        refine g_iload_n (pc' := 24) dX11_numberHere_23 rfl rfl rfl ?_
        refine g_sipush (pc' := 27) (v := 999) dX11_numberHere_24 rfl (by decide) ?_
        obtain ⟨q6, hqq6, hf⟩ := Option.bind_eq_some_iff.mp hf
        have hJq6 : bG (g, mdX11_numberHere, n0, u0, Q) w 48 [some (.ref b0), none, some (.int s.2)] [.int q6] := by
          refine g_istore_n (pc' := 49) (L' := [some (.ref b0), some (.int q6), some (.int s.2)]) dX11_numberHere_48 rfl rfl (Nat.le_of_ble_eq_true rfl) rfl rfl ?_
          refine g_iinc (pc' := 52) (v := s.2 + 1) (L' := [some (.ref b0), some (.int q6), some (.int (s.2 + 1))]) dX11_numberHere_49 rfl rfl rfl (Nat.le_of_ble_eq_true rfl) rfl rfl ?_
          refine g_goto (tgt := 7) dX11_numberHere_52 (by decide) ?_
          exact ih _ r hf kx
        replace hf := hqq6
        refine g_icmp_le (tgt := 34) (pc' := 30) dX11_numberHere_27 (by decide) rfl (fun h7 => ?_) (fun h7 => ?_)
        · replace hf := (if_pos h7).symm.trans hf
          refine g_bipush (pc' := 36) (v := 10) dX11_numberHere_34 rfl (by decide) ?_
          refine g_iload_n (pc' := 37) dX11_numberHere_36 rfl rfl rfl ?_
          refine g_imul (pc' := 38) dX11_numberHere_37 rfl ?_
          refine g_aload_n (pc' := 39) dX11_numberHere_38 rfl rfl rfl ?_
          obtain ⟨v8, hv8, hf⟩ := Option.bind_eq_some_iff.mp hf
          refine g_get (pc' := 42) (fok_11 0 (by decide)) (Or.inl rfl) dX11_numberHere_39 rfl q789 (hR_spec hv8) ?_
          refine g_iload_n (pc' := 43) dX11_numberHere_42 rfl rfl rfl ?_
          obtain ⟨v9, hv9, hf⟩ := Option.bind_eq_some_iff.mp hf
          refine g_bald (pc' := 44) dX11_numberHere_43 rfl hv9 ?_
          refine g_iadd (pc' := 45) dX11_numberHere_44 rfl ?_
          refine g_bipush (pc' := 47) (v := 48) dX11_numberHere_45 rfl (by decide) ?_
          refine g_isub (pc' := 48) dX11_numberHere_47 rfl ?_
          obtain rfl := Option.some.inj hf
          refine g_drop [1] (L' := [some (.ref b0), none, some (.int s.2)]) rfl ?_
          exact hJq6
        · replace hf := (if_neg h7).symm.trans hf
          refine g_iload_n (pc' := 31) dX11_numberHere_30 rfl rfl rfl ?_
          refine g_goto (tgt := 48) dX11_numberHere_31 (by decide) ?_
          obtain rfl := Option.some.inj hf
          refine g_drop [1] (L' := [some (.ref b0), none, some (.int s.2)]) rfl ?_
          exact hJq6
set_option maxHeartbeats 4000000 in
theorem wX11_numberHere (g : bGh) (w : bWl) (a0 : Nat) {r : Int32} (hf : fX11_numberHere w a0 = some r) : bM g mdX11_numberHere w [.ref a0] (q_ (eI r) w) := by
  unfold fX11_numberHere at hf
  change bG _ _ 0 [some (.ref a0)] []
  refine g_iconst (pc' := 1) (v := 0) dX11_numberHere_0 rfl (by decide) ?_
  refine g_istore_n (pc' := 2) (L' := [some (.ref a0), some (.int 0)]) dX11_numberHere_1 rfl rfl (Nat.le_of_ble_eq_true rfl) rfl rfl ?_
  refine g_aload_n (pc' := 3) dX11_numberHere_2 rfl rfl rfl ?_
  obtain ⟨v1, hv1, hf⟩ := Option.bind_eq_some_iff.mp hf
  refine g_get (pc' := 6) (fok_11 4 (by decide)) (Or.inl rfl) dX11_numberHere_3 rfl q793 (hI_spec hv1) ?_
  refine g_istore_n (pc' := 7) (L' := [some (.ref a0), some (.int 0), some (.int v1)]) dX11_numberHere_6 rfl rfl (Nat.le_of_ble_eq_true rfl) rfl rfl ?_
  obtain ⟨q10, hq10, hf⟩ := Option.bind_eq_some_iff.mp hf
  refine wX11_numberHere_l7 a0 FU (0, v1) q10 hq10 ?_
  refine g_iload_n (pc' := 56) dX11_numberHere_55 rfl rfl rfl ?_
  obtain rfl := Option.some.inj hf
  exact g_iret dX11_numberHere_56 rfl rfl ⟨rfl, rfl⟩
def mdX11_number : bMD := (yX11_number, cX11_number, 4, (some FieldType.int), [], 6, 137)
theorem oX11_number : bOkc mdX11_number 2 := ⟨by decide +kernel, ⟨by decide +kernel, by decide +kernel⟩, by decide +kernel, q926⟩
def fX11_number (w : bWl) (a0 : Nat) (x1 : Int32) (x2 : Int32) : Option ((Int32 ⊕ Nat) × bWl) :=
  Option.bind (vK 11 w a0 (fX11_numberHere w a0)) fun q1 =>
  Option.bind (hI w (okc 11) a0 3) fun v3 =>
  Option.bind (α := Int32) ((if v3 = 2 then
  Option.bind (fX0_in ((q1 : Int32).toInt64) ((x1 : Int32).toInt64) ((x2 : Int32).toInt64)) fun q6 =>
  (if q6 = 0 then
  some 0
else
  some 1)
else
  some 0)) fun q4 =>
  Option.bind (vK 11 w a0 (fX11_must w a0 q4)) fun q8 => sm q8.1 (fun v10 =>
  Option.bind (vK 11 q8.2 a0 (fX11_next q8.2 a0)) fun q12 =>
  some (Sum.inl q1, q12)) (fun a11 => some (Sum.inr a11, q8.2))
set_option maxHeartbeats 4000000 in
theorem wX11_number (g : bGh) (w : bWl) (a0 : Nat) (x1 : Int32) (x2 : Int32) {r : ((Int32 ⊕ Nat) × bWl)} (hf : fX11_number w a0 x1 x2 = some r) : bM g mdX11_number w [.ref a0, .int x1, .int x2] (qX eI r.1 r.2) := by
  unfold fX11_number at hf
  change bG _ _ 0 [some (.ref a0), some (.int x1), some (.int x2)] []
  refine g_aload_n (pc' := 1) dX11_number_0 rfl rfl rfl ?_
  obtain ⟨q1, hq1, hf⟩ := Option.bind_eq_some_iff.mp hf
  obtain ⟨h2, hq1⟩ := vK_spec hq1
  refine g_callV (pc' := 4) (mx := mdX11_numberHere) (as := []) (wX11_numberHere g _ a0 hq1) oX11_numberHere ⟨Nat.le_of_ble_eq_true rfl, Nat.le_of_ble_eq_true rfl⟩ dX11_number_1 rfl (ci := 11) rfl h2 ⟨by decide +kernel, by decide +kernel⟩ oX11_numberHere.2.2.2 rfl q927 q929 qs24 qs24 q929 (Nat.le_of_ble_eq_true rfl) (Nat.le_of_ble_eq_true rfl) (g_rI ?_) g_nt rfl
  refine g_istore_n (pc' := 5) (L' := [some (.ref a0), some (.int x1), some (.int x2), some (.int q1)]) dX11_number_4 rfl rfl (Nat.le_of_ble_eq_true rfl) rfl rfl ?_
  refine g_aload_n (pc' := 6) dX11_number_5 rfl rfl rfl ?_
  refine g_aload_n (pc' := 7) dX11_number_6 rfl rfl rfl ?_
  obtain ⟨v3, hv3, hf⟩ := Option.bind_eq_some_iff.mp hf
  refine g_get (pc' := 10) (fok_11 3 (by decide)) (Or.inl rfl) dX11_number_7 rfl q792 (hI_spec hv3) ?_
  refine g_iconst (pc' := 11) (v := 2) dX11_number_10 rfl (by decide) ?_
  obtain ⟨q4, hqq4, hf⟩ := Option.bind_eq_some_iff.mp hf
  have hJq4 : bG (g, mdX11_number, w.2.1, w.2.2.1, (qX eI r.1 r.2)) w 31 [some (.ref a0), none, none, some (.int q1)] [.int q4, .ref a0] := by
    obtain ⟨q8, hq8, hf⟩ := Option.bind_eq_some_iff.mp hf
    obtain ⟨h9, hq8⟩ := vK_spec hq8
    obtain ⟨zq8, wq8⟩ := q8
    cases zq8 with
    | inl v10 =>
      replace hf : _ = some _ := hf
      refine g_callV (pc' := 34) (mx := mdX11_must) (as := [.int q4]) (wX11_must g _ a0 q4 hq8) oX11_must ⟨Nat.le_of_ble_eq_true rfl, Nat.le_of_ble_eq_true rfl⟩ dX11_number_31 rfl (ci := 11) rfl h9 ⟨by decide +kernel, by decide +kernel⟩ oX11_must.2.2.2 rfl q891 q893 qs20 qs20 q893 (Nat.le_of_ble_eq_true rfl) (Nat.le_of_ble_eq_true rfl) (g_rV ?_) g_nt rfl
      refine g_aload_n (pc' := 35) dX11_number_34 rfl rfl rfl ?_
      obtain ⟨q12, hq12, hf⟩ := Option.bind_eq_some_iff.mp hf
      obtain ⟨h13, hq12⟩ := vK_spec hq12
      refine g_callV (pc' := 38) (mx := mdX11_next) (as := []) (wX11_next g _ a0 hq12) oX11_next ⟨Nat.le_of_ble_eq_true rfl, Nat.le_of_ble_eq_true rfl⟩ dX11_number_35 rfl (ci := 11) rfl h13 ⟨by decide +kernel, by decide +kernel⟩ oX11_next.2.2.2 rfl q812 q814 qs14 qs14 q814 (Nat.le_of_ble_eq_true rfl) (Nat.le_of_ble_eq_true rfl) (g_rV ?_) g_nt rfl
      refine g_iload_n (pc' := 39) dX11_number_38 rfl rfl rfl ?_
      obtain rfl := Option.some.inj hf
      exact g_iret dX11_number_39 rfl rfl ⟨rfl, rfl⟩
    | inr a11 =>
      replace hf : _ = some _ := hf
      refine g_callV (pc' := 34) (mx := mdX11_must) (as := [.int q4]) (wX11_must g _ a0 q4 hq8) oX11_must ⟨Nat.le_of_ble_eq_true rfl, Nat.le_of_ble_eq_true rfl⟩ dX11_number_31 rfl (ci := 11) rfl h9 ⟨by decide +kernel, by decide +kernel⟩ oX11_must.2.2.2 rfl q891 q893 qs20 qs20 q893 (Nat.le_of_ble_eq_true rfl) (Nat.le_of_ble_eq_true rfl) g_nr (g_tt ?_) rfl
      obtain rfl := Option.some.inj hf
      exact t_leave rfl ⟨rfl, rfl⟩
  replace hf := hqq4
  refine g_icmp_ne (tgt := 30) (pc' := 14) dX11_number_11 (by decide) rfl (fun h5 => ?_) (fun h5 => ?_)
  · replace hf := (if_neg h5).symm.trans hf
    refine g_iconst (pc' := 31) (v := 0) dX11_number_30 rfl (by decide) ?_
    obtain rfl := Option.some.inj hf
    refine g_drop [1, 2] (L' := [some (.ref a0), none, none, some (.int q1)]) rfl ?_
    exact hJq4
  · replace hf := (if_pos h5).symm.trans hf
    refine g_iload_n (pc' := 15) dX11_number_14 rfl rfl rfl ?_
    refine g_i2l (pc' := 16) dX11_number_15 rfl ?_
    refine g_iload_n (pc' := 17) dX11_number_16 rfl rfl rfl ?_
    refine g_i2l (pc' := 18) dX11_number_17 rfl ?_
    refine g_iload_n (pc' := 19) dX11_number_18 rfl rfl rfl ?_
    refine g_i2l (pc' := 20) dX11_number_19 rfl ?_
    obtain ⟨q6, hq6, hf⟩ := Option.bind_eq_some_iff.mp hf
    refine g_callSN (pc' := 23) (host := "RumourBeds") (as := [.long ((q1 : Int32).toInt64), .long ((x1 : Int32).toInt64), .long ((x2 : Int32).toInt64)]) (wX0_in g _ ((q1 : Int32).toInt64) ((x1 : Int32).toInt64) ((x2 : Int32).toInt64) hq6) oX0_in ⟨Nat.le_of_ble_eq_true rfl, Nat.le_of_ble_eq_true rfl⟩ dX11_number_20 rfl (List.mem_of_getElem? (i := 15) rfl) q210 q83 (Nat.le_of_ble_eq_true rfl) (Nat.le_of_ble_eq_true rfl) (g_rI ?_) g_nt rfl
    refine g_if_eq (tgt := 30) (pc' := 26) dX11_number_23 (by decide) rfl (fun h7 => ?_) (fun h7 => ?_)
    · replace hf := (if_pos h7).symm.trans hf
      refine g_iconst (pc' := 31) (v := 0) dX11_number_30 rfl (by decide) ?_
      obtain rfl := Option.some.inj hf
      refine g_drop [1, 2] (L' := [some (.ref a0), none, none, some (.int q1)]) rfl ?_
      exact hJq4
    · replace hf := (if_neg h7).symm.trans hf
      refine g_iconst (pc' := 27) (v := 1) dX11_number_26 rfl (by decide) ?_
      refine g_goto (tgt := 31) dX11_number_27 (by decide) ?_
      obtain rfl := Option.some.inj hf
      refine g_drop [1, 2] (L' := [some (.ref a0), none, none, some (.int q1)]) rfl ?_
      exact hJq4
def mdX11_event : bMD := (yX11_event, cX11_event, 1, (some FieldType.int), [], 7, 160)
theorem oX11_event : bOkc mdX11_event 0 := ⟨by decide +kernel, ⟨by decide +kernel, by decide +kernel⟩, by decide +kernel, q922⟩
def fX11_event (w : bWl) (a0 : Nat) : Option ((Int32 ⊕ Nat) × bWl) :=
  Option.bind (vK 11 w a0 (fX11_number w a0 0 15)) fun q1 => sm q1.1 (fun v3 =>
  some (Sum.inl v3, q1.2)) (fun a4 => some (Sum.inr a4, q1.2))
set_option maxHeartbeats 4000000 in
theorem wX11_event (g : bGh) (w : bWl) (a0 : Nat) {r : ((Int32 ⊕ Nat) × bWl)} (hf : fX11_event w a0 = some r) : bM g mdX11_event w [.ref a0] (qX eI r.1 r.2) := by
  unfold fX11_event at hf
  change bG _ _ 0 [some (.ref a0)] []
  refine g_aload_n (pc' := 1) dX11_event_0 rfl rfl rfl ?_
  refine g_iconst (pc' := 2) (v := 0) dX11_event_1 rfl (by decide) ?_
  refine g_bipush (pc' := 4) (v := 15) dX11_event_2 rfl (by decide) ?_
  obtain ⟨q1, hq1, hf⟩ := Option.bind_eq_some_iff.mp hf
  obtain ⟨h2, hq1⟩ := vK_spec hq1
  obtain ⟨zq1, wq1⟩ := q1
  cases zq1 with
  | inl v3 =>
    replace hf : _ = some _ := hf
    refine g_callV (pc' := 7) (mx := mdX11_number) (as := [.int 0, .int 15]) (wX11_number g _ a0 0 15 hq1) oX11_number ⟨Nat.le_of_ble_eq_true rfl, Nat.le_of_ble_eq_true rfl⟩ dX11_event_4 rfl (ci := 11) rfl h2 ⟨by decide +kernel, by decide +kernel⟩ oX11_number.2.2.2 rfl q923 q925 qs23 qs23 q925 (Nat.le_of_ble_eq_true rfl) (Nat.le_of_ble_eq_true rfl) (g_rI ?_) g_nt rfl
    obtain rfl := Option.some.inj hf
    exact g_iret dX11_event_7 rfl rfl ⟨rfl, rfl⟩
  | inr a4 =>
    replace hf : _ = some _ := hf
    refine g_callV (pc' := 7) (mx := mdX11_number) (as := [.int 0, .int 15]) (wX11_number g _ a0 0 15 hq1) oX11_number ⟨Nat.le_of_ble_eq_true rfl, Nat.le_of_ble_eq_true rfl⟩ dX11_event_4 rfl (ci := 11) rfl h2 ⟨by decide +kernel, by decide +kernel⟩ oX11_number.2.2.2 rfl q923 q925 qs23 qs23 q925 (Nat.le_of_ble_eq_true rfl) (Nat.le_of_ble_eq_true rfl) g_nr (g_tt ?_) rfl
    obtain rfl := Option.some.inj hf
    exact t_leave rfl ⟨rfl, rfl⟩
def mdX11_takes : bMD := (yX11_takes, cX11_takes, 3, (some FieldType.boolean), [], 7, 173)
theorem oX11_takes : bOkc mdX11_takes 1 := ⟨by decide +kernel, ⟨by decide +kernel, by decide +kernel⟩, by decide +kernel, q936⟩
def fX11_takes (w : bWl) (a0 : Nat) (s1 : Nat) : Option (Int32 × bWl) :=
  Option.bind (vK 11 w a0 (fX11_isWord w a0 s1)) fun q1 =>
  (if q1 = 0 then
  bz q1 (some (q1, w))
else
  Option.bind (vK 11 w a0 (fX11_next w a0)) fun q5 =>
  bz q1 (some (q1, q5)))
set_option maxHeartbeats 4000000 in
theorem wX11_takes (g : bGh) (w : bWl) (a0 : Nat) (s1 : Nat) {r : (Int32 × bWl)} (hf : fX11_takes w a0 s1 = some r) : bM g mdX11_takes w [.ref a0, .ref (g.2.2.2.2.1 s1)] (q_ (eI r.1) r.2) := by
  unfold fX11_takes at hf
  change bG _ _ 0 [some (.ref a0), some (.ref (g.2.2.2.2.1 s1))] []
  refine g_aload_n (pc' := 1) dX11_takes_0 rfl rfl rfl ?_
  refine g_aload_n (pc' := 2) dX11_takes_1 rfl rfl rfl ?_
  obtain ⟨q1, hq1, hf⟩ := Option.bind_eq_some_iff.mp hf
  obtain ⟨h2, hq1⟩ := vK_spec hq1
  refine g_callV (pc' := 5) (mx := mdX11_isWord) (as := [.ref (g.2.2.2.2.1 s1)]) (wX11_isWord g _ a0 s1 hq1) oX11_isWord ⟨Nat.le_of_ble_eq_true rfl, Nat.le_of_ble_eq_true rfl⟩ dX11_takes_2 rfl (ci := 11) rfl h2 ⟨by decide +kernel, by decide +kernel⟩ oX11_isWord.2.2.2 rfl q830 q832 qs18 qs18 q832 (Nat.le_of_ble_eq_true rfl) (Nat.le_of_ble_eq_true rfl) (g_rI ?_) g_nt rfl
  refine g_istore_n (pc' := 6) (L' := [some (.ref a0), some (.ref (g.2.2.2.2.1 s1)), some (.int q1)]) dX11_takes_5 rfl rfl (Nat.le_of_ble_eq_true rfl) rfl rfl ?_
  refine g_iload_n (pc' := 7) dX11_takes_6 rfl rfl rfl ?_
  refine g_if_eq (tgt := 14) (pc' := 10) dX11_takes_7 (by decide) rfl (fun h3 => ?_) (fun h3 => ?_)
  · replace hf := (if_pos h3).symm.trans hf
    refine g_iload_n (pc' := 15) dX11_takes_14 rfl rfl rfl ?_
    obtain ⟨h4, hf⟩ := bz_spec hf
    obtain rfl := Option.some.inj hf
    exact g_iret dX11_takes_15 rfl (bz_nar h4) ⟨rfl, rfl⟩
  · replace hf := (if_neg h3).symm.trans hf
    refine g_aload_n (pc' := 11) dX11_takes_10 rfl rfl rfl ?_
    obtain ⟨q5, hq5, hf⟩ := Option.bind_eq_some_iff.mp hf
    obtain ⟨h6, hq5⟩ := vK_spec hq5
    refine g_callV (pc' := 14) (mx := mdX11_next) (as := []) (wX11_next g _ a0 hq5) oX11_next ⟨Nat.le_of_ble_eq_true rfl, Nat.le_of_ble_eq_true rfl⟩ dX11_takes_11 rfl (ci := 11) rfl h6 ⟨by decide +kernel, by decide +kernel⟩ oX11_next.2.2.2 rfl q812 q814 qs14 qs14 q814 (Nat.le_of_ble_eq_true rfl) (Nat.le_of_ble_eq_true rfl) (g_rV ?_) g_nt rfl
    refine g_iload_n (pc' := 15) dX11_takes_14 rfl rfl rfl ?_
    obtain ⟨h7, hf⟩ := bz_spec hf
    obtain rfl := Option.some.inj hf
    exact g_iret dX11_takes_15 rfl (bz_nar h7) ⟨rfl, rfl⟩
def mdX11_bed : bMD := (yX11_bed, cX11_bed, 2, (some FieldType.int), [], 7, 160)
theorem oX11_bed : bOkc mdX11_bed 0 := ⟨by decide +kernel, ⟨by decide +kernel, by decide +kernel⟩, by decide +kernel, q941⟩
def fX11_bed (w : bWl) (a0 : Nat) : Option ((Int32 ⊕ Nat) × bWl) :=
  Option.bind (vK 11 w a0 (fX11_numberHere w a0)) fun q1 =>
  Option.bind (fX0_isHouse q1) fun q3 =>
  Option.bind (α := Int32) ((if q3 = 0 then
  some 0
else
  Option.bind (hR w (okc 11) a0 2) fun v6 =>
  Option.bind (vK 1 w v6 (fX1_hasBed w v6 q1)) fun q7 =>
  (if q7 = 0 then
  some 0
else
  some 1))) fun q4 =>
  Option.bind (vK 11 w a0 (fX11_must w a0 q4)) fun q10 => sm q10.1 (fun v12 =>
  Option.bind (vK 11 q10.2 a0 (fX11_number q10.2 a0 0 7)) fun q14 => sm q14.1 (fun v16 =>
  some (Sum.inl v16, q14.2)) (fun a17 => some (Sum.inr a17, q14.2))) (fun a13 => some (Sum.inr a13, q10.2))
set_option maxHeartbeats 4000000 in
theorem wX11_bed (g : bGh) (w : bWl) (a0 : Nat) {r : ((Int32 ⊕ Nat) × bWl)} (hf : fX11_bed w a0 = some r) : bM g mdX11_bed w [.ref a0] (qX eI r.1 r.2) := by
  unfold fX11_bed at hf
  change bG _ _ 0 [some (.ref a0)] []
  refine g_aload_n (pc' := 1) dX11_bed_0 rfl rfl rfl ?_
  obtain ⟨q1, hq1, hf⟩ := Option.bind_eq_some_iff.mp hf
  obtain ⟨h2, hq1⟩ := vK_spec hq1
  refine g_callV (pc' := 4) (mx := mdX11_numberHere) (as := []) (wX11_numberHere g _ a0 hq1) oX11_numberHere ⟨Nat.le_of_ble_eq_true rfl, Nat.le_of_ble_eq_true rfl⟩ dX11_bed_1 rfl (ci := 11) rfl h2 ⟨by decide +kernel, by decide +kernel⟩ oX11_numberHere.2.2.2 rfl q927 q929 qs24 qs24 q929 (Nat.le_of_ble_eq_true rfl) (Nat.le_of_ble_eq_true rfl) (g_rI ?_) g_nt rfl
  refine g_istore_n (pc' := 5) (L' := [some (.ref a0), some (.int q1)]) dX11_bed_4 rfl rfl (Nat.le_of_ble_eq_true rfl) rfl rfl ?_
  refine g_aload_n (pc' := 6) dX11_bed_5 rfl rfl rfl ?_
  refine g_iload_n (pc' := 7) dX11_bed_6 rfl rfl rfl ?_
  obtain ⟨q3, hq3, hf⟩ := Option.bind_eq_some_iff.mp hf
  refine g_callSN (pc' := 10) (host := "RumourBeds") (as := [.int q1]) (wX0_isHouse g _ q1 hq3) oX0_isHouse ⟨Nat.le_of_ble_eq_true rfl, Nat.le_of_ble_eq_true rfl⟩ dX11_bed_7 rfl (List.mem_of_getElem? (i := 16) rfl) q206 q83 (Nat.le_of_ble_eq_true rfl) (Nat.le_of_ble_eq_true rfl) (g_rI ?_) g_nt rfl
  obtain ⟨q4, hqq4, hf⟩ := Option.bind_eq_some_iff.mp hf
  have hJq4 : bG (g, mdX11_bed, w.2.1, w.2.2.1, (qX eI r.1 r.2)) w 29 [some (.ref a0), none] [.int q4, .ref a0] := by
    obtain ⟨q10, hq10, hf⟩ := Option.bind_eq_some_iff.mp hf
    obtain ⟨h11, hq10⟩ := vK_spec hq10
    obtain ⟨zq10, wq10⟩ := q10
    cases zq10 with
    | inl v12 =>
      replace hf : _ = some _ := hf
      refine g_callV (pc' := 32) (mx := mdX11_must) (as := [.int q4]) (wX11_must g _ a0 q4 hq10) oX11_must ⟨Nat.le_of_ble_eq_true rfl, Nat.le_of_ble_eq_true rfl⟩ dX11_bed_29 rfl (ci := 11) rfl h11 ⟨by decide +kernel, by decide +kernel⟩ oX11_must.2.2.2 rfl q891 q893 qs20 qs20 q893 (Nat.le_of_ble_eq_true rfl) (Nat.le_of_ble_eq_true rfl) (g_rV ?_) g_nt rfl
      refine g_aload_n (pc' := 33) dX11_bed_32 rfl rfl rfl ?_
      refine g_iconst (pc' := 34) (v := 0) dX11_bed_33 rfl (by decide) ?_
      refine g_bipush (pc' := 36) (v := 7) dX11_bed_34 rfl (by decide) ?_
      obtain ⟨q14, hq14, hf⟩ := Option.bind_eq_some_iff.mp hf
      obtain ⟨h15, hq14⟩ := vK_spec hq14
      obtain ⟨zq14, wq14⟩ := q14
      cases zq14 with
      | inl v16 =>
        replace hf : _ = some _ := hf
        refine g_callV (pc' := 39) (mx := mdX11_number) (as := [.int 0, .int 7]) (wX11_number g _ a0 0 7 hq14) oX11_number ⟨Nat.le_of_ble_eq_true rfl, Nat.le_of_ble_eq_true rfl⟩ dX11_bed_36 rfl (ci := 11) rfl h15 ⟨by decide +kernel, by decide +kernel⟩ oX11_number.2.2.2 rfl q923 q925 qs23 qs23 q925 (Nat.le_of_ble_eq_true rfl) (Nat.le_of_ble_eq_true rfl) (g_rI ?_) g_nt rfl
        obtain rfl := Option.some.inj hf
        exact g_iret dX11_bed_39 rfl rfl ⟨rfl, rfl⟩
      | inr a17 =>
        replace hf : _ = some _ := hf
        refine g_callV (pc' := 39) (mx := mdX11_number) (as := [.int 0, .int 7]) (wX11_number g _ a0 0 7 hq14) oX11_number ⟨Nat.le_of_ble_eq_true rfl, Nat.le_of_ble_eq_true rfl⟩ dX11_bed_36 rfl (ci := 11) rfl h15 ⟨by decide +kernel, by decide +kernel⟩ oX11_number.2.2.2 rfl q923 q925 qs23 qs23 q925 (Nat.le_of_ble_eq_true rfl) (Nat.le_of_ble_eq_true rfl) g_nr (g_tt ?_) rfl
        obtain rfl := Option.some.inj hf
        exact t_leave rfl ⟨rfl, rfl⟩
    | inr a13 =>
      replace hf : _ = some _ := hf
      refine g_callV (pc' := 32) (mx := mdX11_must) (as := [.int q4]) (wX11_must g _ a0 q4 hq10) oX11_must ⟨Nat.le_of_ble_eq_true rfl, Nat.le_of_ble_eq_true rfl⟩ dX11_bed_29 rfl (ci := 11) rfl h11 ⟨by decide +kernel, by decide +kernel⟩ oX11_must.2.2.2 rfl q891 q893 qs20 qs20 q893 (Nat.le_of_ble_eq_true rfl) (Nat.le_of_ble_eq_true rfl) g_nr (g_tt ?_) rfl
      obtain rfl := Option.some.inj hf
      exact t_leave rfl ⟨rfl, rfl⟩
  replace hf := hqq4
  refine g_if_eq (tgt := 28) (pc' := 13) dX11_bed_10 (by decide) rfl (fun h5 => ?_) (fun h5 => ?_)
  · replace hf := (if_pos h5).symm.trans hf
    refine g_iconst (pc' := 29) (v := 0) dX11_bed_28 rfl (by decide) ?_
    obtain rfl := Option.some.inj hf
    refine g_drop [1] (L' := [some (.ref a0), none]) rfl ?_
    exact hJq4
  · replace hf := (if_neg h5).symm.trans hf
    refine g_aload_n (pc' := 14) dX11_bed_13 rfl rfl rfl ?_
    obtain ⟨v6, hv6, hf⟩ := Option.bind_eq_some_iff.mp hf
    refine g_get (pc' := 17) (fok_11 2 (by decide)) (Or.inl rfl) dX11_bed_14 rfl q791 (hR_spec hv6) ?_
    refine g_iload_n (pc' := 18) dX11_bed_17 rfl rfl rfl ?_
    obtain ⟨q7, hq7, hf⟩ := Option.bind_eq_some_iff.mp hf
    obtain ⟨h8, hq7⟩ := vK_spec hq7
    refine g_callV (pc' := 21) (mx := mdX1_hasBed) (as := [.int q1]) (wX1_hasBed g _ v6 q1 hq7) oX1_hasBed ⟨Nat.le_of_ble_eq_true rfl, Nat.le_of_ble_eq_true rfl⟩ dX11_bed_18 rfl (ci := 1) rfl h8 ⟨by decide +kernel, by decide +kernel⟩ oX1_hasBed.2.2.2 rfl q943 q554 q555 q555 q554 (Nat.le_of_ble_eq_true rfl) (Nat.le_of_ble_eq_true rfl) (g_rI ?_) g_nt rfl
    refine g_if_eq (tgt := 28) (pc' := 24) dX11_bed_21 (by decide) rfl (fun h9 => ?_) (fun h9 => ?_)
    · replace hf := (if_pos h9).symm.trans hf
      refine g_iconst (pc' := 29) (v := 0) dX11_bed_28 rfl (by decide) ?_
      obtain rfl := Option.some.inj hf
      refine g_drop [1] (L' := [some (.ref a0), none]) rfl ?_
      exact hJq4
    · replace hf := (if_neg h9).symm.trans hf
      refine g_iconst (pc' := 25) (v := 1) dX11_bed_24 rfl (by decide) ?_
      refine g_goto (tgt := 29) dX11_bed_25 (by decide) ?_
      obtain rfl := Option.some.inj hf
      refine g_drop [1] (L' := [some (.ref a0), none]) rfl ?_
      exact hJq4
def mdX11_rumour : bMD := (yX11_rumour, cX11_rumour, 3, none, [], 8, 195)
theorem oX11_rumour : bOkc mdX11_rumour 1 := ⟨by decide +kernel, ⟨by decide +kernel, by decide +kernel⟩, by decide +kernel, q890⟩
def fX11_rumour (w : bWl) (a0 : Nat) (x1 : Int32) : Option ((Unit ⊕ Nat) × bWl) :=
  Option.bind (hR w (okc 11) a0 2) fun v1 =>
  Option.bind (hI w (okc 1) v1 2) fun v2 =>
  Option.bind (α := Int32) ((if 10 ≤ v2 then
  some 0
else
  some 1)) fun q3 =>
  Option.bind (vK 11 w a0 (fX11_must w a0 q3)) fun q5 => sm q5.1 (fun v7 =>
  Option.bind (vK 11 q5.2 a0 (fX11_next q5.2 a0)) fun q9 =>
  Option.bind (vK 11 q9 a0 (fX11_wants q9 a0 6)) fun q11 => sm q11.1 (fun v13 =>
  Option.bind (hR q11.2 (okc 11) a0 2) fun v15 =>
  Option.bind (vK 11 q11.2 a0 (fX11_event q11.2 a0)) fun q16 => sm q16.1 (fun v18 =>
  Option.bind (vK 1 q16.2 v15 (fX1_comes q16.2 v15 x1 v18 10)) fun q20 =>
  Option.bind (hR q20.2 okRu q20.1 0) fun v22 =>
  Option.bind (vK 11 q20.2 a0 (fX11_takes q20.2 a0 7)) fun q23 =>
  Option.bind (α := (bWl) ⊕ (((Unit ⊕ Nat) × bWl))) ((if q23.1 = 0 then
  some (Sum.inl q23.2)
else
  Option.bind (vK 11 q23.2 a0 (fX11_number q23.2 a0 0 99)) fun q28 => sm q28.1 (fun v30 =>
  Option.bind (sI q28.2 0 v22 1 v30) fun w32 =>
  some (Sum.inl w32)) (fun a31 => some (Sum.inr (Sum.inr a31, q28.2))))) fun q25 => sx q25 (fun e26 =>
  Option.bind (vK 11 e26 a0 (fX11_takes e26 a0 8)) fun q33 =>
  (if q33.1 = 0 then
  some (Sum.inl (), q33.2)
else
  Option.bind (vK 11 q33.2 a0 (fX11_bed q33.2 a0)) fun q36 => sm q36.1 (fun v38 =>
  Option.bind (sI q36.2 0 v22 3 v38) fun w40 =>
  some (Sum.inl (), w40)) (fun a39 => some (Sum.inr a39, q36.2)))) (fun e26 => some e26)) (fun a19 => some (Sum.inr a19, q16.2))) (fun a14 => some (Sum.inr a14, q11.2))) (fun a8 => some (Sum.inr a8, q5.2))
set_option maxHeartbeats 4000000 in
theorem wX11_rumour (g : bGh) (w : bWl) (a0 : Nat) (x1 : Int32) {r : ((Unit ⊕ Nat) × bWl)} (hf : fX11_rumour w a0 x1 = some r) : bM g mdX11_rumour w [.ref a0, .int x1] (qX eV r.1 r.2) := by
  unfold fX11_rumour at hf
  change bG _ _ 0 [some (.ref a0), some (.int x1)] []
  refine g_aload_n (pc' := 1) dX11_rumour_0 rfl rfl rfl ?_
  refine g_aload_n (pc' := 2) dX11_rumour_1 rfl rfl rfl ?_
  obtain ⟨v1, hv1, hf⟩ := Option.bind_eq_some_iff.mp hf
  refine g_get (pc' := 5) (fok_11 2 (by decide)) (Or.inl rfl) dX11_rumour_2 rfl q791 (hR_spec hv1) ?_
  obtain ⟨v2, hv2, hf⟩ := Option.bind_eq_some_iff.mp hf
  refine g_get (pc' := 8) (fok_1 2 (by decide)) (Or.inl rfl) dX11_rumour_5 rfl q140 (hI_spec hv2) ?_
  refine g_bipush (pc' := 10) (v := 10) dX11_rumour_8 rfl (by decide) ?_
  obtain ⟨q3, hqq3, hf⟩ := Option.bind_eq_some_iff.mp hf
  have hJq3 : bG (g, mdX11_rumour, w.2.1, w.2.2.1, (qX eV r.1 r.2)) w 18 [some (.ref a0), some (.int x1)] [.int q3, .ref a0] := by
    obtain ⟨q5, hq5, hf⟩ := Option.bind_eq_some_iff.mp hf
    obtain ⟨h6, hq5⟩ := vK_spec hq5
    obtain ⟨zq5, wq5⟩ := q5
    cases zq5 with
    | inl v7 =>
      replace hf : _ = some _ := hf
      refine g_callV (pc' := 21) (mx := mdX11_must) (as := [.int q3]) (wX11_must g _ a0 q3 hq5) oX11_must ⟨Nat.le_of_ble_eq_true rfl, Nat.le_of_ble_eq_true rfl⟩ dX11_rumour_18 rfl (ci := 11) rfl h6 ⟨by decide +kernel, by decide +kernel⟩ oX11_must.2.2.2 rfl q891 q893 qs20 qs20 q893 (Nat.le_of_ble_eq_true rfl) (Nat.le_of_ble_eq_true rfl) (g_rV ?_) g_nt rfl
      refine g_aload_n (pc' := 22) dX11_rumour_21 rfl rfl rfl ?_
      obtain ⟨q9, hq9, hf⟩ := Option.bind_eq_some_iff.mp hf
      obtain ⟨h10, hq9⟩ := vK_spec hq9
      refine g_callV (pc' := 25) (mx := mdX11_next) (as := []) (wX11_next g _ a0 hq9) oX11_next ⟨Nat.le_of_ble_eq_true rfl, Nat.le_of_ble_eq_true rfl⟩ dX11_rumour_22 rfl (ci := 11) rfl h10 ⟨by decide +kernel, by decide +kernel⟩ oX11_next.2.2.2 rfl q812 q814 qs14 qs14 q814 (Nat.le_of_ble_eq_true rfl) (Nat.le_of_ble_eq_true rfl) (g_rV ?_) g_nt rfl
      refine g_aload_n (pc' := 26) dX11_rumour_25 rfl rfl rfl ?_
      refine g_ldcS (pc' := 28) (i := 6) dX11_rumour_26 rfl (by decide) rfl rfl ?_
      obtain ⟨q11, hq11, hf⟩ := Option.bind_eq_some_iff.mp hf
      obtain ⟨h12, hq11⟩ := vK_spec hq11
      obtain ⟨zq11, wq11⟩ := q11
      cases zq11 with
      | inl v13 =>
        replace hf : _ = some _ := hf
        refine g_callV (pc' := 31) (mx := mdX11_wants) (as := [.ref (g.2.2.2.2.1 6)]) (wX11_wants g _ a0 6 hq11) oX11_wants ⟨Nat.le_of_ble_eq_true rfl, Nat.le_of_ble_eq_true rfl⟩ dX11_rumour_28 rfl (ci := 11) rfl h12 ⟨by decide +kernel, by decide +kernel⟩ oX11_wants.2.2.2 rfl q915 q917 qs21 qs21 q917 (Nat.le_of_ble_eq_true rfl) (Nat.le_of_ble_eq_true rfl) (g_rV ?_) g_nt rfl
        refine g_aload_n (pc' := 32) dX11_rumour_31 rfl rfl rfl ?_
        obtain ⟨v15, hv15, hf⟩ := Option.bind_eq_some_iff.mp hf
        refine g_get (pc' := 35) (fok_11 2 (by decide)) (Or.inl rfl) dX11_rumour_32 rfl q791 (hR_spec hv15) ?_
        refine g_iload_n (pc' := 36) dX11_rumour_35 rfl rfl rfl ?_
        refine g_aload_n (pc' := 37) dX11_rumour_36 rfl rfl rfl ?_
        obtain ⟨q16, hq16, hf⟩ := Option.bind_eq_some_iff.mp hf
        obtain ⟨h17, hq16⟩ := vK_spec hq16
        obtain ⟨zq16, wq16⟩ := q16
        cases zq16 with
        | inl v18 =>
          replace hf : _ = some _ := hf
          refine g_callV (pc' := 40) (mx := mdX11_event) (as := []) (wX11_event g _ a0 hq16) oX11_event ⟨Nat.le_of_ble_eq_true rfl, Nat.le_of_ble_eq_true rfl⟩ dX11_rumour_37 rfl (ci := 11) rfl h17 ⟨by decide +kernel, by decide +kernel⟩ oX11_event.2.2.2 rfl q919 q921 qs22 qs22 q921 (Nat.le_of_ble_eq_true rfl) (Nat.le_of_ble_eq_true rfl) (g_rI ?_) g_nt rfl
          refine g_bipush (pc' := 42) (v := 10) dX11_rumour_40 rfl (by decide) ?_
          obtain ⟨q20, hq20, hf⟩ := Option.bind_eq_some_iff.mp hf
          obtain ⟨h21, hq20⟩ := vK_spec hq20
          refine g_callV (pc' := 45) (mx := mdX1_comes) (as := [.int x1, .int v18, .int 10]) (wX1_comes g _ v15 x1 v18 10 hq20) oX1_comes ⟨Nat.le_of_ble_eq_true rfl, Nat.le_of_ble_eq_true rfl⟩ dX11_rumour_42 rfl (ci := 1) rfl h21 ⟨by decide +kernel, by decide +kernel⟩ oX1_comes.2.2.2 rfl q931 q361 q362 q362 q361 (Nat.le_of_ble_eq_true rfl) (Nat.le_of_ble_eq_true rfl) (g_rA ?_) g_nt rfl
          obtain ⟨v22, hv22, hf⟩ := Option.bind_eq_some_iff.mp hf
          refine g_get (pc' := 48) fok_Ru (Or.inl rfl) dX11_rumour_45 rfl q383 (hR_spec hv22) ?_
          refine g_astore_n (pc' := 49) (L' := [some (.ref a0), some (.int x1), some (.ref v22)]) dX11_rumour_48 rfl rfl (Nat.le_of_ble_eq_true rfl) rfl rfl ?_
          refine g_aload_n (pc' := 50) dX11_rumour_49 rfl rfl rfl ?_
          refine g_ldcS (pc' := 52) (i := 7) dX11_rumour_50 rfl (by decide) rfl rfl ?_
          obtain ⟨q23, hq23, hf⟩ := Option.bind_eq_some_iff.mp hf
          obtain ⟨h24, hq23⟩ := vK_spec hq23
          refine g_callV (pc' := 55) (mx := mdX11_takes) (as := [.ref (g.2.2.2.2.1 7)]) (wX11_takes g _ a0 7 hq23) oX11_takes ⟨Nat.le_of_ble_eq_true rfl, Nat.le_of_ble_eq_true rfl⟩ dX11_rumour_52 rfl (ci := 11) rfl h24 ⟨by decide +kernel, by decide +kernel⟩ oX11_takes.2.2.2 rfl q933 q935 qs25 qs25 q935 (Nat.le_of_ble_eq_true rfl) (Nat.le_of_ble_eq_true rfl) (g_rI ?_) g_nt rfl
          obtain ⟨q25, hqq25, hf⟩ := Option.bind_eq_some_iff.mp hf
          have hJq25 : ∀ e26, q25 = Sum.inl e26 → bG (g, mdX11_rumour, w.2.1, w.2.2.1, (qX eV r.1 r.2)) e26 68 [some (.ref a0), none, some (.ref v22)] [] := by
            intro e26 he
            subst he
            replace hf : _ = some _ := hf
            refine g_aload_n (pc' := 69) dX11_rumour_68 rfl rfl rfl ?_
            refine g_ldcS (pc' := 71) (i := 8) dX11_rumour_69 rfl (by decide) rfl rfl ?_
            obtain ⟨q33, hq33, hf⟩ := Option.bind_eq_some_iff.mp hf
            obtain ⟨h34, hq33⟩ := vK_spec hq33
            refine g_callV (pc' := 74) (mx := mdX11_takes) (as := [.ref (g.2.2.2.2.1 8)]) (wX11_takes g _ a0 8 hq33) oX11_takes ⟨Nat.le_of_ble_eq_true rfl, Nat.le_of_ble_eq_true rfl⟩ dX11_rumour_71 rfl (ci := 11) rfl h34 ⟨by decide +kernel, by decide +kernel⟩ oX11_takes.2.2.2 rfl q933 q935 qs25 qs25 q935 (Nat.le_of_ble_eq_true rfl) (Nat.le_of_ble_eq_true rfl) (g_rI ?_) g_nt rfl
            refine g_if_eq (tgt := 84) (pc' := 77) dX11_rumour_74 (by decide) rfl (fun h35 => ?_) (fun h35 => ?_)
            · replace hf := (if_pos h35).symm.trans hf
              obtain rfl := Option.some.inj hf
              exact g_vret dX11_rumour_84 rfl ⟨rfl, rfl⟩
            · replace hf := (if_neg h35).symm.trans hf
              refine g_aload_n (pc' := 78) dX11_rumour_77 rfl rfl rfl ?_
              refine g_iconst (pc' := 79) (v := 3) dX11_rumour_78 rfl (by decide) ?_
              refine g_aload_n (pc' := 80) dX11_rumour_79 rfl rfl rfl ?_
              obtain ⟨q36, hq36, hf⟩ := Option.bind_eq_some_iff.mp hf
              obtain ⟨h37, hq36⟩ := vK_spec hq36
              obtain ⟨zq36, wq36⟩ := q36
              cases zq36 with
              | inl v38 =>
                replace hf : _ = some _ := hf
                refine g_callV (pc' := 83) (mx := mdX11_bed) (as := []) (wX11_bed g _ a0 hq36) oX11_bed ⟨Nat.le_of_ble_eq_true rfl, Nat.le_of_ble_eq_true rfl⟩ dX11_rumour_80 rfl (ci := 11) rfl h37 ⟨by decide +kernel, by decide +kernel⟩ oX11_bed.2.2.2 rfl q938 q940 qs26 qs26 q940 (Nat.le_of_ble_eq_true rfl) (Nat.le_of_ble_eq_true rfl) (g_rI ?_) g_nt rfl
                obtain ⟨w40, hw40, hf⟩ := Option.bind_eq_some_iff.mp hf
                refine g_iast (pc' := 84) dX11_rumour_83 rfl hw40 ?_
                obtain rfl := Option.some.inj hf
                exact g_vret dX11_rumour_84 rfl ⟨rfl, rfl⟩
              | inr a39 =>
                replace hf : _ = some _ := hf
                refine g_callV (pc' := 83) (mx := mdX11_bed) (as := []) (wX11_bed g _ a0 hq36) oX11_bed ⟨Nat.le_of_ble_eq_true rfl, Nat.le_of_ble_eq_true rfl⟩ dX11_rumour_80 rfl (ci := 11) rfl h37 ⟨by decide +kernel, by decide +kernel⟩ oX11_bed.2.2.2 rfl q938 q940 qs26 qs26 q940 (Nat.le_of_ble_eq_true rfl) (Nat.le_of_ble_eq_true rfl) g_nr (g_tt ?_) rfl
                obtain rfl := Option.some.inj hf
                exact t_leave rfl ⟨rfl, rfl⟩
          have hKq25 : ∀ e26, q25 = Sum.inr e26 → e26 = r := by
            intro e26 he
            subst he
            exact Option.some.inj hf
          clear hf
          have hf := hqq25
          refine g_if_eq (tgt := 68) (pc' := 58) dX11_rumour_55 (by decide) rfl (fun h27 => ?_) (fun h27 => ?_)
          · replace hf := (if_pos h27).symm.trans hf
            obtain rfl := Option.some.inj hf
            refine g_drop [1] (L' := [some (.ref a0), none, some (.ref v22)]) rfl ?_
            exact hJq25 _ rfl
          · replace hf := (if_neg h27).symm.trans hf
            refine g_aload_n (pc' := 59) dX11_rumour_58 rfl rfl rfl ?_
            refine g_iconst (pc' := 60) (v := 1) dX11_rumour_59 rfl (by decide) ?_
            refine g_aload_n (pc' := 61) dX11_rumour_60 rfl rfl rfl ?_
            refine g_iconst (pc' := 62) (v := 0) dX11_rumour_61 rfl (by decide) ?_
            refine g_bipush (pc' := 64) (v := 99) dX11_rumour_62 rfl (by decide) ?_
            obtain ⟨q28, hq28, hf⟩ := Option.bind_eq_some_iff.mp hf
            obtain ⟨h29, hq28⟩ := vK_spec hq28
            obtain ⟨zq28, wq28⟩ := q28
            cases zq28 with
            | inl v30 =>
              replace hf : _ = some _ := hf
              refine g_callV (pc' := 67) (mx := mdX11_number) (as := [.int 0, .int 99]) (wX11_number g _ a0 0 99 hq28) oX11_number ⟨Nat.le_of_ble_eq_true rfl, Nat.le_of_ble_eq_true rfl⟩ dX11_rumour_64 rfl (ci := 11) rfl h29 ⟨by decide +kernel, by decide +kernel⟩ oX11_number.2.2.2 rfl q923 q925 qs23 qs23 q925 (Nat.le_of_ble_eq_true rfl) (Nat.le_of_ble_eq_true rfl) (g_rI ?_) g_nt rfl
              obtain ⟨w32, hw32, hf⟩ := Option.bind_eq_some_iff.mp hf
              refine g_iast (pc' := 68) dX11_rumour_67 rfl hw32 ?_
              obtain rfl := Option.some.inj hf
              refine g_drop [1] (L' := [some (.ref a0), none, some (.ref v22)]) rfl ?_
              exact hJq25 _ rfl
            | inr a31 =>
              replace hf : _ = some _ := hf
              refine g_callV (pc' := 67) (mx := mdX11_number) (as := [.int 0, .int 99]) (wX11_number g _ a0 0 99 hq28) oX11_number ⟨Nat.le_of_ble_eq_true rfl, Nat.le_of_ble_eq_true rfl⟩ dX11_rumour_64 rfl (ci := 11) rfl h29 ⟨by decide +kernel, by decide +kernel⟩ oX11_number.2.2.2 rfl q923 q925 qs23 qs23 q925 (Nat.le_of_ble_eq_true rfl) (Nat.le_of_ble_eq_true rfl) g_nr (g_tt ?_) rfl
              obtain rfl := Option.some.inj hf
              obtain rfl := hKq25 _ rfl
              exact t_leave rfl ⟨rfl, rfl⟩
        | inr a19 =>
          replace hf : _ = some _ := hf
          refine g_callV (pc' := 40) (mx := mdX11_event) (as := []) (wX11_event g _ a0 hq16) oX11_event ⟨Nat.le_of_ble_eq_true rfl, Nat.le_of_ble_eq_true rfl⟩ dX11_rumour_37 rfl (ci := 11) rfl h17 ⟨by decide +kernel, by decide +kernel⟩ oX11_event.2.2.2 rfl q919 q921 qs22 qs22 q921 (Nat.le_of_ble_eq_true rfl) (Nat.le_of_ble_eq_true rfl) g_nr (g_tt ?_) rfl
          obtain rfl := Option.some.inj hf
          exact t_leave rfl ⟨rfl, rfl⟩
      | inr a14 =>
        replace hf : _ = some _ := hf
        refine g_callV (pc' := 31) (mx := mdX11_wants) (as := [.ref (g.2.2.2.2.1 6)]) (wX11_wants g _ a0 6 hq11) oX11_wants ⟨Nat.le_of_ble_eq_true rfl, Nat.le_of_ble_eq_true rfl⟩ dX11_rumour_28 rfl (ci := 11) rfl h12 ⟨by decide +kernel, by decide +kernel⟩ oX11_wants.2.2.2 rfl q915 q917 qs21 qs21 q917 (Nat.le_of_ble_eq_true rfl) (Nat.le_of_ble_eq_true rfl) g_nr (g_tt ?_) rfl
        obtain rfl := Option.some.inj hf
        exact t_leave rfl ⟨rfl, rfl⟩
    | inr a8 =>
      replace hf : _ = some _ := hf
      refine g_callV (pc' := 21) (mx := mdX11_must) (as := [.int q3]) (wX11_must g _ a0 q3 hq5) oX11_must ⟨Nat.le_of_ble_eq_true rfl, Nat.le_of_ble_eq_true rfl⟩ dX11_rumour_18 rfl (ci := 11) rfl h6 ⟨by decide +kernel, by decide +kernel⟩ oX11_must.2.2.2 rfl q891 q893 qs20 qs20 q893 (Nat.le_of_ble_eq_true rfl) (Nat.le_of_ble_eq_true rfl) g_nr (g_tt ?_) rfl
      obtain rfl := Option.some.inj hf
      exact t_leave rfl ⟨rfl, rfl⟩
  replace hf := hqq3
  refine g_icmp_ge (tgt := 17) (pc' := 13) dX11_rumour_10 (by decide) rfl (fun h4 => ?_) (fun h4 => ?_)
  · replace hf := (if_pos h4).symm.trans hf
    refine g_iconst (pc' := 18) (v := 0) dX11_rumour_17 rfl (by decide) ?_
    obtain rfl := Option.some.inj hf
    exact hJq3
  · replace hf := (if_neg h4).symm.trans hf
    refine g_iconst (pc' := 14) (v := 1) dX11_rumour_13 rfl (by decide) ?_
    refine g_goto (tgt := 18) dX11_rumour_14 (by decide) ?_
    obtain rfl := Option.some.inj hf
    exact hJq3
def mdX11_house : bMD := (yX11_house, cX11_house, 2, none, [], 8, 195)
theorem oX11_house : bOkc mdX11_house 0 := ⟨by decide +kernel, ⟨by decide +kernel, by decide +kernel⟩, by decide +kernel, q948⟩
def fX11_house (w : bWl) (a0 : Nat) : Option ((Unit ⊕ Nat) × bWl) :=
  Option.bind (vK 11 w a0 (fX11_number w a0 0 7)) fun q1 => sm q1.1 (fun v3 =>
  Option.bind (vK 11 q1.2 a0 (fX11_takes q1.2 a0 10)) fun q5 =>
  Option.bind (α := (bWl) ⊕ (((Unit ⊕ Nat) × bWl))) ((if q5.1 = 0 then
  some (Sum.inl q5.2)
else
  Option.bind (hR q5.2 (okc 11) a0 2) fun v10 =>
  Option.bind (hR q5.2 (okc 1) v10 3) fun v11 =>
  Option.bind (vK 11 q5.2 a0 (fX11_number q5.2 a0 0 3)) fun q12 => sm q12.1 (fun v14 =>
  Option.bind (sI q12.2 0 v11 v3 v14) fun w16 =>
  some (Sum.inl w16)) (fun a15 => some (Sum.inr (Sum.inr a15, q12.2))))) fun q7 => sx q7 (fun e8 =>
  Option.bind (vK 11 e8 a0 (fX11_takes e8 a0 11)) fun q17 =>
  Option.bind (α := (bWl) ⊕ (((Unit ⊕ Nat) × bWl))) ((if q17.1 = 0 then
  some (Sum.inl q17.2)
else
  Option.bind (hR q17.2 (okc 11) a0 2) fun v22 =>
  Option.bind (hR q17.2 (okc 1) v22 4) fun v23 =>
  Option.bind (vK 11 q17.2 a0 (fX11_number q17.2 a0 0 999)) fun q24 => sm q24.1 (fun v26 =>
  Option.bind (sI q24.2 0 v23 v3 v26) fun w28 =>
  some (Sum.inl w28)) (fun a27 => some (Sum.inr (Sum.inr a27, q24.2))))) fun q19 => sx q19 (fun e20 =>
  Option.bind (vK 11 e20 a0 (fX11_takes e20 a0 12)) fun q29 =>
  (if q29.1 = 0 then
  some (Sum.inl (), q29.2)
else
  Option.bind (hR q29.2 (okc 11) a0 2) fun v32 =>
  Option.bind (hR q29.2 (okc 1) v32 5) fun v33 =>
  Option.bind (vK 11 q29.2 a0 (fX11_number q29.2 a0 0 9)) fun q34 => sm q34.1 (fun v36 =>
  Option.bind (sI q34.2 0 v33 v3 v36) fun w38 =>
  some (Sum.inl (), w38)) (fun a37 => some (Sum.inr a37, q34.2)))) (fun e20 => some e20)) (fun e8 => some e8)) (fun a4 => some (Sum.inr a4, q1.2))
set_option maxHeartbeats 4000000 in
theorem wX11_house (g : bGh) (w : bWl) (a0 : Nat) {r : ((Unit ⊕ Nat) × bWl)} (hf : fX11_house w a0 = some r) : bM g mdX11_house w [.ref a0] (qX eV r.1 r.2) := by
  unfold fX11_house at hf
  change bG _ _ 0 [some (.ref a0)] []
  refine g_aload_n (pc' := 1) dX11_house_0 rfl rfl rfl ?_
  refine g_iconst (pc' := 2) (v := 0) dX11_house_1 rfl (by decide) ?_
  refine g_bipush (pc' := 4) (v := 7) dX11_house_2 rfl (by decide) ?_
  obtain ⟨q1, hq1, hf⟩ := Option.bind_eq_some_iff.mp hf
  obtain ⟨h2, hq1⟩ := vK_spec hq1
  obtain ⟨zq1, wq1⟩ := q1
  cases zq1 with
  | inl v3 =>
    replace hf : _ = some _ := hf
    refine g_callV (pc' := 7) (mx := mdX11_number) (as := [.int 0, .int 7]) (wX11_number g _ a0 0 7 hq1) oX11_number ⟨Nat.le_of_ble_eq_true rfl, Nat.le_of_ble_eq_true rfl⟩ dX11_house_4 rfl (ci := 11) rfl h2 ⟨by decide +kernel, by decide +kernel⟩ oX11_number.2.2.2 rfl q923 q925 qs23 qs23 q925 (Nat.le_of_ble_eq_true rfl) (Nat.le_of_ble_eq_true rfl) (g_rI ?_) g_nt rfl
    refine g_istore_n (pc' := 8) (L' := [some (.ref a0), some (.int v3)]) dX11_house_7 rfl rfl (Nat.le_of_ble_eq_true rfl) rfl rfl ?_
    refine g_aload_n (pc' := 9) dX11_house_8 rfl rfl rfl ?_
    refine g_ldcS (pc' := 11) (i := 10) dX11_house_9 rfl (by decide) rfl rfl ?_
    obtain ⟨q5, hq5, hf⟩ := Option.bind_eq_some_iff.mp hf
    obtain ⟨h6, hq5⟩ := vK_spec hq5
    refine g_callV (pc' := 14) (mx := mdX11_takes) (as := [.ref (g.2.2.2.2.1 10)]) (wX11_takes g _ a0 10 hq5) oX11_takes ⟨Nat.le_of_ble_eq_true rfl, Nat.le_of_ble_eq_true rfl⟩ dX11_house_11 rfl (ci := 11) rfl h6 ⟨by decide +kernel, by decide +kernel⟩ oX11_takes.2.2.2 rfl q933 q935 qs25 qs25 q935 (Nat.le_of_ble_eq_true rfl) (Nat.le_of_ble_eq_true rfl) (g_rI ?_) g_nt rfl
    obtain ⟨q7, hqq7, hf⟩ := Option.bind_eq_some_iff.mp hf
    have hJq7 : ∀ e8, q7 = Sum.inl e8 → bG (g, mdX11_house, w.2.1, w.2.2.1, (qX eV r.1 r.2)) e8 32 [some (.ref a0), some (.int v3)] [] := by
      intro e8 he
      subst he
      replace hf : _ = some _ := hf
      refine g_aload_n (pc' := 33) dX11_house_32 rfl rfl rfl ?_
      refine g_ldcS (pc' := 35) (i := 11) dX11_house_33 rfl (by decide) rfl rfl ?_
      obtain ⟨q17, hq17, hf⟩ := Option.bind_eq_some_iff.mp hf
      obtain ⟨h18, hq17⟩ := vK_spec hq17
      refine g_callV (pc' := 38) (mx := mdX11_takes) (as := [.ref (g.2.2.2.2.1 11)]) (wX11_takes g _ a0 11 hq17) oX11_takes ⟨Nat.le_of_ble_eq_true rfl, Nat.le_of_ble_eq_true rfl⟩ dX11_house_35 rfl (ci := 11) rfl h18 ⟨by decide +kernel, by decide +kernel⟩ oX11_takes.2.2.2 rfl q933 q935 qs25 qs25 q935 (Nat.le_of_ble_eq_true rfl) (Nat.le_of_ble_eq_true rfl) (g_rI ?_) g_nt rfl
      obtain ⟨q19, hqq19, hf⟩ := Option.bind_eq_some_iff.mp hf
      have hJq19 : ∀ e20, q19 = Sum.inl e20 → bG (g, mdX11_house, w.2.1, w.2.2.1, (qX eV r.1 r.2)) e20 58 [some (.ref a0), some (.int v3)] [] := by
        intro e20 he
        subst he
        replace hf : _ = some _ := hf
        refine g_aload_n (pc' := 59) dX11_house_58 rfl rfl rfl ?_
        refine g_ldcS (pc' := 61) (i := 12) dX11_house_59 rfl (by decide) rfl rfl ?_
        obtain ⟨q29, hq29, hf⟩ := Option.bind_eq_some_iff.mp hf
        obtain ⟨h30, hq29⟩ := vK_spec hq29
        refine g_callV (pc' := 64) (mx := mdX11_takes) (as := [.ref (g.2.2.2.2.1 12)]) (wX11_takes g _ a0 12 hq29) oX11_takes ⟨Nat.le_of_ble_eq_true rfl, Nat.le_of_ble_eq_true rfl⟩ dX11_house_61 rfl (ci := 11) rfl h30 ⟨by decide +kernel, by decide +kernel⟩ oX11_takes.2.2.2 rfl q933 q935 qs25 qs25 q935 (Nat.le_of_ble_eq_true rfl) (Nat.le_of_ble_eq_true rfl) (g_rI ?_) g_nt rfl
        refine g_if_eq (tgt := 83) (pc' := 67) dX11_house_64 (by decide) rfl (fun h31 => ?_) (fun h31 => ?_)
        · replace hf := (if_pos h31).symm.trans hf
          obtain rfl := Option.some.inj hf
          exact g_vret dX11_house_83 rfl ⟨rfl, rfl⟩
        · replace hf := (if_neg h31).symm.trans hf
          refine g_aload_n (pc' := 68) dX11_house_67 rfl rfl rfl ?_
          obtain ⟨v32, hv32, hf⟩ := Option.bind_eq_some_iff.mp hf
          refine g_get (pc' := 71) (fok_11 2 (by decide)) (Or.inl rfl) dX11_house_68 rfl q791 (hR_spec hv32) ?_
          obtain ⟨v33, hv33, hf⟩ := Option.bind_eq_some_iff.mp hf
          refine g_get (pc' := 74) (fok_1 5 (by decide)) (Or.inl rfl) dX11_house_71 rfl q149 (hR_spec hv33) ?_
          refine g_iload_n (pc' := 75) dX11_house_74 rfl rfl rfl ?_
          refine g_aload_n (pc' := 76) dX11_house_75 rfl rfl rfl ?_
          refine g_iconst (pc' := 77) (v := 0) dX11_house_76 rfl (by decide) ?_
          refine g_bipush (pc' := 79) (v := 9) dX11_house_77 rfl (by decide) ?_
          obtain ⟨q34, hq34, hf⟩ := Option.bind_eq_some_iff.mp hf
          obtain ⟨h35, hq34⟩ := vK_spec hq34
          obtain ⟨zq34, wq34⟩ := q34
          cases zq34 with
          | inl v36 =>
            replace hf : _ = some _ := hf
            refine g_callV (pc' := 82) (mx := mdX11_number) (as := [.int 0, .int 9]) (wX11_number g _ a0 0 9 hq34) oX11_number ⟨Nat.le_of_ble_eq_true rfl, Nat.le_of_ble_eq_true rfl⟩ dX11_house_79 rfl (ci := 11) rfl h35 ⟨by decide +kernel, by decide +kernel⟩ oX11_number.2.2.2 rfl q923 q925 qs23 qs23 q925 (Nat.le_of_ble_eq_true rfl) (Nat.le_of_ble_eq_true rfl) (g_rI ?_) g_nt rfl
            obtain ⟨w38, hw38, hf⟩ := Option.bind_eq_some_iff.mp hf
            refine g_iast (pc' := 83) dX11_house_82 rfl hw38 ?_
            obtain rfl := Option.some.inj hf
            exact g_vret dX11_house_83 rfl ⟨rfl, rfl⟩
          | inr a37 =>
            replace hf : _ = some _ := hf
            refine g_callV (pc' := 82) (mx := mdX11_number) (as := [.int 0, .int 9]) (wX11_number g _ a0 0 9 hq34) oX11_number ⟨Nat.le_of_ble_eq_true rfl, Nat.le_of_ble_eq_true rfl⟩ dX11_house_79 rfl (ci := 11) rfl h35 ⟨by decide +kernel, by decide +kernel⟩ oX11_number.2.2.2 rfl q923 q925 qs23 qs23 q925 (Nat.le_of_ble_eq_true rfl) (Nat.le_of_ble_eq_true rfl) g_nr (g_tt ?_) rfl
            obtain rfl := Option.some.inj hf
            exact t_leave rfl ⟨rfl, rfl⟩
      have hKq19 : ∀ e20, q19 = Sum.inr e20 → e20 = r := by
        intro e20 he
        subst he
        exact Option.some.inj hf
      clear hf
      have hf := hqq19
      refine g_if_eq (tgt := 58) (pc' := 41) dX11_house_38 (by decide) rfl (fun h21 => ?_) (fun h21 => ?_)
      · replace hf := (if_pos h21).symm.trans hf
        obtain rfl := Option.some.inj hf
        exact hJq19 _ rfl
      · replace hf := (if_neg h21).symm.trans hf
        refine g_aload_n (pc' := 42) dX11_house_41 rfl rfl rfl ?_
        obtain ⟨v22, hv22, hf⟩ := Option.bind_eq_some_iff.mp hf
        refine g_get (pc' := 45) (fok_11 2 (by decide)) (Or.inl rfl) dX11_house_42 rfl q791 (hR_spec hv22) ?_
        obtain ⟨v23, hv23, hf⟩ := Option.bind_eq_some_iff.mp hf
        refine g_get (pc' := 48) (fok_1 4 (by decide)) (Or.inl rfl) dX11_house_45 rfl q146 (hR_spec hv23) ?_
        refine g_iload_n (pc' := 49) dX11_house_48 rfl rfl rfl ?_
        refine g_aload_n (pc' := 50) dX11_house_49 rfl rfl rfl ?_
        refine g_iconst (pc' := 51) (v := 0) dX11_house_50 rfl (by decide) ?_
        refine g_sipush (pc' := 54) (v := 999) dX11_house_51 rfl (by decide) ?_
        obtain ⟨q24, hq24, hf⟩ := Option.bind_eq_some_iff.mp hf
        obtain ⟨h25, hq24⟩ := vK_spec hq24
        obtain ⟨zq24, wq24⟩ := q24
        cases zq24 with
        | inl v26 =>
          replace hf : _ = some _ := hf
          refine g_callV (pc' := 57) (mx := mdX11_number) (as := [.int 0, .int 999]) (wX11_number g _ a0 0 999 hq24) oX11_number ⟨Nat.le_of_ble_eq_true rfl, Nat.le_of_ble_eq_true rfl⟩ dX11_house_54 rfl (ci := 11) rfl h25 ⟨by decide +kernel, by decide +kernel⟩ oX11_number.2.2.2 rfl q923 q925 qs23 qs23 q925 (Nat.le_of_ble_eq_true rfl) (Nat.le_of_ble_eq_true rfl) (g_rI ?_) g_nt rfl
          obtain ⟨w28, hw28, hf⟩ := Option.bind_eq_some_iff.mp hf
          refine g_iast (pc' := 58) dX11_house_57 rfl hw28 ?_
          obtain rfl := Option.some.inj hf
          exact hJq19 _ rfl
        | inr a27 =>
          replace hf : _ = some _ := hf
          refine g_callV (pc' := 57) (mx := mdX11_number) (as := [.int 0, .int 999]) (wX11_number g _ a0 0 999 hq24) oX11_number ⟨Nat.le_of_ble_eq_true rfl, Nat.le_of_ble_eq_true rfl⟩ dX11_house_54 rfl (ci := 11) rfl h25 ⟨by decide +kernel, by decide +kernel⟩ oX11_number.2.2.2 rfl q923 q925 qs23 qs23 q925 (Nat.le_of_ble_eq_true rfl) (Nat.le_of_ble_eq_true rfl) g_nr (g_tt ?_) rfl
          obtain rfl := Option.some.inj hf
          obtain rfl := hKq19 _ rfl
          exact t_leave rfl ⟨rfl, rfl⟩
    have hKq7 : ∀ e8, q7 = Sum.inr e8 → e8 = r := by
      intro e8 he
      subst he
      exact Option.some.inj hf
    clear hf
    have hf := hqq7
    refine g_if_eq (tgt := 32) (pc' := 17) dX11_house_14 (by decide) rfl (fun h9 => ?_) (fun h9 => ?_)
    · replace hf := (if_pos h9).symm.trans hf
      obtain rfl := Option.some.inj hf
      exact hJq7 _ rfl
    · replace hf := (if_neg h9).symm.trans hf
      refine g_aload_n (pc' := 18) dX11_house_17 rfl rfl rfl ?_
      obtain ⟨v10, hv10, hf⟩ := Option.bind_eq_some_iff.mp hf
      refine g_get (pc' := 21) (fok_11 2 (by decide)) (Or.inl rfl) dX11_house_18 rfl q791 (hR_spec hv10) ?_
      obtain ⟨v11, hv11, hf⟩ := Option.bind_eq_some_iff.mp hf
      refine g_get (pc' := 24) (fok_1 3 (by decide)) (Or.inl rfl) dX11_house_21 rfl q143 (hR_spec hv11) ?_
      refine g_iload_n (pc' := 25) dX11_house_24 rfl rfl rfl ?_
      refine g_aload_n (pc' := 26) dX11_house_25 rfl rfl rfl ?_
      refine g_iconst (pc' := 27) (v := 0) dX11_house_26 rfl (by decide) ?_
      refine g_iconst (pc' := 28) (v := 3) dX11_house_27 rfl (by decide) ?_
      obtain ⟨q12, hq12, hf⟩ := Option.bind_eq_some_iff.mp hf
      obtain ⟨h13, hq12⟩ := vK_spec hq12
      obtain ⟨zq12, wq12⟩ := q12
      cases zq12 with
      | inl v14 =>
        replace hf : _ = some _ := hf
        refine g_callV (pc' := 31) (mx := mdX11_number) (as := [.int 0, .int 3]) (wX11_number g _ a0 0 3 hq12) oX11_number ⟨Nat.le_of_ble_eq_true rfl, Nat.le_of_ble_eq_true rfl⟩ dX11_house_28 rfl (ci := 11) rfl h13 ⟨by decide +kernel, by decide +kernel⟩ oX11_number.2.2.2 rfl q923 q925 qs23 qs23 q925 (Nat.le_of_ble_eq_true rfl) (Nat.le_of_ble_eq_true rfl) (g_rI ?_) g_nt rfl
        obtain ⟨w16, hw16, hf⟩ := Option.bind_eq_some_iff.mp hf
        refine g_iast (pc' := 32) dX11_house_31 rfl hw16 ?_
        obtain rfl := Option.some.inj hf
        exact hJq7 _ rfl
      | inr a15 =>
        replace hf : _ = some _ := hf
        refine g_callV (pc' := 31) (mx := mdX11_number) (as := [.int 0, .int 3]) (wX11_number g _ a0 0 3 hq12) oX11_number ⟨Nat.le_of_ble_eq_true rfl, Nat.le_of_ble_eq_true rfl⟩ dX11_house_28 rfl (ci := 11) rfl h13 ⟨by decide +kernel, by decide +kernel⟩ oX11_number.2.2.2 rfl q923 q925 qs23 qs23 q925 (Nat.le_of_ble_eq_true rfl) (Nat.le_of_ble_eq_true rfl) g_nr (g_tt ?_) rfl
        obtain rfl := Option.some.inj hf
        obtain rfl := hKq7 _ rfl
        exact t_leave rfl ⟨rfl, rfl⟩
  | inr a4 =>
    replace hf : _ = some _ := hf
    refine g_callV (pc' := 7) (mx := mdX11_number) (as := [.int 0, .int 7]) (wX11_number g _ a0 0 7 hq1) oX11_number ⟨Nat.le_of_ble_eq_true rfl, Nat.le_of_ble_eq_true rfl⟩ dX11_house_4 rfl (ci := 11) rfl h2 ⟨by decide +kernel, by decide +kernel⟩ oX11_number.2.2.2 rfl q923 q925 qs23 qs23 q925 (Nat.le_of_ble_eq_true rfl) (Nat.le_of_ble_eq_true rfl) g_nr (g_tt ?_) rfl
    obtain rfl := Option.some.inj hf
    exact t_leave rfl ⟨rfl, rfl⟩
def mdX11_item : bMD := (yX11_item, cX11_item, 2, none, [], 9, 217)
theorem oX11_item : bOkc mdX11_item 0 := ⟨by decide +kernel, ⟨by decide +kernel, by decide +kernel⟩, by decide +kernel, q824⟩
def fX11_item (w : bWl) (a0 : Nat) : Option ((Unit ⊕ Nat) × bWl) :=
  Option.bind (vK 11 w a0 (fX11_kindHere w a0)) fun q1 =>
  (if q1 < 0 then
  Option.bind (vK 11 w a0 (fX11_takes w a0 9)) fun q4 =>
  (if q4.1 = 0 then
  Option.bind (vK 11 q4.2 a0 (fX11_wants q4.2 a0 13)) fun q7 => sm q7.1 (fun v9 =>
  Option.bind (hR q7.2 (okc 11) a0 2) fun v11 =>
  Option.bind (vK 11 q7.2 a0 (fX11_event q7.2 a0)) fun q12 => sm q12.1 (fun v14 =>
  Option.bind (vK 1 q12.2 v11 (fX1_comesTrue q12.2 v11 v14)) fun q16 =>
  some (Sum.inl (), q16.2)) (fun a15 => some (Sum.inr a15, q12.2))) (fun a10 => some (Sum.inr a10, q7.2))
else
  Option.bind (vK 11 q4.2 a0 (fX11_house q4.2 a0)) fun q18 => sm q18.1 (fun v20 =>
  some (Sum.inl (), q18.2)) (fun a21 => some (Sum.inr a21, q18.2)))
else
  Option.bind (vK 11 w a0 (fX11_rumour w a0 q1)) fun q22 => sm q22.1 (fun v24 =>
  some (Sum.inl (), q22.2)) (fun a25 => some (Sum.inr a25, q22.2)))
set_option maxHeartbeats 4000000 in
theorem wX11_item (g : bGh) (w : bWl) (a0 : Nat) {r : ((Unit ⊕ Nat) × bWl)} (hf : fX11_item w a0 = some r) : bM g mdX11_item w [.ref a0] (qX eV r.1 r.2) := by
  unfold fX11_item at hf
  change bG _ _ 0 [some (.ref a0)] []
  refine g_aload_n (pc' := 1) dX11_item_0 rfl rfl rfl ?_
  obtain ⟨q1, hq1, hf⟩ := Option.bind_eq_some_iff.mp hf
  obtain ⟨h2, hq1⟩ := vK_spec hq1
  refine g_callV (pc' := 4) (mx := mdX11_kindHere) (as := []) (wX11_kindHere g _ a0 hq1) oX11_kindHere ⟨Nat.le_of_ble_eq_true rfl, Nat.le_of_ble_eq_true rfl⟩ dX11_item_1 rfl (ci := 11) rfl h2 ⟨by decide +kernel, by decide +kernel⟩ oX11_kindHere.2.2.2 rfl q825 q827 qs17 qs17 q827 (Nat.le_of_ble_eq_true rfl) (Nat.le_of_ble_eq_true rfl) (g_rI ?_) g_nt rfl
  refine g_istore_n (pc' := 5) (L' := [some (.ref a0), some (.int q1)]) dX11_item_4 rfl rfl (Nat.le_of_ble_eq_true rfl) rfl rfl ?_
  refine g_iload_n (pc' := 6) dX11_item_5 rfl rfl rfl ?_
  refine g_if_lt (tgt := 17) (pc' := 9) dX11_item_6 (by decide) rfl (fun h3 => ?_) (fun h3 => ?_)
  · replace hf := (if_pos h3).symm.trans hf
    refine g_aload_n (pc' := 18) dX11_item_17 rfl rfl rfl ?_
    refine g_ldcS (pc' := 20) (i := 9) dX11_item_18 rfl (by decide) rfl rfl ?_
    obtain ⟨q4, hq4, hf⟩ := Option.bind_eq_some_iff.mp hf
    obtain ⟨h5, hq4⟩ := vK_spec hq4
    refine g_callV (pc' := 23) (mx := mdX11_takes) (as := [.ref (g.2.2.2.2.1 9)]) (wX11_takes g _ a0 9 hq4) oX11_takes ⟨Nat.le_of_ble_eq_true rfl, Nat.le_of_ble_eq_true rfl⟩ dX11_item_20 rfl (ci := 11) rfl h5 ⟨by decide +kernel, by decide +kernel⟩ oX11_takes.2.2.2 rfl q933 q935 qs25 qs25 q935 (Nat.le_of_ble_eq_true rfl) (Nat.le_of_ble_eq_true rfl) (g_rI ?_) g_nt rfl
    refine g_if_eq (tgt := 33) (pc' := 26) dX11_item_23 (by decide) rfl (fun h6 => ?_) (fun h6 => ?_)
    · replace hf := (if_pos h6).symm.trans hf
      refine g_aload_n (pc' := 34) dX11_item_33 rfl rfl rfl ?_
      refine g_ldcS (pc' := 36) (i := 13) dX11_item_34 rfl (by decide) rfl rfl ?_
      obtain ⟨q7, hq7, hf⟩ := Option.bind_eq_some_iff.mp hf
      obtain ⟨h8, hq7⟩ := vK_spec hq7
      obtain ⟨zq7, wq7⟩ := q7
      cases zq7 with
      | inl v9 =>
        replace hf : _ = some _ := hf
        refine g_callV (pc' := 39) (mx := mdX11_wants) (as := [.ref (g.2.2.2.2.1 13)]) (wX11_wants g _ a0 13 hq7) oX11_wants ⟨Nat.le_of_ble_eq_true rfl, Nat.le_of_ble_eq_true rfl⟩ dX11_item_36 rfl (ci := 11) rfl h8 ⟨by decide +kernel, by decide +kernel⟩ oX11_wants.2.2.2 rfl q915 q917 qs21 qs21 q917 (Nat.le_of_ble_eq_true rfl) (Nat.le_of_ble_eq_true rfl) (g_rV ?_) g_nt rfl
        refine g_aload_n (pc' := 40) dX11_item_39 rfl rfl rfl ?_
        obtain ⟨v11, hv11, hf⟩ := Option.bind_eq_some_iff.mp hf
        refine g_get (pc' := 43) (fok_11 2 (by decide)) (Or.inl rfl) dX11_item_40 rfl q791 (hR_spec hv11) ?_
        refine g_aload_n (pc' := 44) dX11_item_43 rfl rfl rfl ?_
        obtain ⟨q12, hq12, hf⟩ := Option.bind_eq_some_iff.mp hf
        obtain ⟨h13, hq12⟩ := vK_spec hq12
        obtain ⟨zq12, wq12⟩ := q12
        cases zq12 with
        | inl v14 =>
          replace hf : _ = some _ := hf
          refine g_callV (pc' := 47) (mx := mdX11_event) (as := []) (wX11_event g _ a0 hq12) oX11_event ⟨Nat.le_of_ble_eq_true rfl, Nat.le_of_ble_eq_true rfl⟩ dX11_item_44 rfl (ci := 11) rfl h13 ⟨by decide +kernel, by decide +kernel⟩ oX11_event.2.2.2 rfl q919 q921 qs22 qs22 q921 (Nat.le_of_ble_eq_true rfl) (Nat.le_of_ble_eq_true rfl) (g_rI ?_) g_nt rfl
          obtain ⟨q16, hq16, hf⟩ := Option.bind_eq_some_iff.mp hf
          obtain ⟨h17, hq16⟩ := vK_spec hq16
          refine g_callV (pc' := 50) (mx := mdX1_comesTrue) (as := [.int v14]) (wX1_comesTrue g _ v11 v14 hq16) oX1_comesTrue ⟨Nat.le_of_ble_eq_true rfl, Nat.le_of_ble_eq_true rfl⟩ dX11_item_47 rfl (ci := 1) rfl h17 ⟨by decide +kernel, by decide +kernel⟩ oX1_comesTrue.2.2.2 rfl q953 q626 q627 q627 q626 (Nat.le_of_ble_eq_true rfl) (Nat.le_of_ble_eq_true rfl) (g_rI ?_) g_nt rfl
          refine g_pop (pc' := 51) dX11_item_50 rfl rfl ?_
          obtain rfl := Option.some.inj hf
          exact g_vret dX11_item_51 rfl ⟨rfl, rfl⟩
        | inr a15 =>
          replace hf : _ = some _ := hf
          refine g_callV (pc' := 47) (mx := mdX11_event) (as := []) (wX11_event g _ a0 hq12) oX11_event ⟨Nat.le_of_ble_eq_true rfl, Nat.le_of_ble_eq_true rfl⟩ dX11_item_44 rfl (ci := 11) rfl h13 ⟨by decide +kernel, by decide +kernel⟩ oX11_event.2.2.2 rfl q919 q921 qs22 qs22 q921 (Nat.le_of_ble_eq_true rfl) (Nat.le_of_ble_eq_true rfl) g_nr (g_tt ?_) rfl
          obtain rfl := Option.some.inj hf
          exact t_leave rfl ⟨rfl, rfl⟩
      | inr a10 =>
        replace hf : _ = some _ := hf
        refine g_callV (pc' := 39) (mx := mdX11_wants) (as := [.ref (g.2.2.2.2.1 13)]) (wX11_wants g _ a0 13 hq7) oX11_wants ⟨Nat.le_of_ble_eq_true rfl, Nat.le_of_ble_eq_true rfl⟩ dX11_item_36 rfl (ci := 11) rfl h8 ⟨by decide +kernel, by decide +kernel⟩ oX11_wants.2.2.2 rfl q915 q917 qs21 qs21 q917 (Nat.le_of_ble_eq_true rfl) (Nat.le_of_ble_eq_true rfl) g_nr (g_tt ?_) rfl
        obtain rfl := Option.some.inj hf
        exact t_leave rfl ⟨rfl, rfl⟩
    · replace hf := (if_neg h6).symm.trans hf
      refine g_aload_n (pc' := 27) dX11_item_26 rfl rfl rfl ?_
      obtain ⟨q18, hq18, hf⟩ := Option.bind_eq_some_iff.mp hf
      obtain ⟨h19, hq18⟩ := vK_spec hq18
      obtain ⟨zq18, wq18⟩ := q18
      cases zq18 with
      | inl v20 =>
        replace hf : _ = some _ := hf
        refine g_callV (pc' := 30) (mx := mdX11_house) (as := []) (wX11_house g _ a0 hq18) oX11_house ⟨Nat.le_of_ble_eq_true rfl, Nat.le_of_ble_eq_true rfl⟩ dX11_item_27 rfl (ci := 11) rfl h19 ⟨by decide +kernel, by decide +kernel⟩ oX11_house.2.2.2 rfl q945 q947 qs27 qs27 q947 (Nat.le_of_ble_eq_true rfl) (Nat.le_of_ble_eq_true rfl) (g_rV ?_) g_nt rfl
        refine g_goto (tgt := 51) dX11_item_30 (by decide) ?_
        obtain rfl := Option.some.inj hf
        exact g_vret dX11_item_51 rfl ⟨rfl, rfl⟩
      | inr a21 =>
        replace hf : _ = some _ := hf
        refine g_callV (pc' := 30) (mx := mdX11_house) (as := []) (wX11_house g _ a0 hq18) oX11_house ⟨Nat.le_of_ble_eq_true rfl, Nat.le_of_ble_eq_true rfl⟩ dX11_item_27 rfl (ci := 11) rfl h19 ⟨by decide +kernel, by decide +kernel⟩ oX11_house.2.2.2 rfl q945 q947 qs27 qs27 q947 (Nat.le_of_ble_eq_true rfl) (Nat.le_of_ble_eq_true rfl) g_nr (g_tt ?_) rfl
        obtain rfl := Option.some.inj hf
        exact t_leave rfl ⟨rfl, rfl⟩
  · replace hf := (if_neg h3).symm.trans hf
    refine g_aload_n (pc' := 10) dX11_item_9 rfl rfl rfl ?_
    refine g_iload_n (pc' := 11) dX11_item_10 rfl rfl rfl ?_
    obtain ⟨q22, hq22, hf⟩ := Option.bind_eq_some_iff.mp hf
    obtain ⟨h23, hq22⟩ := vK_spec hq22
    obtain ⟨zq22, wq22⟩ := q22
    cases zq22 with
    | inl v24 =>
      replace hf : _ = some _ := hf
      refine g_callV (pc' := 14) (mx := mdX11_rumour) (as := [.int q1]) (wX11_rumour g _ a0 q1 hq22) oX11_rumour ⟨Nat.le_of_ble_eq_true rfl, Nat.le_of_ble_eq_true rfl⟩ dX11_item_11 rfl (ci := 11) rfl h23 ⟨by decide +kernel, by decide +kernel⟩ oX11_rumour.2.2.2 rfl q887 q889 qs19 qs19 q889 (Nat.le_of_ble_eq_true rfl) (Nat.le_of_ble_eq_true rfl) (g_rV ?_) g_nt rfl
      refine g_goto (tgt := 51) dX11_item_14 (by decide) ?_
      obtain rfl := Option.some.inj hf
      exact g_vret dX11_item_51 rfl ⟨rfl, rfl⟩
    | inr a25 =>
      replace hf : _ = some _ := hf
      refine g_callV (pc' := 14) (mx := mdX11_rumour) (as := [.int q1]) (wX11_rumour g _ a0 q1 hq22) oX11_rumour ⟨Nat.le_of_ble_eq_true rfl, Nat.le_of_ble_eq_true rfl⟩ dX11_item_11 rfl (ci := 11) rfl h23 ⟨by decide +kernel, by decide +kernel⟩ oX11_rumour.2.2.2 rfl q887 q889 qs19 qs19 q889 (Nat.le_of_ble_eq_true rfl) (Nat.le_of_ble_eq_true rfl) g_nr (g_tt ?_) rfl
      obtain rfl := Option.some.inj hf
      exact t_leave rfl ⟨rfl, rfl⟩
def mdX11_read : bMD := (yX11_read, cX11_read, 2, (some FieldType.int), [], 10, 238)
theorem oX11_read : bOkc mdX11_read 0 := ⟨by decide +kernel, ⟨by decide +kernel, by decide +kernel⟩, by decide +kernel, q811⟩
def fX11_read_l10 (b0 : Nat) (rec : (Int32 × bWl) → Option ((Int32 × bWl) ⊕ ((Int32 ⊕ Nat) × bWl))) (s : Int32 × bWl) : Option ((Int32 × bWl) ⊕ ((Int32 ⊕ Nat) × bWl)) :=
  Option.bind (hI s.2 (okc 11) b0 3) fun v7 =>
  (if v7 = 3 then
  Option.bind (vK 11 s.2 b0 (fX11_next s.2 b0)) fun q9 =>
  Option.bind (vK 11 q9 b0 (fX11_item q9 b0)) fun q11 => sm q11.1 (fun v13 =>
  rec ((s.1 + 1), q11.2)) (fun a14 => some (Sum.inr (Sum.inr a14, q11.2)))
else
  some (Sum.inl (s.1, s.2)))
def fX11_read (w : bWl) (a0 : Nat) : Option ((Int32 ⊕ Nat) × bWl) :=
  Option.bind (vK 11 w a0 (fX11_next w a0)) fun q1 =>
  Option.bind (vK 11 q1 a0 (fX11_item q1 a0)) fun q3 => sm q3.1 (fun v5 =>
  Option.bind (lpF (fX11_read_l10 a0) FU (1, q3.2)) fun q15 => sx q15 (fun e16 =>
  Option.bind (hI e16.2 (okc 11) a0 3) fun v17 =>
  Option.bind (α := Int32) ((if v17 = 0 then
  some 1
else
  some 0)) fun q18 =>
  Option.bind (vK 11 e16.2 a0 (fX11_must e16.2 a0 q18)) fun q20 => sm q20.1 (fun v22 =>
  some (Sum.inl e16.1, q20.2)) (fun a23 => some (Sum.inr a23, q20.2))) (fun e16 => some e16)) (fun a6 => some (Sum.inr a6, q3.2))
set_option maxHeartbeats 4000000 in
theorem wX11_read_l10 {g : bGh} {n0 u0 : Nat} {Q : Outcome → bWl → Prop} (b0 : Nat) : ∀ (n : Nat) (s : Int32 × bWl) (r : ((Int32 × bWl) ⊕ ((Int32 ⊕ Nat) × bWl))), lpF (fX11_read_l10 b0) n s = some r → (∀ e, r = Sum.inl e → bG (g, mdX11_read, n0, u0, Q) e.2 32 [some (.ref b0), some (.int e.1)] []) → (∀ e, r = Sum.inr e → ∀ o w', qX eI e.1 e.2 o w' → Q o w') → bG (g, mdX11_read, n0, u0, Q) s.2 10 [some (.ref b0), some (.int s.1)] [] := by
  intro n
  induction n with
  | zero => intro s r hf; cases hf
  | succ n ih =>
    intro s r hf kx kr
    rw [lpF_s] at hf
    unfold fX11_read_l10 at hf
    refine g_aload_n (pc' := 11) dX11_read_10 rfl rfl rfl ?_
    obtain ⟨v7, hv7, hf⟩ := Option.bind_eq_some_iff.mp hf
    refine g_get (pc' := 14) (fok_11 3 (by decide)) (Or.inl rfl) dX11_read_11 rfl q792 (hI_spec hv7) ?_
    refine g_iconst (pc' := 15) (v := 3) dX11_read_14 rfl (by decide) ?_
    refine g_icmp_ne (tgt := 32) (pc' := 18) dX11_read_15 (by decide) rfl (fun h8 => ?_) (fun h8 => ?_)
    · replace hf := (if_neg h8).symm.trans hf
      obtain rfl := Option.some.inj hf
      exact (kx _ rfl)
    · replace hf := (if_pos h8).symm.trans hf
      refine g_aload_n (pc' := 19) dX11_read_18 rfl rfl rfl ?_
      obtain ⟨q9, hq9, hf⟩ := Option.bind_eq_some_iff.mp hf
      obtain ⟨h10, hq9⟩ := vK_spec hq9
      refine g_callV (pc' := 22) (mx := mdX11_next) (as := []) (wX11_next g _ b0 hq9) oX11_next ⟨Nat.le_of_ble_eq_true rfl, Nat.le_of_ble_eq_true rfl⟩ dX11_read_19 rfl (ci := 11) rfl h10 ⟨by decide +kernel, by decide +kernel⟩ oX11_next.2.2.2 rfl q812 q814 qs14 qs14 q814 (Nat.le_of_ble_eq_true rfl) (Nat.le_of_ble_eq_true rfl) (g_rV ?_) g_nt rfl
      refine g_aload_n (pc' := 23) dX11_read_22 rfl rfl rfl ?_
      obtain ⟨q11, hq11, hf⟩ := Option.bind_eq_some_iff.mp hf
      obtain ⟨h12, hq11⟩ := vK_spec hq11
      obtain ⟨zq11, wq11⟩ := q11
      cases zq11 with
      | inl v13 =>
        replace hf : _ = some _ := hf
        refine g_callV (pc' := 26) (mx := mdX11_item) (as := []) (wX11_item g _ b0 hq11) oX11_item ⟨Nat.le_of_ble_eq_true rfl, Nat.le_of_ble_eq_true rfl⟩ dX11_read_23 rfl (ci := 11) rfl h12 ⟨by decide +kernel, by decide +kernel⟩ oX11_item.2.2.2 rfl q821 q823 qs16 qs16 q823 (Nat.le_of_ble_eq_true rfl) (Nat.le_of_ble_eq_true rfl) (g_rV ?_) g_nt rfl
        refine g_iinc (pc' := 29) (v := s.1 + 1) (L' := [some (.ref b0), some (.int (s.1 + 1))]) dX11_read_26 rfl rfl rfl (Nat.le_of_ble_eq_true rfl) rfl rfl ?_
        refine g_goto (tgt := 10) dX11_read_29 (by decide) ?_
        exact ih _ r hf kx kr
      | inr a14 =>
        replace hf : _ = some _ := hf
        refine g_callV (pc' := 26) (mx := mdX11_item) (as := []) (wX11_item g _ b0 hq11) oX11_item ⟨Nat.le_of_ble_eq_true rfl, Nat.le_of_ble_eq_true rfl⟩ dX11_read_23 rfl (ci := 11) rfl h12 ⟨by decide +kernel, by decide +kernel⟩ oX11_item.2.2.2 rfl q821 q823 qs16 qs16 q823 (Nat.le_of_ble_eq_true rfl) (Nat.le_of_ble_eq_true rfl) g_nr (g_tt ?_) rfl
        obtain rfl := Option.some.inj hf
        exact t_leave rfl (kr _ rfl _ _ ⟨rfl, rfl⟩)
set_option maxHeartbeats 4000000 in
theorem wX11_read (g : bGh) (w : bWl) (a0 : Nat) {r : ((Int32 ⊕ Nat) × bWl)} (hf : fX11_read w a0 = some r) : bM g mdX11_read w [.ref a0] (qX eI r.1 r.2) := by
  unfold fX11_read at hf
  change bG _ _ 0 [some (.ref a0)] []
  refine g_iconst (pc' := 1) (v := 1) dX11_read_0 rfl (by decide) ?_
  refine g_istore_n (pc' := 2) (L' := [some (.ref a0), some (.int 1)]) dX11_read_1 rfl rfl (Nat.le_of_ble_eq_true rfl) rfl rfl ?_
  refine g_aload_n (pc' := 3) dX11_read_2 rfl rfl rfl ?_
  obtain ⟨q1, hq1, hf⟩ := Option.bind_eq_some_iff.mp hf
  obtain ⟨h2, hq1⟩ := vK_spec hq1
  refine g_callV (pc' := 6) (mx := mdX11_next) (as := []) (wX11_next g _ a0 hq1) oX11_next ⟨Nat.le_of_ble_eq_true rfl, Nat.le_of_ble_eq_true rfl⟩ dX11_read_3 rfl (ci := 11) rfl h2 ⟨by decide +kernel, by decide +kernel⟩ oX11_next.2.2.2 rfl q812 q814 qs14 qs14 q814 (Nat.le_of_ble_eq_true rfl) (Nat.le_of_ble_eq_true rfl) (g_rV ?_) g_nt rfl
  refine g_aload_n (pc' := 7) dX11_read_6 rfl rfl rfl ?_
  obtain ⟨q3, hq3, hf⟩ := Option.bind_eq_some_iff.mp hf
  obtain ⟨h4, hq3⟩ := vK_spec hq3
  obtain ⟨zq3, wq3⟩ := q3
  cases zq3 with
  | inl v5 =>
    replace hf : _ = some _ := hf
    refine g_callV (pc' := 10) (mx := mdX11_item) (as := []) (wX11_item g _ a0 hq3) oX11_item ⟨Nat.le_of_ble_eq_true rfl, Nat.le_of_ble_eq_true rfl⟩ dX11_read_7 rfl (ci := 11) rfl h4 ⟨by decide +kernel, by decide +kernel⟩ oX11_item.2.2.2 rfl q821 q823 qs16 qs16 q823 (Nat.le_of_ble_eq_true rfl) (Nat.le_of_ble_eq_true rfl) (g_rV ?_) g_nt rfl
    obtain ⟨q15, hq15, hf⟩ := Option.bind_eq_some_iff.mp hf
    cases q15 with
    | inl e16 =>
      replace hf : _ = some _ := hf
      refine wX11_read_l10 a0 FU _ (Sum.inl e16) hq15 (fun e' he => ?_) (fun e' he => by cases he)
      cases he
      refine g_aload_n (pc' := 33) dX11_read_32 rfl rfl rfl ?_
      refine g_aload_n (pc' := 34) dX11_read_33 rfl rfl rfl ?_
      obtain ⟨v17, hv17, hf⟩ := Option.bind_eq_some_iff.mp hf
      refine g_get (pc' := 37) (fok_11 3 (by decide)) (Or.inl rfl) dX11_read_34 rfl q792 (hI_spec hv17) ?_
      obtain ⟨q18, hqq18, hf⟩ := Option.bind_eq_some_iff.mp hf
      have hJq18 : bG (g, mdX11_read, w.2.1, w.2.2.1, (qX eI r.1 r.2)) e16.2 45 [some (.ref a0), some (.int e16.1)] [.int q18, .ref a0] := by
        obtain ⟨q20, hq20, hf⟩ := Option.bind_eq_some_iff.mp hf
        obtain ⟨h21, hq20⟩ := vK_spec hq20
        obtain ⟨zq20, wq20⟩ := q20
        cases zq20 with
        | inl v22 =>
          replace hf : _ = some _ := hf
          refine g_callV (pc' := 48) (mx := mdX11_must) (as := [.int q18]) (wX11_must g _ a0 q18 hq20) oX11_must ⟨Nat.le_of_ble_eq_true rfl, Nat.le_of_ble_eq_true rfl⟩ dX11_read_45 rfl (ci := 11) rfl h21 ⟨by decide +kernel, by decide +kernel⟩ oX11_must.2.2.2 rfl q891 q893 qs20 qs20 q893 (Nat.le_of_ble_eq_true rfl) (Nat.le_of_ble_eq_true rfl) (g_rV ?_) g_nt rfl
          refine g_iload_n (pc' := 49) dX11_read_48 rfl rfl rfl ?_
          obtain rfl := Option.some.inj hf
          exact g_iret dX11_read_49 rfl rfl ⟨rfl, rfl⟩
        | inr a23 =>
          replace hf : _ = some _ := hf
          refine g_callV (pc' := 48) (mx := mdX11_must) (as := [.int q18]) (wX11_must g _ a0 q18 hq20) oX11_must ⟨Nat.le_of_ble_eq_true rfl, Nat.le_of_ble_eq_true rfl⟩ dX11_read_45 rfl (ci := 11) rfl h21 ⟨by decide +kernel, by decide +kernel⟩ oX11_must.2.2.2 rfl q891 q893 qs20 qs20 q893 (Nat.le_of_ble_eq_true rfl) (Nat.le_of_ble_eq_true rfl) g_nr (g_tt ?_) rfl
          obtain rfl := Option.some.inj hf
          exact t_leave rfl ⟨rfl, rfl⟩
      replace hf := hqq18
      refine g_if_ne (tgt := 44) (pc' := 40) dX11_read_37 (by decide) rfl (fun h19 => ?_) (fun h19 => ?_)
      · replace hf := (if_neg h19).symm.trans hf
        refine g_iconst (pc' := 45) (v := 0) dX11_read_44 rfl (by decide) ?_
        obtain rfl := Option.some.inj hf
        exact hJq18
      · replace hf := (if_pos h19).symm.trans hf
        refine g_iconst (pc' := 41) (v := 1) dX11_read_40 rfl (by decide) ?_
        refine g_goto (tgt := 45) dX11_read_41 (by decide) ?_
        obtain rfl := Option.some.inj hf
        exact hJq18
    | inr e16 =>
      refine wX11_read_l10 a0 FU _ (Sum.inr e16) hq15 (fun e' he => by cases he) (fun e' he => ?_)
      cases he
      obtain rfl := Option.some.inj hf
      exact fun _ _ h => h
  | inr a6 =>
    replace hf : _ = some _ := hf
    refine g_callV (pc' := 10) (mx := mdX11_item) (as := []) (wX11_item g _ a0 hq3) oX11_item ⟨Nat.le_of_ble_eq_true rfl, Nat.le_of_ble_eq_true rfl⟩ dX11_read_7 rfl (ci := 11) rfl h4 ⟨by decide +kernel, by decide +kernel⟩ oX11_item.2.2.2 rfl q821 q823 qs16 qs16 q823 (Nat.le_of_ble_eq_true rfl) (Nat.le_of_ble_eq_true rfl) g_nr (g_tt ?_) rfl
    obtain rfl := Option.some.inj hf
    exact t_leave rfl ⟨rfl, rfl⟩
