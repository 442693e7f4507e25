/-! Object(), Throwable(..), Exception(..) as the claim's own exceptions call them: no text, no cause, no trace -/
set_option maxRecDepth 100000
theorem g_obj {X : bCX} {w : bWl} {pc pc' : Nat} {L : List (Option Value)} {rest : List Value} {a idx : Nat} (hd : decode (bcd X) pc = .ok (.invokespecial idx, 3)) (hp : pc + 3 = pc') (hq : Cond.methodLink (bown X) idx objectInit ∈ lw_all) (hr : 1 ≤ X.2.1.2.2.2.2.2.1 ∧ 30 ≤ X.2.1.2.2.2.2.2.2) (hrs : (rest.map fun v => v.category).sum ≤ 8) (k : bG X w pc' L rest) : bG X w pc L (.ref a :: rest) := by
  subst hp
  obtain ⟨g, ⟨y, cc, nL, ret, hh, fr, lo⟩, n0, u0, Q⟩ := X
  rintro ⟨p, l, e, R, s, m, args, below, meth, c⟩ hF hok H locs ls hH hlo hL
  obtain ⟨h1, h2, h3, h4, h5, h6, h7, h8, h9, h10, h11, h12, h13, h14, h15, h16⟩ := id hF
  have hr1 : 1 ≤ fr := hr.1
  have hr2 : 30 ≤ lo := hr.2
  refine W.objInit h1 h2 h7 (h9 _ hq) (h9 _ q111) (h9 _ q112) rfl (hL.1.trans h3.symm) rfl hd (by omega) (by show 2 * 0 + _ + _ ≤ _; omega) ?_
  exact k (p, l, e, R, s, m, args, below, meth, c) hF hok H locs ls hH hlo hL
def mdJ0_init_2 : bMD := (yJ0_init_2, cJ0_init_2, 5, none, [], 2, 40)
theorem oJ0_init_2 : bOkc mdJ0_init_2 4 := ⟨by decide +kernel, ⟨by decide +kernel, by decide +kernel⟩, by decide +kernel, q267⟩
def mdJ1_init : bMD := (yJ1_init, cJ1_init, 5, none, [], 3, 70)
theorem oJ1_init : bOkc mdJ1_init 4 := ⟨by decide +kernel, ⟨by decide +kernel, by decide +kernel⟩, by decide +kernel, q264⟩
theorem hP_at {w : bWl} {ok : Nat → Bool} {a k c : Nat} {l : List Value} {v : Value} (h : w.1 a = some (.inr (c, l))) (hc : ok c = true) (hk : k < l.length) : hP w ok a k v = some (va_up w.1 a (some (.inr (c, l.set k v))), w.2) := by
  unfold hP
  rw [h]
  exact if_pos ⟨hc, hk⟩
theorem hP_up {w : bWl} {ok : Nat → Bool} {a k c : Nat} {l : List Value} {v : Value} (hc : ok c = true) (hk : k < l.length) : hP (va_up w.1 a (some (.inr (c, l))), w.2) ok a k v = some (va_up w.1 a (some (.inr (c, l.set k v))), w.2) := by
  rw [hP_at (w := (va_up w.1 a (some (.inr (c, l))), w.2)) (va_up_self _ _ _) hc hk]
  show some (va_up (va_up w.1 a (some (.inr (c, l)))) a (some (.inr (c, l.set k v))), w.2) = _
  congr 2
  funext j
  by_cases hj : j = a
  · subst hj; rw [va_up_self, va_up_self]
  · rw [va_up_ne _ _ hj, va_up_ne _ _ hj, va_up_ne _ _ hj]
theorem up_same {w : bWl} {a : Nat} {x : bCe} (h : w.1 a = some x) : (va_up w.1 a (some x), w.2) = w := by
  have : va_up w.1 a (some x) = w.1 := by
    funext j
    by_cases hj : j = a
    · subst hj; rw [va_up_self, h]
    · rw [va_up_ne _ _ hj]
  rw [this]
set_option maxHeartbeats 4000000 in
theorem wJ0_init_2 (g : bGh) (w : bWl) (a c : Nat) {v4 v5 v6 : Value} (hc : okTh c = true) (ha : w.1 a = some (.inr (c, [.null, .null, .null, .null, v4, v5, v6]))) : bM g mdJ0_init_2 w [.ref a, .null, .null, .int 0, .int 0] (q_ none w) := by
  change bG _ _ 0 [some (.ref a), some .null, some .null, some (.int 0), some (.int 0)] []
  refine g_aload_n (pc' := 1) dJ0_init_2_0 rfl rfl rfl ?_
  refine g_obj (pc' := 4) dJ0_init_2_1 rfl q244 ⟨Nat.le_of_ble_eq_true rfl, Nat.le_of_ble_eq_true rfl⟩ (Nat.le_of_ble_eq_true rfl) ?_
  refine g_aload_n (pc' := 5) dJ0_init_2_4 rfl rfl rfl ?_
  refine g_aload_n (pc' := 6) dJ0_init_2_5 rfl rfl rfl ?_
  refine g_put (ty := .object "java/lang/Throwable") (pc' := 9) (fok_Th 0 (by decide)) (Or.inl rfl) dJ0_init_2_6 rfl q272 (by decide +kernel) rfl rfl (hP_at ha hc (Nat.le_of_ble_eq_true rfl)) ?_
  refine g_aload_n (pc' := 10) dJ0_init_2_9 rfl rfl rfl ?_
  refine g_gets (pc' := 13) dJ0_init_2_10 rfl q245 (fun U h => h.2.2.2.2.2.1.1) fun r1 => ?_
  refine g_put (ty := .array (.object "java/lang/StackTraceElement")) (pc' := 16) (fok_Th 1 (by decide)) (Or.inl rfl) dJ0_init_2_13 rfl q273 (by decide +kernel) (by cases r1 <;> rfl) (by cases r1 <;> rfl) (hP_up hc (Nat.le_of_ble_eq_true rfl)) ?_
  refine g_aload_n (pc' := 17) dJ0_init_2_16 rfl rfl rfl ?_
  refine g_gets (pc' := 20) dJ0_init_2_17 rfl q247 (fun U h => h.2.2.2.2.2.1.2.1) fun r2 => ?_
  refine g_put (ty := .object "java/util/List") (pc' := 23) (fok_Th 2 (by decide)) (Or.inl rfl) dJ0_init_2_20 rfl q274 (by decide +kernel) (by cases r2 <;> rfl) (by cases r2 <;> rfl) (hP_up hc (Nat.le_of_ble_eq_true rfl)) ?_
  refine g_iload (pc' := 25) dJ0_init_2_23 rfl rfl ?_
  refine g_if_eq (tgt := 36) (pc' := 28) dJ0_init_2_25 (by decide) rfl (fun h => ?_) (fun h => absurd rfl h)
  refine g_aload_n (pc' := 37) dJ0_init_2_36 rfl rfl rfl ?_
  refine g_null (pc' := 38) dJ0_init_2_37 rfl ?_
  refine g_put (ty := .array (.object "java/lang/StackTraceElement")) (pc' := 41) (fok_Th 1 (by decide)) (Or.inl rfl) dJ0_init_2_38 rfl q273 (by decide +kernel) rfl rfl (hP_up hc (Nat.le_of_ble_eq_true rfl)) ?_
  refine g_aload_n (pc' := 42) dJ0_init_2_41 rfl rfl rfl ?_
  refine g_aload_nN (pc' := 43) dJ0_init_2_42 rfl rfl rfl ?_
  refine g_put (ty := .object "java/lang/String") (pc' := 46) (fok_Th 3 (by decide)) (Or.inl rfl) dJ0_init_2_43 rfl q271 (by decide +kernel) rfl rfl (hP_up hc (Nat.le_of_ble_eq_true rfl)) ?_
  refine g_aload_n (pc' := 47) dJ0_init_2_46 rfl rfl rfl ?_
  refine g_aload_nN (pc' := 48) dJ0_init_2_47 rfl rfl rfl ?_
  refine g_put (ty := .object "java/lang/Throwable") (pc' := 51) (fok_Th 0 (by decide)) (Or.inl rfl) dJ0_init_2_48 rfl q272 (by decide +kernel) rfl rfl (hP_up hc (Nat.le_of_ble_eq_true rfl)) ?_
  refine g_iload_n (pc' := 52) dJ0_init_2_51 rfl rfl rfl ?_
  refine g_if_ne (tgt := 60) (pc' := 55) dJ0_init_2_52 (by decide) rfl (fun h => absurd rfl h) (fun h => ?_)
  refine g_aload_n (pc' := 56) dJ0_init_2_55 rfl rfl rfl ?_
  refine g_null (pc' := 57) dJ0_init_2_56 rfl ?_
  refine g_put (ty := .object "java/util/List") (pc' := 60) (fok_Th 2 (by decide)) (Or.inl rfl) dJ0_init_2_57 rfl q274 (by decide +kernel) rfl rfl (hP_up hc (Nat.le_of_ble_eq_true rfl)) ?_
  exact g_vret dJ0_init_2_60 rfl ⟨rfl, up_same ha⟩
theorem wJ1_init (g : bGh) (w : bWl) (a c : Nat) {v4 v5 v6 : Value} (hc : okTh c = true) (ha : w.1 a = some (.inr (c, [.null, .null, .null, .null, v4, v5, v6]))) : bM g mdJ1_init w [.ref a, .null, .null, .int 0, .int 0] (q_ none w) := by
  change bG _ _ 0 [some (.ref a), some .null, some .null, some (.int 0), some (.int 0)] []
  refine g_aload_n (pc' := 1) dJ1_init_0 rfl rfl rfl ?_
  refine g_aload_nN (pc' := 2) dJ1_init_1 rfl rfl rfl ?_
  refine g_aload_nN (pc' := 3) dJ1_init_2 rfl rfl rfl ?_
  refine g_iload_n (pc' := 4) dJ1_init_3 rfl rfl rfl ?_
  refine g_iload (pc' := 6) dJ1_init_4 rfl rfl ?_
  refine g_callI (pc' := 9) (as := [.null, .null, .int 0, .int 0]) (wJ0_init_2 g _ a c hc ha) oJ0_init_2 ⟨Nat.le_of_ble_eq_true rfl, Nat.le_of_ble_eq_true rfl⟩ dJ1_init_6 rfl rfl q265 q266 (Nat.le_of_ble_eq_true rfl) (Nat.le_of_ble_eq_true rfl) (g_rV ?_) g_nt rfl
  exact g_vret dJ1_init_9 rfl ⟨rfl, rfl⟩
/-- a fresh exception of the claim's -/
def vE {α : Type} (w : bWl) (a : Nat) (k : Option α) : Option α := match w.1 a with
  | some (.inr (c, [.null, .null, .null, .null, _, _, _])) => if okTh c then k else none
  | _ => none
theorem vE_spec {α : Type} {w : bWl} {a : Nat} {k : Option α} {r : α} (h : vE w a k = some r) : (∃ (c : Nat) (v4 v5 v6 : Value), w.1 a = some (.inr (c, [.null, .null, .null, .null, v4, v5, v6])) ∧ okTh c = true) ∧ k = some r := by
  unfold vE at h
  split at h
  · rename_i c v4 v5 v6 hx
    split at h
    · exact ⟨⟨c, v4, v5, v6, hx, by assumption⟩, h⟩
    · cases h
  · cases h
theorem g_exc {X : bCX} {w : bWl} {pc pc' : Nat} {L : List (Option Value)} {rest : List Value} {a idx : Nat} (hd : decode (bcd X) pc = .ok (.invokespecial idx, 3)) (hp : pc + 3 = pc') (hq : Cond.methodLink (bown X) idx mdJ1_init.1 ∈ lw_all) (hr : bRm X mdJ1_init) (h : ∃ (c : Nat) (v4 v5 v6 : Value), w.1 a = some (.inr (c, [.null, .null, .null, .null, v4, v5, v6])) ∧ okTh c = true) (hrs : (rest.map fun v => v.category).sum ≤ 8) (k : bG X w pc' L rest) : bG X w pc L (.int 0 :: .int 0 :: .null :: .null :: .ref a :: rest) := by
  obtain ⟨c, v4, v5, v6, ha, hc⟩ := h
  exact g_callI (as := [.null, .null, .int 0, .int 0]) (wJ1_init X.1 w a c hc ha) oJ1_init hr hd hp rfl hq q263 (Nat.le_of_ble_eq_true rfl) hrs (g_rV k) g_nt rfl
