/-! ROWS OWED: the default method of an interface; String constants -/
set_option maxRecDepth 100000
section OWED
variable {X : bCX} {w w' : bWl} {pc pc' : Nat} {L L' : List (Option Value)} {st rest : List Value} {a : Nat} {md : bMD} {Q : Outcome → bWl → Prop}
/-- a final method of a rumour's, whatever its kind -/
theorem g_callVR {idx : Nat} {as : List Value} (hM : bM X.1 md w (.ref a :: as) Q) (hc : bOkc md as.length) (hr : bRm X md) (hd : decode (bcd X) pc = .ok (.invokevirtual idx, 3)) (hp : pc + 3 = pc') (h : ∃ c, hC w a = some c ∧ (c = 5 ∨ c = 6 ∨ c = 7 ∨ c = 8 ∨ c = 9 ∨ c = 10)) (hxc : md.1.cls ≠ "java/lang/invoke/MethodHandle" ∧ md.1.cls ≠ "java/lang/invoke/VarHandle") (hq1 : Cond.methodLink (bown X) idx md.1 ∈ lw_all) (hq2 : Cond.instanceMethod md.1 ∈ lw_all) (s5 : Cond.selects RX5 md.1 md.1 ∈ lw_all) (s6 : Cond.selects RX6 md.1 md.1 ∈ lw_all) (s7 : Cond.selects RX7 md.1 md.1 ∈ lw_all) (s8 : Cond.selects RX8 md.1 md.1 ∈ lw_all) (s9 : Cond.selects RX9 md.1 md.1 ∈ lw_all) (s10 : Cond.selects RX10 md.1 md.1 ∈ lw_all) (hsl : (lg_sl (.ref a :: as)).length ≤ md.2.2.1) (hrs : (rest.map fun v => v.category).sum ≤ 8)
    (kr : ∀ (v : Option Value) (w' : bWl), Q (.returned v) w' → bG X w' pc' L (v.toList ++ rest)) (kt : ∀ (a : Nat) (w' : bWl), Q (.threw a) w' → bT X w' pc L a) (hst : st = as.reverse ++ .ref a :: rest) : bG X w pc L st := by
  obtain ⟨c, hcw, hcs⟩ := h
  rcases hcs with rfl | rfl | rfl | rfl | rfl | rfl
  · exact g_callV (mx := md) (ci := 5) hM hc hr hd hp rfl hcw hxc hc.2.2.2 rfl hq1 hq2 s5 s5 hq2 hsl hrs kr kt hst
  · exact g_callV (mx := md) (ci := 6) hM hc hr hd hp rfl hcw hxc hc.2.2.2 rfl hq1 hq2 s5 s6 hq2 hsl hrs kr kt hst
  · exact g_callV (mx := md) (ci := 7) hM hc hr hd hp rfl hcw hxc hc.2.2.2 rfl hq1 hq2 s5 s7 hq2 hsl hrs kr kt hst
  · exact g_callV (mx := md) (ci := 8) hM hc hr hd hp rfl hcw hxc hc.2.2.2 rfl hq1 hq2 s5 s8 hq2 hsl hrs kr kt hst
  · exact g_callV (mx := md) (ci := 9) hM hc hr hd hp rfl hcw hxc hc.2.2.2 rfl hq1 hq2 s5 s9 hq2 hsl hrs kr kt hst
  · exact g_callV (mx := md) (ci := 10) hM hc hr hd hp rfl hcw hxc hc.2.2.2 rfl hq1 hq2 s5 s10 hq2 hsl hrs kr kt hst
theorem g_callUR {idx : Nat} {as : List Value} (hM : bM X.1 md w (.ref a :: as) Q) (hc : bOkc md as.length) (hr : bRm X md) (hd : decode (bcd X) pc = .ok (.invokespecial idx, 3)) (hp : pc + 3 = pc') (h : ∃ c, hC w a = some c ∧ (c = 5 ∨ c = 6 ∨ c = 7 ∨ c = 8 ∨ c = 9 ∨ c = 10)) (hno : md.1.name ≠ "<init>") (hq1 : Cond.methodLink (bown X) idx md.1 ∈ lw_all) (hq2 : Cond.sameMethod md.1.cls md.1.cls md.1.name md.1.desc ∈ lw_all) (hq3 : Cond.superclass (bown X) md.1.cls ∈ lw_all) (hq4 : Cond.instanceMethod md.1 ∈ lw_all) (hsl : (lg_sl (.ref a :: as)).length ≤ md.2.2.1) (hrs : (rest.map fun v => v.category).sum ≤ 8)
    (kr : ∀ (v : Option Value) (w' : bWl), Q (.returned v) w' → bG X w' pc' L (v.toList ++ rest)) (kt : ∀ (a : Nat) (w' : bWl), Q (.threw a) w' → bT X w' pc L a) (hst : st = as.reverse ++ .ref a :: rest) : bG X w pc L st := by
  obtain ⟨c, hcw, hcs⟩ := h
  rcases hcs with rfl | rfl | rfl | rfl | rfl | rfl
  · exact g_callU (ci := 5) hM hc hr hd hp rfl hcw hno hq1 hq2 hq3 hq4 hsl hrs kr kt hst
  · exact g_callU (ci := 6) hM hc hr hd hp rfl hcw hno hq1 hq2 hq3 hq4 hsl hrs kr kt hst
  · exact g_callU (ci := 7) hM hc hr hd hp rfl hcw hno hq1 hq2 hq3 hq4 hsl hrs kr kt hst
  · exact g_callU (ci := 8) hM hc hr hd hp rfl hcw hno hq1 hq2 hq3 hq4 hsl hrs kr kt hst
  · exact g_callU (ci := 9) hM hc hr hd hp rfl hcw hno hq1 hq2 hq3 hq4 hsl hrs kr kt hst
  · exact g_callU (ci := 10) hM hc hr hd hp rfl hcw hno hq1 hq2 hq3 hq4 hsl hrs kr kt hst
/-- the String constants -/
def strLen (i : Nat) : Option Int32 := if i < 14 then some (nI (bSn.getD i 0)) else none
def strAt (i : Nat) (k : Int32) : Option Int32 := if i < 14 ∧ ¬ (k < 0 ∨ bSn.getD i 0 ≤ k.toNatClampNeg) then some ((bSb.getD i []).getD k.toNatClampNeg 0) else none
theorem g_ldcS {i idx : Nat} (hd : decode (bcd X) pc = .ok (.ldc idx, 2)) (hp : pc + 2 = pc') (hi : i < 14) (hx : bSi.getD i 0 = idx) (hw : bown X = "RumourBeds$Reader") (k : bG X w pc' L (.ref (X.1.2.2.2.2.1 i) :: rest)) : bG X w pc L rest := by
  subst hp
  subst hx
  obtain ⟨g, ⟨y, cc, nL, ret, hh, fr, lo⟩, n0, u0, Q⟩ := X
  rintro ⟨p, l, e, R, s, m, args, below, meth, c⟩ hF hok H locs ls hH hlo hL
  obtain ⟨h1, h2, h3, h4, h5, h6, h7, h8, h9, h10, h11, h12, h13, h14, h15, h16⟩ := id hF
  have hw' : y.cls = "RumourBeds$Reader" := hw
  rw [hw'] at h7
  refine va_ldcS h1 h2 h7 (h10.2.2.2.2.2.2.2.1 i hi) hd ?_
  exact k (p, l, e, R, s, m, args, below, meth, c) hF hok H locs ls hH hlo hL
/-- a field of a String; a static int; a String's bytes -/
theorem g_sgetf {idx : Nat} {o n d : String} {v : Value} (hd : decode (bcd X) pc = .ok (.getfield idx, 3)) (hp : pc + 3 = pc') (hq : Cond.fieldLink (bown X) idx o n d ∈ lw_all) (hZ : ∀ U, bSt X.1 U → va_OF o n d v a (bAw X.1) U X.1.2.2.1) (k : bG X w pc' L (v :: rest)) : bG X w pc L (.ref a :: rest) := by
  subst hp
  obtain ⟨g, ⟨y, cc, nL, ret, hh, fr, lo⟩, n0, u0, Q⟩ := X
  rintro ⟨p, l, e, R, s, m, args, below, meth, c⟩ hF hok H locs ls hH hlo hL
  obtain ⟨h1, h2, h3, h4, h5, h6, h7, h8, h9, h10, h11, h12, h13, h14, h15, h16⟩ := id hF
  obtain ⟨cf, kf, fi, f, cell, z1, z2, z3, z4, z5, z6⟩ := hZ s h10
  have hb : a < g.2.2.1.size := (Array.getElem?_eq_some_iff.mp z3).1
  exact W.getf h1 h2 h7 (h9 _ hq) z1 z2 (by rw [hH.2.1 a hb]; exact z3) z4 (v := v) z5 rfl rfl hd (k (p, l, e, R, s, m, args, below, meth, c) hF hok H locs ls hH hlo hL)
theorem g_getsV {idx : Nat} {C n d : String} {v : Value} (hd : decode (bcd X) pc = .ok (.getstatic idx, 3)) (hp : pc + 3 = pc') (hq : Cond.fieldLink (bown X) idx C n d ∈ lw_all) (hZ : ∀ U, bSt X.1 U → va_Z C n d v (bAw X.1) U X.1.2.2.1) (k : bG X w pc' L (v :: rest)) : bG X w pc L rest := by
  subst hp
  obtain ⟨g, ⟨y, cc, nL, ret, hh, fr, lo⟩, n0, u0, Q⟩ := X
  rintro ⟨p, l, e, R, s, m, args, below, meth, c⟩ hF hok H locs ls hH hlo hL
  obtain ⟨h1, h2, h3, h4, h5, h6, h7, h8, h9, h10, h11, h12, h13, h14, h15, h16⟩ := id hF
  obtain ⟨cf, kf, fi, f, b, cell, z1, z2, z3, z4, z5, z6, z7, z8⟩ := hZ s h10
  have hb : b < g.2.2.1.size := (Array.getElem?_eq_some_iff.mp z5).1
  exact W.gets h1 h2 h7 (h9 _ hq) z1 z2 z3 z4 (by rw [hH.2.1 b hb]; exact z5) (fun e => by rw [e] at z6; cases z6) z7 rfl hd (k (p, l, e, R, s, m, args, below, meth, c) hF hok H locs ls hH hlo hL)
theorem g_sbld {N : Nat} {f : Nat → Value} {i : Int32} {v : Value} (hd : decode (bcd X) pc = .ok (.baload, 1)) (hp : pc + 1 = pc') (hZ : ∀ U, bSt X.1 U → va_T .byte a N f (bAw X.1) U X.1.2.2.1) (hin : vp_in i N) (hv : f i.toNatClampNeg = v) (k : bG X w pc' L (v :: rest)) : bG X w pc L (.int i :: .ref a :: rest) := by
  subst hp
  obtain ⟨g, ⟨y, cc, nL, ret, hh, fr, lo⟩, n0, u0, Q⟩ := X
  rintro ⟨p, l, e, R, s, m, args, below, meth, c⟩ hF hok H locs ls hH hlo hL
  obtain ⟨h1, h2, h3, h4, h5, h6, h7, h8, h9, h10, h11, h12, h13, h14, h15, h16⟩ := id hF
  obtain ⟨cell, z1, z2, z3, z4, z5, z6, z7⟩ := hZ s h10
  have hb : a < g.2.2.1.size := (Array.getElem?_eq_some_iff.mp z1).1
  have hlt : i.toNatClampNeg < N := Nat.not_le.mp fun q => hin (Or.inr q)
  have hin' : ¬ (i < 0 ∨ cell.slots.size ≤ i.toNatClampNeg) := by
    intro q
    rcases q with q | q
    · exact hin (Or.inl q)
    · omega
  exact W.bald (v := v) h1 h2 (by rw [hH.2.1 a hb]; exact z1) z2 z3 hin' (by rw [z6 _ hlt, hv]) rfl rfl hd (k (p, l, e, R, s, m, args, below, meth, c) hF hok H locs ls hH hlo hL)
theorem g_slenT {N : Nat} {f : Nat → Value} (hd : decode (bcd X) pc = .ok (.arraylength, 1)) (hp : pc + 1 = pc') (hZ : ∀ U, bSt X.1 U → va_T .byte a N f (bAw X.1) U X.1.2.2.1) (k : bG X w pc' L (.int (nI N) :: rest)) : bG X w pc L (.ref a :: rest) := by
  subst hp
  obtain ⟨g, ⟨y, cc, nL, ret, hh, fr, lo⟩, n0, u0, Q⟩ := X
  rintro ⟨p, l, e, R, s, m, args, below, meth, c⟩ hF hok H locs ls hH hlo hL
  obtain ⟨h1, h2, h3, h4, h5, h6, h7, h8, h9, h10, h11, h12, h13, h14, h15, h16⟩ := id hF
  obtain ⟨cell, z1, z2, z3, z4, z5, z6, z7⟩ := hZ s h10
  have hb : a < g.2.2.1.size := (Array.getElem?_eq_some_iff.mp z1).1
  exact W.alen (n := Int32.ofNat N) h1 h2 (by rw [hH.2.1 a hb]; exact z1) z2 z5 rfl rfl hd (k (p, l, e, R, s, m, args, below, meth, c) hF hok H locs ls hH hlo hL)
/-- a call of a String's own method -/
theorem g_callVs {idx i : Nat} {as : List Value} (hi : i < 14) (hM : bM X.1 md w (.ref (X.1.2.2.2.2.1 i) :: as) Q) (hc : bOkc md as.length) (hr : bRm X md) (hd : decode (bcd X) pc = .ok (.invokevirtual idx, 3)) (hp : pc + 3 = pc') (hxc : md.1.cls ≠ "java/lang/invoke/MethodHandle" ∧ md.1.cls ≠ "java/lang/invoke/VarHandle") (hq1 : Cond.methodLink (bown X) idx md.1 ∈ lw_all) (hq2 : Cond.instanceMethod md.1 ∈ lw_all) (hq4 : Cond.selects "java/lang/String" md.1 md.1 ∈ lw_all) (hsl : (lg_sl (.ref (X.1.2.2.2.2.1 i) :: as)).length ≤ md.2.2.1) (hrs : (rest.map fun v => v.category).sum ≤ 8)
    (kr : ∀ (v : Option Value) (w' : bWl), Q (.returned v) w' → bG X w' pc' L (v.toList ++ rest)) (kt : ∀ (a : Nat) (w' : bWl), Q (.threw a) w' → bT X w' pc L a) (hst : st = as.reverse ++ .ref (X.1.2.2.2.2.1 i) :: rest) : bG X w pc L st := by
  subst hp
  subst hst
  rintro ⟨p, l, e, R, s, m, args, below, meth, c⟩ hF hok H locs ls hH hlo hL
  obtain ⟨h1, h2, h3, h4, h5, h6, h7, h8, h9, h10, h11, h12, h13, h14, h15, h16⟩ := id hF
  intro T hT Y
  obtain ⟨cell, q1', q3, q2, -⟩ := (h10.2.2.2.2.2.2.1.1 i hi).1
  have q1 : H[X.1.2.2.2.2.1 i]? = some cell := by rw [hH.2.1 _ (Array.getElem?_eq_some_iff.mp q1').1]; exact q1'
  obtain ⟨mk, methM, hn, hmM, hstM, habM⟩ := Cond.instanceMethod_spec (h9 _ hq2)
  obtain ⟨mk', methM', cM, hn', hmM', -, -, -, -, -, -, hsig⟩ := bCo_of (h9 _ hc.2.2.2)
  cases hn.symm.trans hn'
  cases hmM.symm.trans hmM'
  obtain ⟨c2, r2, m2, z1, z2, z3, z4, kP, hkP, hkPi⟩ := Cond.selects_spec (h9 _ hq4)
  cases (State.methodFound?_of_named hn hxc).symm.trans z2
  cases hn.symm.trans z3
  have hcc : c2 = cell.cls := Option.some.inj (z1.symm.trans q2)
  subst hcc
  have hselP : selectMethod e.platform s.vm cell.cls mk = .method mk := by rw [Launch.admits_selectMethod Y.admits]; exact z4
  have hlen : as.length = methM.sig.parameters.length := hc.len _ hsig
  obtain ⟨vm₁, X₁, hstep₁⟩ := Y.invokevirtual h1 h7 (h9 _ hq1) hn hmM hstM hkP hkPi hxc (a := X.1.2.2.2.2.1 i) (cell := cell) (by rw [hT]; exact q1) (fun z h => by rw [h] at q3; cases q3) hselP hmM habM hkP hkPi (g := F0 m pc ls (as.reverse ++ .ref (X.1.2.2.2.2.1 i) :: rest)) rfl (argsL := as) (rest := rest) hlen rfl (by rw [h2]; exact hd)
  obtain ⟨t, hs, he⟩ := b_call (pc' := pc + 3) hM hc.1 hc.2.2.2 hsl hr.1 hr.2 hrs kr kt hF hok hH hlo hL (T := T.setVm vm₁) hT X₁ hd hn
  exact ⟨t, hstep₁ _ fun acts => by rw [doInvoke_state]; exact hs, he⟩
end OWED
def mdJ4_coder : bMD := (yJ4_coder, cJ4_coder, 1, some .byte, [], 1, 12)
theorem oJ4_coder : bOkc mdJ4_coder 0 := ⟨by decide +kernel, ⟨by decide +kernel, by decide +kernel⟩, by decide +kernel, q841⟩
def mdJ4_isLatin1 : bMD := (yJ4_isLatin1, cJ4_isLatin1, 1, some .boolean, [], 1, 12)
theorem oJ4_isLatin1 : bOkc mdJ4_isLatin1 0 := ⟨by decide +kernel, ⟨by decide +kernel, by decide +kernel⟩, by decide +kernel, q851⟩
def mdJ4_length : bMD := (yJ4_length, cJ4_length, 1, some .int, [], 2, 32)
theorem oJ4_length : bOkc mdJ4_length 0 := ⟨by decide +kernel, ⟨by decide +kernel, by decide +kernel⟩, by decide +kernel, q837⟩
def mdJ6_checkIndex : bMD := (yJ6_checkIndex, cJ6_checkIndex, 3, some .int, [], 1, 12)
theorem oJ6_checkIndex : bOkc mdJ6_checkIndex 3 := ⟨by decide +kernel, ⟨by decide +kernel, by decide +kernel⟩, by decide +kernel, q862⟩
def mdJ4_checkIndex : bMD := (yJ4_checkIndex, cJ4_checkIndex, 2, none, [], 2, 34)
theorem oJ4_checkIndex : bOkc mdJ4_checkIndex 2 := ⟨by decide +kernel, ⟨by decide +kernel, by decide +kernel⟩, by decide +kernel, q857⟩
def mdJ5_charAt : bMD := (yJ5_charAt, cJ5_charAt, 2, some .char, [], 3, 55)
theorem oJ5_charAt : bOkc mdJ5_charAt 2 := ⟨by decide +kernel, ⟨by decide +kernel, by decide +kernel⟩, by decide +kernel, q854⟩
def mdJ4_charAt : bMD := (yJ4_charAt, cJ4_charAt, 2, some .char, [], 4, 76)
theorem oJ4_charAt : bOkc mdJ4_charAt 1 := ⟨by decide +kernel, ⟨by decide +kernel, by decide +kernel⟩, by decide +kernel, q847⟩
theorem wJ4_coder (g : bGh) (w : bWl) {i : Nat} (hi : i < 14) : bM g mdJ4_coder w [.ref (g.2.2.2.2.1 i)] (q_ (eI 0) w) := by
  change bG _ _ 0 [some (.ref (g.2.2.2.2.1 i))] []
  refine g_getsV (pc' := 3) (v := .int 1) dJ4_coder_0 rfl q842 (fun U h => h.2.2.2.2.2.1.2.2.2) ?_
  refine g_if_eq (tgt := 13) (pc' := 6) dJ4_coder_3 (by decide) rfl (fun h => absurd h (by decide)) (fun _ => ?_)
  refine g_aload_n (pc' := 7) dJ4_coder_6 rfl rfl rfl ?_
  refine g_sgetf (pc' := 10) (v := .int 0) dJ4_coder_7 rfl q1557 (fun U h => (h.2.2.2.2.2.2.1.1 i hi).2.1) ?_
  refine g_goto (tgt := 14) dJ4_coder_10 (by decide) ?_
  exact g_iret dJ4_coder_14 rfl (by decide +kernel) ⟨rfl, rfl⟩
theorem wJ4_isLatin1 (g : bGh) (w : bWl) {i : Nat} (hi : i < 14) : bM g mdJ4_isLatin1 w [.ref (g.2.2.2.2.1 i)] (q_ (eI 1) w) := by
  change bG _ _ 0 [some (.ref (g.2.2.2.2.1 i))] []
  refine g_getsV (pc' := 3) (v := .int 1) dJ4_isLatin1_0 rfl q842 (fun U h => h.2.2.2.2.2.1.2.2.2) ?_
  refine g_if_eq (tgt := 17) (pc' := 6) dJ4_isLatin1_3 (by decide) rfl (fun h => absurd h (by decide)) (fun _ => ?_)
  refine g_aload_n (pc' := 7) dJ4_isLatin1_6 rfl rfl rfl ?_
  refine g_sgetf (pc' := 10) (v := .int 0) dJ4_isLatin1_7 rfl q1557 (fun U h => (h.2.2.2.2.2.2.1.1 i hi).2.1) ?_
  refine g_if_ne (tgt := 17) (pc' := 13) dJ4_isLatin1_10 (by decide) rfl (fun h => absurd rfl h) (fun _ => ?_)
  refine g_iconst (pc' := 14) (v := 1) dJ4_isLatin1_13 rfl (by decide) ?_
  refine g_goto (tgt := 18) dJ4_isLatin1_14 (by decide) ?_
  exact g_iret dJ4_isLatin1_18 rfl (by decide +kernel) ⟨rfl, rfl⟩
theorem strShr : ∀ i, i < 14 → nI (bSn.getD i 0) >>> ((0 : Int32) &&& 31) = nI (bSn.getD i 0) := by decide +kernel
theorem wJ4_length (g : bGh) (w : bWl) {i : Nat} (hi : i < 14) : bM g mdJ4_length w [.ref (g.2.2.2.2.1 i)] (q_ (eI (nI (bSn.getD i 0))) w) := by
  change bG _ _ 0 [some (.ref (g.2.2.2.2.1 i))] []
  refine g_aload_n (pc' := 1) dJ4_length_0 rfl rfl rfl ?_
  refine g_sgetf (pc' := 4) (v := .ref (g.2.2.2.2.2 i)) dJ4_length_1 rfl q1556 (fun U h => (h.2.2.2.2.2.2.1.1 i hi).2.2.1) ?_
  refine g_slenT (pc' := 5) dJ4_length_4 rfl (fun U h => (h.2.2.2.2.2.2.1.1 i hi).2.2.2) ?_
  refine g_aload_n (pc' := 6) dJ4_length_5 rfl rfl rfl ?_
  refine g_callVs (pc' := 9) (as := []) hi (wJ4_coder g _ hi) oJ4_coder ⟨Nat.le_of_ble_eq_true rfl, Nat.le_of_ble_eq_true rfl⟩ dJ4_length_6 rfl ⟨by decide +kernel, by decide +kernel⟩ q838 q839 q840 (Nat.le_of_ble_eq_true rfl) (Nat.le_of_ble_eq_true rfl) (g_rI ?_) g_nt rfl
  refine g_ishr (pc' := 10) dJ4_length_9 rfl ?_
  rw [strShr i hi]
  exact g_iret dJ4_length_10 rfl rfl ⟨rfl, rfl⟩
theorem wJ6_checkIndex (g : bGh) (w : bWl) {x y : Int32} {r : Option Nat} (h0 : ¬ x < 0) (h1 : x < y) : bM g mdJ6_checkIndex w [.int x, .int y, va_rf r] (q_ (eI x) w) := by
  refine g_cut 0 (L := [some (.int x), some (.int y), some (va_rf r)]) (by cases r <;> rfl) ?_
  refine g_iload_n (pc' := 1) dJ6_checkIndex_0 rfl rfl rfl ?_
  refine g_if_lt (tgt := 9) (pc' := 4) dJ6_checkIndex_1 (by decide) rfl (fun h => absurd h h0) (fun _ => ?_)
  refine g_iload_n (pc' := 5) dJ6_checkIndex_4 rfl rfl rfl ?_
  refine g_iload_n (pc' := 6) dJ6_checkIndex_5 rfl rfl rfl ?_
  refine g_icmp_lt (tgt := 16) (pc' := 9) dJ6_checkIndex_6 (by decide) rfl (fun _ => ?_) (fun h => absurd h1 h)
  refine g_iload_n (pc' := 17) dJ6_checkIndex_16 rfl rfl rfl ?_
  exact g_iret dJ6_checkIndex_17 rfl rfl ⟨rfl, rfl⟩
theorem wJ4_checkIndex (g : bGh) (w : bWl) {x y : Int32} (h0 : ¬ x < 0) (h1 : x < y) : bM g mdJ4_checkIndex w [.int x, .int y] (q_ none w) := by
  change bG _ _ 0 [some (.int x), some (.int y)] []
  refine g_iload_n (pc' := 1) dJ4_checkIndex_0 rfl rfl rfl ?_
  refine g_iload_n (pc' := 2) dJ4_checkIndex_1 rfl rfl rfl ?_
  refine g_gets (pc' := 5) dJ4_checkIndex_2 rfl q858 (fun U h => h.2.2.2.2.2.1.2.2.1) (fun r => ?_)
  refine g_callS (pc' := 8) (as := [.int x, .int y, va_rf r]) (wJ6_checkIndex g _ h0 h1) oJ6_checkIndex ⟨Nat.le_of_ble_eq_true rfl, Nat.le_of_ble_eq_true rfl⟩ dJ4_checkIndex_5 rfl q860 q861 q102 (by cases r <;> exact Nat.le_of_ble_eq_true rfl) (Nat.le_of_ble_eq_true rfl) (g_rI ?_) g_nt rfl
  refine g_pop (pc' := 9) dJ4_checkIndex_8 rfl rfl ?_
  exact g_vret dJ4_checkIndex_9 rfl ⟨rfl, rfl⟩
theorem strCh : ∀ i, i < 14 → ∀ k, k < bSn.getD i 0 → ((((bSb.getD i []).getD k 0) &&& 255).toUInt32 % 65536).toInt32 = (bSb.getD i []).getD k 0 ∧ narrow .char (.int ((bSb.getD i []).getD k 0)) = .int ((bSb.getD i []).getD k 0) ∧ bSn.getD i 0 < 100 := by decide +kernel
theorem wJ5_charAt (g : bGh) (w : bWl) {i : Nat} {j : Int32} (hi : i < 14) (hj : vp_in j (bSn.getD i 0)) : bM g mdJ5_charAt w [.ref (g.2.2.2.2.2 i), .int j] (q_ (eI ((bSb.getD i []).getD j.toNatClampNeg 0)) w) := by
  have hk : j.toNatClampNeg < bSn.getD i 0 := Nat.not_le.mp fun q => hj (Or.inr q)
  obtain ⟨c1, c2, c3⟩ := strCh i hi _ hk
  change bG _ _ 0 [some (.ref (g.2.2.2.2.2 i)), some (.int j)] []
  refine g_iload_n (pc' := 1) dJ5_charAt_0 rfl rfl rfl ?_
  refine g_aload_n (pc' := 2) dJ5_charAt_1 rfl rfl rfl ?_
  refine g_slenT (pc' := 3) dJ5_charAt_2 rfl (fun U h => (h.2.2.2.2.2.2.1.1 i hi).2.2.2) ?_
  have hlt : j < nI (bSn.getD i 0) := by
    obtain ⟨q, hq, rfl⟩ := nI_of (x := j) (fun h => hj (Or.inl h))
    rw [nI_clamp hq] at hk
    exact nI_lt hk (by omega)
  refine g_callS (pc' := 6) (as := [.int j, .int (nI (bSn.getD i 0))]) (wJ4_checkIndex g _ (fun h => hj (Or.inl h)) hlt) oJ4_checkIndex ⟨Nat.le_of_ble_eq_true rfl, Nat.le_of_ble_eq_true rfl⟩ dJ5_charAt_3 rfl q855 q856 q100 (Nat.le_of_ble_eq_true rfl) (Nat.le_of_ble_eq_true rfl) (g_rV ?_) g_nt rfl
  refine g_aload_n (pc' := 7) dJ5_charAt_6 rfl rfl rfl ?_
  refine g_iload_n (pc' := 8) dJ5_charAt_7 rfl rfl rfl ?_
  refine g_sbld (pc' := 9) dJ5_charAt_8 rfl (fun U h => (h.2.2.2.2.2.2.1.1 i hi).2.2.2) hj rfl ?_
  refine g_sipush (pc' := 12) (v := 255) dJ5_charAt_9 rfl (by decide) ?_
  refine g_iand (pc' := 13) dJ5_charAt_12 rfl ?_
  refine g_i2c (pc' := 14) dJ5_charAt_13 rfl ?_
  rw [c1]
  exact g_iret dJ5_charAt_14 rfl c2 ⟨rfl, rfl⟩
theorem wJ4_charAt (g : bGh) (w : bWl) {i : Nat} {j : Int32} (hi : i < 14) (hj : vp_in j (bSn.getD i 0)) : bM g mdJ4_charAt w [.ref (g.2.2.2.2.1 i), .int j] (q_ (eI ((bSb.getD i []).getD j.toNatClampNeg 0)) w) := by
  have hk : j.toNatClampNeg < bSn.getD i 0 := Nat.not_le.mp fun q => hj (Or.inr q)
  obtain ⟨c1, c2, c3⟩ := strCh i hi _ hk
  change bG _ _ 0 [some (.ref (g.2.2.2.2.1 i)), some (.int j)] []
  refine g_aload_n (pc' := 1) dJ4_charAt_0 rfl rfl rfl ?_
  refine g_callVs (pc' := 4) (as := []) hi (wJ4_isLatin1 g _ hi) oJ4_isLatin1 ⟨Nat.le_of_ble_eq_true rfl, Nat.le_of_ble_eq_true rfl⟩ dJ4_charAt_1 rfl ⟨by decide +kernel, by decide +kernel⟩ q848 q849 q850 (Nat.le_of_ble_eq_true rfl) (Nat.le_of_ble_eq_true rfl) (g_rI ?_) g_nt rfl
  refine g_if_eq (tgt := 16) (pc' := 7) dJ4_charAt_4 (by decide) rfl (fun h => absurd h (by decide)) (fun _ => ?_)
  refine g_aload_n (pc' := 8) dJ4_charAt_7 rfl rfl rfl ?_
  refine g_sgetf (pc' := 11) (v := .ref (g.2.2.2.2.2 i)) dJ4_charAt_8 rfl q1556 (fun U h => (h.2.2.2.2.2.2.1.1 i hi).2.2.1) ?_
  refine g_iload_n (pc' := 12) dJ4_charAt_11 rfl rfl rfl ?_
  refine g_callS (pc' := 15) (as := [.ref (g.2.2.2.2.2 i), .int j]) (wJ5_charAt g _ hi hj) oJ5_charAt ⟨Nat.le_of_ble_eq_true rfl, Nat.le_of_ble_eq_true rfl⟩ dJ4_charAt_12 rfl q852 q853 q101 (Nat.le_of_ble_eq_true rfl) (Nat.le_of_ble_eq_true rfl) (g_rI ?_) g_nt rfl
  exact g_iret dJ4_charAt_15 rfl c2 ⟨rfl, rfl⟩
section OWED2
variable {X : bCX} {w w' : bWl} {pc pc' : Nat} {L L' : List (Option Value)} {st rest : List Value} {a : Nat} {md : bMD} {Q : Outcome → bWl → Prop}
theorem g_strLen {i idx : Nat} {v : Int32} (hd : decode (bcd X) pc = .ok (.invokevirtual idx, 3)) (hp : pc + 3 = pc') (hq : Cond.methodLink (bown X) idx ⟨"java/lang/String", "length", "()I"⟩ ∈ lw_all) (hr : 6 ≤ X.2.1.2.2.2.2.2.1 ∧ 150 ≤ X.2.1.2.2.2.2.2.2) (hv : strLen i = some v) (hrs : (rest.map fun v => v.category).sum ≤ 8) (k : bG X w pc' L (.int v :: rest)) : bG X w pc L (.ref (X.1.2.2.2.2.1 i) :: rest) := by
  unfold strLen at hv
  split at hv
  · rename_i hi
    cases hv
    exact g_callVs (pc' := pc') (as := []) hi (wJ4_length X.1 _ hi) oJ4_length ⟨show 3 ≤ _ by omega, show 52 ≤ _ by omega⟩ hd hp ⟨by decide +kernel, by decide +kernel⟩ hq q835 q836 (Nat.le_of_ble_eq_true rfl) hrs (g_rI k) g_nt rfl
  · cases hv
theorem g_strAt {i idx : Nat} {j v : Int32} (hd : decode (bcd X) pc = .ok (.invokevirtual idx, 3)) (hp : pc + 3 = pc') (hq : Cond.methodLink (bown X) idx ⟨"java/lang/String", "charAt", "(I)C"⟩ ∈ lw_all) (hr : 6 ≤ X.2.1.2.2.2.2.2.1 ∧ 150 ≤ X.2.1.2.2.2.2.2.2) (hv : strAt i j = some v) (hrs : (rest.map fun v => v.category).sum ≤ 8) (k : bG X w pc' L (.int v :: rest)) : bG X w pc L (.int j :: .ref (X.1.2.2.2.2.1 i) :: rest) := by
  unfold strAt at hv
  split at hv
  · rename_i hi
    cases hv
    exact g_callVs (pc' := pc') (as := [.int j]) hi.1 (wJ4_charAt X.1 _ hi.1 hi.2) oJ4_charAt ⟨show 5 ≤ _ by omega, show 97 ≤ _ by omega⟩ hd hp ⟨by decide +kernel, by decide +kernel⟩ hq q845 q846 (Nat.le_of_ble_eq_true rfl) hrs (g_rI k) g_nt rfl
  · cases hv
end OWED2
def mdX13_needs : bMD := (yX13_needs, cX13_needs, 1, (some .int), [], 1, 12)
theorem oX13_needs : bOkc mdX13_needs 0 := ⟨by decide +kernel, ⟨by decide +kernel, by decide +kernel⟩, by decide +kernel, q463⟩
def fX13_needs (_ : bWl) (_ : Nat) : Option Int32 := some 3
theorem wX13_needs (g : bGh) (w : bWl) (a0 : Nat) {r : Int32} (hf : fX13_needs w a0 = some r) : bM g mdX13_needs w [.ref a0] (q_ (eI r) w) := by
  unfold fX13_needs at hf
  change bG _ _ 0 [some (.ref a0)] []
  refine g_iconst (pc' := 1) (v := 3) dX13_needs_0 rfl (by decide) ?_
  obtain rfl := Option.some.inj hf
  exact g_iret dX13_needs_1 rfl rfl ⟨rfl, rfl⟩
theorem nd_in5 : Cond.sameMethod "RumourBeds$Rumour" "RumourBeds$Needs" "needs" "()I" ∈ bNd := by simp [bNd]
theorem nd_in6 : Cond.landsInDefault "RumourBeds$Rumour" ⟨"RumourBeds$Rumour", "needs", "()I"⟩ ⟨"RumourBeds$Needs", "needs", "()I"⟩ ∈ bNd := by simp [bNd]
/-- what the tables say of Rumour's needs(): Needs's default -/
theorem nd_facts {g : bGh} {s : State} {args : Array Value} (h9 : ∀ w ∈ lw_all, w.before args s = true) (h10 : bSt g s) : ∃ (cR : ClassId) (kR : Class) (r : MethodId) (rm : Method) (mk : Class), s.vm.findClass "RumourBeds$Rumour" = some cR ∧ s.vm.classes[cR]? = some kR ∧ kR.isInterface = false ∧ s.methodFound? "RumourBeds$Rumour" "needs" "()I" = some r ∧ s.methodNamed? yX13_needs = some r ∧ s.vm.method? r = some rm ∧ rm.isStatic = false ∧ rm.isAbstract = false ∧ rm.sig.parameters = [] ∧ rm.isPrivate = false ∧ s.vm.classes[r.cls]? = some mk ∧ mk.isInterface = true ∧ selectMethod {} s.vm cR r = .method r ∧
    (∀ k d, nearestHeld s.vm cR rm.name rm.desc = some (k, .default d) → d = r) ∧ ∀ k b, nearestHeld s.vm cR rm.name rm.desc ≠ some (k, .thrower b) := by
  obtain ⟨c, r, m, rm, z1, z2, z3, z4, z5, ⟨mk, z6, z6'⟩, z7, z8, z9⟩ := nd_spec (h10.2.2.2.1 _ nd_in6)
  obtain ⟨cn, kn, r1, y1, y2, y3, y4, y5⟩ := Cond.sameMethod_found (h10.2.2.2.1 _ nd_in5)
  have e1 : r = r1 := Option.some.inj (z2.symm.trans y4)
  have e2 : m = r1 := Option.some.inj (z3.symm.trans y5)
  have e3 : c = cn := Option.some.inj (z1.symm.trans y1)
  subst e1
  subst e2
  subst e3
  obtain ⟨mk0, methM, hn, hmM, hstM, habM⟩ := Cond.instanceMethod_spec (h9 _ q462)
  obtain ⟨mk', methM', cM, hn', hmM', -, -, -, -, -, -, hsig⟩ := bCo_of (h9 _ oX13_needs.2.2.2)
  cases hn.symm.trans hn'
  cases hmM.symm.trans hmM'
  have e4 : mk0 = m := Option.some.inj (hn.symm.trans z3)
  subst e4
  cases hmM.symm.trans z4
  have hp : rm.sig.parameters = [] := by
    have : parseMethodDescriptor "()I" = some rm.sig := hsig
    have e : parseMethodDescriptor "()I" = some ⟨[], some .int⟩ := by decide +kernel
    rw [e] at this
    rw [← Option.some.inj this]
  exact ⟨c, kn, mk0, rm, mk, z1, y2, y3, z2, z3, hmM, hstM, habM, hp, z7, z6, z6', z5, z8, z9⟩
/-- super.needs() in a kind under Rumour: the interface's default -/
theorem g_needsU {X : bCX} {w : bWl} {pc pc' : Nat} {L : List (Option Value)} {rest : List Value} {a idx : Nat} {r : Int32} (hd : decode (bcd X) pc = .ok (.invokespecial idx, 3)) (hp : pc + 3 = pc') (hq : Cond.methodLink (bown X) idx ⟨"RumourBeds$Rumour", "needs", "()I"⟩ ∈ bNd) (hsup : Cond.superclass (bown X) "RumourBeds$Rumour" ∈ lw_all) (h : ∃ c, hC w a = some c ∧ (c = 5 ∨ c = 6 ∨ c = 7 ∨ c = 8 ∨ c = 9 ∨ c = 10)) (hr : bRm X mdX13_needs) (hv : fX13_needs w a = some r) (hrs : (rest.map fun v => v.category).sum ≤ 8) (k : bG X w pc' L (.int r :: rest)) : bG X w pc L (.ref a :: rest) := by
  subst hp
  rintro ⟨p, l, e, R, s, m, args, below, meth, c⟩ hF hok H locs ls hH hlo hL
  obtain ⟨h1, h2, h3, h4, h5, h6, h7, h8, h9, h10, h11, h12, h13, h14, h15, h16⟩ := id hF
  intro T hT Y
  obtain ⟨ci, hcw, hcs⟩ := h
  obtain ⟨fs, hfs⟩ := hC_spec hcw
  obtain ⟨-, r', hr0, cell, q1, q2, q3, q4⟩ := hH.2.2 a _ hfs
  obtain ⟨kC, hkC⟩ : ∃ kC, s.vm.classes[X.1.1.1 ci]? = some kC := by
    rcases hcs with rfl | rfl | rfl | rfl | rfl | rfl
    · obtain ⟨-, kC, hkC, -⟩ := (h10.1.1 5 _ rfl).2; exact ⟨kC, hkC⟩
    · obtain ⟨-, kC, hkC, -⟩ := (h10.1.1 6 _ rfl).2; exact ⟨kC, hkC⟩
    · obtain ⟨-, kC, hkC, -⟩ := (h10.1.1 7 _ rfl).2; exact ⟨kC, hkC⟩
    · obtain ⟨-, kC, hkC, -⟩ := (h10.1.1 8 _ rfl).2; exact ⟨kC, hkC⟩
    · obtain ⟨-, kC, hkC, -⟩ := (h10.1.1 9 _ rfl).2; exact ⟨kC, hkC⟩
    · obtain ⟨-, kC, hkC, -⟩ := (h10.1.1 10 _ rfl).2; exact ⟨kC, hkC⟩
  obtain ⟨cR, kR, r0, rm, mk, f1, f2, f3, f4, f5, f6, f7, f8, f9, f10, f11, f12, f13, f14, f15⟩ := nd_facts h9 h10
  obtain ⟨ps, dk, kp, hps, hdk, hkp, hsuper, -, -, hnid⟩ := Cond.superclass_spec h7 (h9 _ hsup)
  have eps : ps = cR := Option.some.inj (hps.symm.trans f1)
  subst eps
  have hlink : (Cond.methodLink (bown X) idx ⟨"RumourBeds$Rumour", "needs", "()I"⟩).before args s = true := va_Nw.use rfl (h10.2.2.2.1 _ hq)
  obtain ⟨ci2, hl, hright⟩ := Cond.methodLink_specUp h7 f1 f2 f3 f4 hlink e.platform (by rw [Y.admits.platform]) (by rw [Y.admits.platform])
  obtain ⟨dk0, cfile, nt, _, _, ck0, _, _, hd0, hcf, hcp, -, -, -, hc0, -, hpoly, -⟩ := hl.here
  cases hdk.symm.trans hd0
  cases f2.symm.trans hc0
  obtain ⟨hrn, hrd⟩ := name_of_methodNamed f5 f6
  have hup : s.vm.lookupUp ps "needs" "()I" = some r0 := ((State.methodFound?_class f1 f2 f3 hpoly r0).mp f4).1
  have hfound : lookupSpecial s.vm ps "needs" "()I" = .method r0 := nd_special f2 f3 hup f6 f7 f10 hrn hrd ⟨mk, f11, f12⟩ f13
  have hrn' : rm.name = "needs" := hrn
  have hrd' : rm.desc = "()I" := hrd
  obtain ⟨vm1, hW1, hst1⟩ := Steps.invokeSuperColdArgs (tb := p.tables) (e := e) (s₀ := s) (U := T) (f := F0 m pc ls (.ref a :: rest)) (args := []) (rest := rest) (a := a) (cell := cell) (m := r0) Y.here h1 (by rw [h2]; exact hd) Y.warmed hl hright hdk hcf hcp f6 f2
    (by rw [hrn']; rw [show ("needs" == "<init>") = false by decide +kernel]; rfl) f7 (by rw [hrn', hrd', hsuper]; simpa using hfound) hnid f11 f8 (by rw [f9]; rfl) rfl (by rw [hT]; exact q1) (fun z h => by rw [q3] at h; cases h) (by rw [q2]; exact hkC)
  obtain ⟨t, hs, he⟩ := b_call (pc' := pc + 3) (wX13_needs X.1 w a hv) oX13_needs.1 oX13_needs.2.2.2 (Nat.le_of_ble_eq_true rfl) hr.1 hr.2 hrs (g_rI k) g_nt hF hok hH hlo hL (T := T.setVm vm1) hT (Y.noted hW1) hd f5
  exact ⟨t, hst1 _ (by rw [doInvoke_state]; exact hs), he⟩
/-- r.needs(), r of a kind that says it itself -/
theorem g_needsV {X : bCX} {w : bWl} {pc pc' : Nat} {L : List (Option Value)} {rest : List Value} {a idx ci N : Nat} {C : String} {T0 : u_T} {r : Int32} {md : bMD} (hM : bM X.1 md w [.ref a] (q_ (eI r) w)) (hc : bOkc md 0) (hr : bRm X md) (hd : decode (bcd X) pc = .ok (.invokevirtual idx, 3)) (hp : pc + 3 = pc') (hci : bCl[ci]? = some (C, T0, N)) (hcw : hC w a = some ci) (hq : Cond.methodLink (bown X) idx ⟨"RumourBeds$Rumour", "needs", "()I"⟩ ∈ bNd) (hq4 : Cond.selects C ⟨"RumourBeds$Needs", "needs", "()I"⟩ md.1 ∈ lw_all) (hq5 : Cond.instanceMethod md.1 ∈ lw_all) (hxd : md.1.desc = "()I") (hsl : (lg_sl [.ref a]).length ≤ md.2.2.1) (hrs : (rest.map fun v => v.category).sum ≤ 8) (k : bG X w pc' L (.int r :: rest)) : bG X w pc L (.ref a :: rest) := by
  subst hp
  rintro ⟨p, l, e, R, s, m, args, below, meth, c⟩ hF hok H locs ls hH hlo hL
  obtain ⟨h1, h2, h3, h4, h5, h6, h7, h8, h9, h10, h11, h12, h13, h14, h15, h16⟩ := id hF
  intro T hT Y
  obtain ⟨fs, hfs⟩ := hC_spec hcw
  obtain ⟨-, r', hr0, cell, q1, q2, q3, q4⟩ := hH.2.2 a _ hfs
  have hcls := (h10.1.1 ci _ hci).2
  obtain ⟨cR, kR, r0, rm, mk, f1, f2, f3, f4, f5, f6, f7, f8, f9, f10, f11, f12, f13, f14, f15⟩ := nd_facts h9 h10
  obtain ⟨mk1, methM, hn, hmM, hstM, habM⟩ := Cond.instanceMethod_spec (h9 _ hq5)
  obtain ⟨c2, r2, m2, z1, z2, z3, z4, kP, hkP, hkPi⟩ := Cond.selects_spec (h9 _ hq4)
  cases (State.methodFound?_of_named f5 ⟨by decide +kernel, by decide +kernel⟩).symm.trans z2
  cases hn.symm.trans z3
  have hcc : c2 = cell.cls := Option.some.inj (z1.symm.trans (hcls.1.trans (by rw [q2])))
  subst hcc
  have hselP : selectMethod e.platform s.vm cell.cls r0 = .method mk1 := by rw [Launch.admits_selectMethod Y.admits]; exact z4
  obtain ⟨vm₁, X₁, -, hstep₁⟩ := Y.invokevirtualUpW h1 h7 (x := ⟨"RumourBeds$Rumour", "needs", "()I"⟩) (owner := "RumourBeds$Needs") (va_Nw.use rfl (h10.2.2.2.1 _ hq)) (va_Nw.use rfl (h10.2.2.2.1 _ nd_in5)) ⟨by decide +kernel, by decide +kernel⟩ f5 f6 f7 (a := a) (cell := cell) (by rw [hT]; exact q1) (fun z h => by rw [q3] at h; cases h) hselP hmM habM hkP hkPi (g := F0 m pc ls (.ref a :: rest)) rfl (argsL := []) (rest := rest) (by rw [f9]; rfl) rfl (by rw [h2]; exact hd)
  obtain ⟨t, hs, he⟩ := b_call (pc' := pc + 3) hM hc.1 hc.2.2.2 hsl hr.1 hr.2 hrs (g_rI k) g_nt hF hok hH hlo hL (T := T.setVm vm₁) hT X₁ hd hn
  exact ⟨t, hstep₁ _ fun acts => by rw [doInvoke_state]; exact hs, he⟩
/-- .. r of the plain kind: the interface's default -/
theorem g_needsD {X : bCX} {w : bWl} {pc pc' : Nat} {L : List (Option Value)} {rest : List Value} {a idx : Nat} {r : Int32} (hM : bM X.1 mdX13_needs w [.ref a] (q_ (eI r) w)) (hr : bRm X mdX13_needs) (hd : decode (bcd X) pc = .ok (.invokevirtual idx, 3)) (hp : pc + 3 = pc') (hcw : hC w a = some 5) (hq : Cond.methodLink (bown X) idx ⟨"RumourBeds$Rumour", "needs", "()I"⟩ ∈ bNd) (hrs : (rest.map fun v => v.category).sum ≤ 8) (k : bG X w pc' L (.int r :: rest)) : bG X w pc L (.ref a :: rest) := by
  subst hp
  rintro ⟨p, l, e, R, s, m, args, below, meth, c⟩ hF hok H locs ls hH hlo hL
  obtain ⟨h1, h2, h3, h4, h5, h6, h7, h8, h9, h10, h11, h12, h13, h14, h15, h16⟩ := id hF
  intro T hT Y
  obtain ⟨fs, hfs⟩ := hC_spec hcw
  obtain ⟨-, r', hr0, cell, q1, q2, q3, q4⟩ := hH.2.2 a _ hfs
  have hcls := (h10.1.1 5 _ rfl).2
  obtain ⟨cR, kR, r0, rm, mk, f1, f2, f3, f4, f5, f6, f7, f8, f9, f10, f11, f12, f13, f14, f15⟩ := nd_facts h9 h10
  have hcc : cR = cell.cls := Option.some.inj (f1.symm.trans (hcls.1.trans (by rw [q2])))
  subst hcc
  have hselP : selectMethod e.platform s.vm cell.cls r0 = .method r0 := by rw [Launch.admits_selectMethod Y.admits]; exact f13
  obtain ⟨vm₁, X₁, hstep₁⟩ := nd_virt Y h1 h7 (x := ⟨"RumourBeds$Rumour", "needs", "()I"⟩) (owner := "RumourBeds$Needs") (va_Nw.use rfl (h10.2.2.2.1 _ hq)) (va_Nw.use rfl (h10.2.2.2.1 _ nd_in5)) ⟨by decide +kernel, by decide +kernel⟩ f5 f6 f7 f8 f9 (a := a) (cell := cell) (by rw [hT]; exact q1) (fun z h => by rw [q3] at h; cases h) hselP f11 f12 f14 f15 (g := F0 m pc ls (.ref a :: rest)) rfl (rest := rest) rfl (by rw [h2]; exact hd)
  obtain ⟨t, hs, he⟩ := b_call (pc' := pc + 3) hM oX13_needs.1 oX13_needs.2.2.2 (Nat.le_of_ble_eq_true rfl) hr.1 hr.2 hrs (g_rI k) g_nt hF hok hH hlo hL (T := T.setVm vm₁) hT X₁ hd f5
  exact ⟨t, hstep₁ _ fun acts => by rw [doInvoke_state]; exact hs, he⟩
