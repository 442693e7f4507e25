/-! CALLS: the invoking instructions -/
set_option maxRecDepth 100000
/-- the callee's own numbers -/
def bOkc (md : bMD) (n : Nat) : Prop := plainFor md.1 = true ∧ (md.1.cls ≠ "java/lang/invoke/MethodHandle" ∧ md.1.cls ≠ "java/lang/invoke/VarHandle") ∧ (parseMethodDescriptor md.1.desc).map (fun d => d.parameters.length) = some n ∧ bWd md ∈ lw_all
theorem bOkc.len {md : bMD} {n : Nat} (h : bOkc md n) : ∀ sig, parseMethodDescriptor md.1.desc = some sig → n = sig.parameters.length := by
  intro sig hs
  have h2 := h.2.2.1
  rw [hs] at h2
  exact (Option.some.inj h2).symm
/-- room for the callee -/
def bRm (X : bCX) (md : bMD) : Prop := md.2.2.2.2.2.1 + 1 ≤ X.2.1.2.2.2.2.2.1 ∧ 8 + (md.2.2.1 + 11) + md.2.2.2.2.2.2 ≤ X.2.1.2.2.2.2.2.2
section CALLS
variable {X : bCX} {w w' : bWl} {pc pc' : Nat} {L L' : List (Option Value)} {st rest : List Value} {a : Nat} {md : bMD} {Q : Outcome → bWl → Prop}
theorem g_callS {idx : Nat} {as : List Value} (hM : bM X.1 md w as Q) (hc : bOkc md as.length) (hr : bRm X md) (hd : decode (bcd X) pc = .ok (.invokestatic idx, 3)) (hp : pc + 3 = pc') (hq1 : Cond.methodLink (bown X) idx md.1 ∈ lw_all) (hq2 : Cond.static md.1 ∈ lw_all) (hq3 : Cond.initialized md.1.cls ∈ lw_all) (hsl : (lg_sl as).length ≤ md.2.2.1) (hrs : (rest.map fun v => v.category).sum ≤ 8)
    (kr : ∀ (v : Option Value) (w' : bWl), Q (.returned v) w' → bG X w' pc' L (v.toList ++ rest)) (kt : ∀ (a : Nat) (w' : bWl), Q (.threw a) w' → bT X w' pc L a) (hst : st = as.reverse ++ rest) : bG X w pc L st := by
  subst hp
  subst hst
  rintro ⟨p, l, e, R, s, m, args, below, meth, c⟩ hF hok H locs ls hH hlo hL
  obtain ⟨h1, h2, h3, h4, h5, h6, h7, h8, h9, h10, h11, h12, h13, h14, h15, h16⟩ := id hF
  intro T hT Y
  obtain ⟨mk, methM, cM, hn, hmM, -, -, -, -, -, -, hsig⟩ := bCo_of (h9 _ hc.2.2.2)
  have hstatic : methM.isStatic = true := Cond.static_spec hn hmM (h9 _ hq2)
  obtain ⟨kP, hkP, -⟩ := className_of_methodNamed hn
  have hinitP : kP.init = .initialized := Cond.initialized_spec (findClass_of_methodNamed hn) hkP (h9 _ hq3)
  obtain ⟨vm₁, X₁, hstep₁⟩ := Y.invokestatic h1 h7 (h9 _ hq1) hn hmM hstatic hkP hinitP hc.2.1 (g := F0 m pc ls (as.reverse ++ rest)) rfl (argsL := as) (rest := rest) (hc.len _ hsig) rfl (by rw [h2]; exact hd)
  obtain ⟨t, hs, he⟩ := b_call (pc' := pc + 3) hM hc.1 hc.2.2.2 hsl hr.1 hr.2 hrs kr kt hF hok hH hlo hL (T := T.setVm vm₁) hT X₁ hd hn
  exact ⟨t, hstep₁ _ fun acts => by rw [doInvoke_state]; exact hs, he⟩
theorem g_callSN {idx : Nat} {host : String} {as : List Value} (hM : bM X.1 md w as Q) (hc : bOkc md as.length) (hr : bRm X md) (hd : decode (bcd X) pc = .ok (.invokestatic idx, 3)) (hp : pc + 3 = pc') (hq1 : Cond.methodLinkNest (bown X) idx md.1 host ∈ bNw) (hq2 : Cond.static md.1 ∈ lw_all) (hq3 : Cond.initialized md.1.cls ∈ lw_all) (hsl : (lg_sl as).length ≤ md.2.2.1) (hrs : (rest.map fun v => v.category).sum ≤ 8)
    (kr : ∀ (v : Option Value) (w' : bWl), Q (.returned v) w' → bG X w' pc' L (v.toList ++ rest)) (kt : ∀ (a : Nat) (w' : bWl), Q (.threw a) w' → bT X w' pc L a) (hst : st = as.reverse ++ rest) : bG X w pc L st := by
  subst hp
  subst hst
  rintro ⟨p, l, e, R, s, m, args, below, meth, c⟩ hF hok H locs ls hH hlo hL
  obtain ⟨h1, h2, h3, h4, h5, h6, h7, h8, h9, h10, h11, h12, h13, h14, h15, h16⟩ := id hF
  intro T hT Y
  obtain ⟨mk, methM, cM, hn, hmM, -, -, -, -, -, -, hsig⟩ := bCo_of (h9 _ hc.2.2.2)
  have hstatic : methM.isStatic = true := Cond.static_spec hn hmM (h9 _ hq2)
  obtain ⟨kP, hkP, -⟩ := className_of_methodNamed hn
  have hinitP : kP.init = .initialized := Cond.initialized_spec (findClass_of_methodNamed hn) hkP (h9 _ hq3)
  obtain ⟨vm₁, X₁, hstep₁⟩ := Y.invokestaticNest h1 h7 (va_Nw.use rfl (h10.2.1 _ hq1)) hn hmM hstatic hkP hinitP hc.2.1 (g := F0 m pc ls (as.reverse ++ rest)) rfl (argsL := as) (rest := rest) (hc.len _ hsig) rfl (by rw [h2]; exact hd)
  obtain ⟨t, hs, he⟩ := b_call (pc' := pc + 3) hM hc.1 hc.2.2.2 hsl hr.1 hr.2 hrs kr kt hF hok hH hlo hL (T := T.setVm vm₁) hT X₁ hd hn
  exact ⟨t, hstep₁ _ fun acts => by rw [doInvoke_state]; exact hs, he⟩
/-- a call through an object: x is named, y is run; C: the object's class -/
theorem g_callV {idx ci N : Nat} {mx : bMD} {C Cx : String} {T0 : u_T} {as : List Value} (hM : bM X.1 md w (.ref a :: as) Q) (hc : bOkc md as.length) (hr : bRm X md) (hd : decode (bcd X) pc = .ok (.invokevirtual idx, 3)) (hp : pc + 3 = pc') (hci : bCl[ci]? = some (C, T0, N)) (hcw : hC w a = some ci) (hxc : mx.1.cls ≠ "java/lang/invoke/MethodHandle" ∧ mx.1.cls ≠ "java/lang/invoke/VarHandle") (hxw : bWd mx ∈ lw_all) (hxd : mx.1.desc = md.1.desc) (hq1 : Cond.methodLink (bown X) idx mx.1 ∈ lw_all) (hq2 : Cond.instanceMethod mx.1 ∈ lw_all) (hq3 : Cond.selects Cx mx.1 mx.1 ∈ lw_all) (hq4 : Cond.selects C mx.1 md.1 ∈ lw_all) (hq5 : Cond.instanceMethod md.1 ∈ lw_all) (hsl : (lg_sl (.ref a :: as)).length ≤ md.2.2.1) (hrs : (rest.map fun v => v.category).sum ≤ 8)
    (kr : ∀ (v : Option Value) (w' : bWl), Q (.returned v) w' → bG X w' pc' L (v.toList ++ rest)) (kt : ∀ (a : Nat) (w' : bWl), Q (.threw a) w' → bT X w' pc L a) (hst : st = as.reverse ++ .ref a :: rest) : bG X w pc L st := by
  subst hp
  subst hst
  rintro ⟨p, l, e, R, s, m, args, below, meth, c⟩ hF hok H locs ls hH hlo hL
  obtain ⟨h1, h2, h3, h4, h5, h6, h7, h8, h9, h10, h11, h12, h13, h14, h15, h16⟩ := id hF
  intro T hT Y
  obtain ⟨fs, hfs⟩ := hC_spec hcw
  obtain ⟨-, r, hr0, cell, q1, q2, q3, q4⟩ := hH.2.2 a _ hfs
  have hcls := (h10.1.1 ci _ hci).2
  obtain ⟨r0, rM, hn0, hrM, hstR, habR⟩ := Cond.instanceMethod_spec (h9 _ hq2)
  obtain ⟨mk, methM, hn, hmM, hstM, habM⟩ := Cond.instanceMethod_spec (h9 _ hq5)
  obtain ⟨mk', methM', cM, hn', hmM', -, -, -, -, -, -, hsig⟩ := bCo_of (h9 _ hc.2.2.2)
  cases hn.symm.trans hn'
  cases hmM.symm.trans hmM'
  obtain ⟨c2, r2, m2, z1, z2, z3, z4, kP, hkP, hkPi⟩ := Cond.selects_spec (h9 _ hq4)
  obtain ⟨c3, r3, m3, y1, y2, y3, y4, kX, hkX, hkXi⟩ := Cond.selects_spec (h9 _ hq3)
  cases (State.methodFound?_of_named hn0 hxc).symm.trans z2
  cases hn.symm.trans z3
  cases hn0.symm.trans y3
  have hcc : c2 = cell.cls := Option.some.inj (z1.symm.trans (hcls.1.trans (by rw [q2])))
  subst hcc
  have hselP : selectMethod e.platform s.vm cell.cls r0 = .method mk := by rw [Launch.admits_selectMethod Y.admits]; exact z4
  obtain ⟨mkx, methX, cX, hnx, hmX, -, -, -, -, -, -, hsigx⟩ := bCo_of (h9 _ hxw)
  cases hn0.symm.trans hnx
  cases hrM.symm.trans hmX
  have hlen : as.length = rM.sig.parameters.length := hc.len _ (by rw [← hxd]; exact hsigx)
  obtain ⟨vm₁, X₁, hstep₁⟩ := Y.invokevirtual h1 h7 (h9 _ hq1) hn0 hrM hstR hkX hkXi hxc (a := a) (cell := cell) (by rw [hT]; exact q1) (fun z h => by rw [q3] at h; cases h) hselP hmM habM hkP hkPi (g := F0 m pc ls (as.reverse ++ .ref a :: rest)) rfl (argsL := as) (rest := rest) hlen rfl (by rw [h2]; exact hd)
  obtain ⟨t, hs, he⟩ := b_call (pc' := pc + 3) hM hc.1 hc.2.2.2 hsl hr.1 hr.2 hrs kr kt hF hok hH hlo hL (T := T.setVm vm₁) hT X₁ hd hn
  exact ⟨t, hstep₁ _ fun acts => by rw [doInvoke_state]; exact hs, he⟩
theorem bWd_code {y : MethodName} {cc : ByteArray} {nL fr lo : Nat} {ret : Option FieldType} : bWd (y, cc, nL, ret, [], fr, lo) = .code y cc nL ret := rfl
/-- a constructor -/
theorem g_callI {idx : Nat} {y : MethodName} {cc : ByteArray} {nL fr lo : Nat} {as : List Value} (hM : bM X.1 (y, cc, nL, none, [], fr, lo) w (.ref a :: as) Q) (hc : bOkc (y, cc, nL, none, [], fr, lo) as.length) (hr : bRm X (y, cc, nL, none, [], fr, lo)) (hd : decode (bcd X) pc = .ok (.invokespecial idx, 3)) (hp : pc + 3 = pc') (hy1 : y.name = "<init>") (hq1 : Cond.methodLink (bown X) idx y ∈ lw_all) (hq2 : Cond.instanceMethod y ∈ lw_all) (hsl : (lg_sl (.ref a :: as)).length ≤ nL) (hrs : (rest.map fun v => v.category).sum ≤ 8)
    (kr : ∀ (v : Option Value) (w' : bWl), Q (.returned v) w' → bG X w' pc' L (v.toList ++ rest)) (kt : ∀ (a : Nat) (w' : bWl), Q (.threw a) w' → bT X w' pc L a) (hst : st = as.reverse ++ .ref a :: rest) : bG X w pc L st := by
  subst hp
  subst hst
  rintro ⟨p, l, e, R, s, m, args, below, meth, c⟩ hF hok H locs ls hH hlo hL
  obtain ⟨h1, h2, h3, h4, h5, h6, h7, h8, h9, h10, h11, h12, h13, h14, h15, h16⟩ := id hF
  intro T hT Y
  have hpl : e.platform.magicAccessors = ({} : Platform).magicAccessors := by rw [Y.admits.platform]
  obtain ⟨mk, methM, cM, kP, vm₁, hnamed, hmethM, hcodeM, -, hlocalsM, -, hkP, -, hW₁, hstep₁⟩ := Steps.initColdArgs (e := e) Y.here h1 Y.warmed hpl h7 hy1 hc.2.1 (h9 _ hq1) (h9 _ hq2) (h9 _ hc.2.2.2) (f := F0 m pc ls (as.reverse ++ .ref a :: rest)) rfl hc.len (rest := rest) rfl (by rw [h2]; exact hd)
  have X₁ := Y.noted hW₁
  obtain ⟨t, hs, he⟩ := b_call (pc' := pc + 3) hM hc.1 hc.2.2.2 hsl hr.1 hr.2 hrs kr kt hF hok hH hlo hL (T := T.setVm vm₁) hT X₁ hd hnamed
  exact ⟨t, hstep₁ _ fun acts => by rw [doInvoke_state]; exact hs, he⟩
theorem g_callIN {idx : Nat} {host : String} {y : MethodName} {cc : ByteArray} {nL fr lo : Nat} {as : List Value} (hM : bM X.1 (y, cc, nL, none, [], fr, lo) w (.ref a :: as) Q) (hc : bOkc (y, cc, nL, none, [], fr, lo) as.length) (hr : bRm X (y, cc, nL, none, [], fr, lo)) (hd : decode (bcd X) pc = .ok (.invokespecial idx, 3)) (hp : pc + 3 = pc') (hy1 : y.name = "<init>") (hq1 : Cond.methodLinkNest (bown X) idx y host ∈ bNw) (hq2 : Cond.instanceMethod y ∈ lw_all) (hsl : (lg_sl (.ref a :: as)).length ≤ nL) (hrs : (rest.map fun v => v.category).sum ≤ 8)
    (kr : ∀ (v : Option Value) (w' : bWl), Q (.returned v) w' → bG X w' pc' L (v.toList ++ rest)) (kt : ∀ (a : Nat) (w' : bWl), Q (.threw a) w' → bT X w' pc L a) (hst : st = as.reverse ++ .ref a :: rest) : bG X w pc L st := by
  subst hp
  subst hst
  rintro ⟨p, l, e, R, s, m, args, below, meth, c⟩ hF hok H locs ls hH hlo hL
  obtain ⟨h1, h2, h3, h4, h5, h6, h7, h8, h9, h10, h11, h12, h13, h14, h15, h16⟩ := id hF
  intro T hT Y
  have hpl : e.platform.magicAccessors = ({} : Platform).magicAccessors := by rw [Y.admits.platform]
  obtain ⟨mk, methM, cM, kP, vm₁, hnamed, hmethM, hcodeM, -, hlocalsM, -, hkP, -, hW₁, hstep₁⟩ := Steps.initColdArgsNest (e := e) Y.here h1 Y.warmed hpl h7 hy1 hc.2.1 (va_Nw.use rfl (h10.2.1 _ hq1)) (h9 _ hq2) (h9 _ hc.2.2.2) (f := F0 m pc ls (as.reverse ++ .ref a :: rest)) rfl hc.len (rest := rest) rfl (by rw [h2]; exact hd)
  have X₁ := Y.noted hW₁
  obtain ⟨t, hs, he⟩ := b_call (pc' := pc + 3) hM hc.1 hc.2.2.2 hsl hr.1 hr.2 hrs kr kt hF hok hH hlo hL (T := T.setVm vm₁) hT X₁ hd hnamed
  exact ⟨t, hstep₁ _ fun acts => by rw [doInvoke_state]; exact hs, he⟩
/-- super.m(..) -/
theorem g_callU {idx ci N : Nat} {C : String} {T0 : u_T} {as : List Value} (hM : bM X.1 md w (.ref a :: as) Q) (hc : bOkc md as.length) (hr : bRm X md) (hd : decode (bcd X) pc = .ok (.invokespecial idx, 3)) (hp : pc + 3 = pc') (hci : bCl[ci]? = some (C, T0, N)) (hcw : hC w a = some ci) (hno : md.1.name ≠ "<init>") (hq1 : Cond.methodLink (bown X) idx md.1 ∈ lw_all) (hq2 : Cond.sameMethod md.1.cls md.1.cls md.1.name md.1.desc ∈ lw_all) (hq3 : Cond.superclass (bown X) md.1.cls ∈ lw_all) (hq4 : Cond.instanceMethod md.1 ∈ lw_all) (hsl : (lg_sl (.ref a :: as)).length ≤ md.2.2.1) (hrs : (rest.map fun v => v.category).sum ≤ 8)
    (kr : ∀ (v : Option Value) (w' : bWl), Q (.returned v) w' → bG X w' pc' L (v.toList ++ rest)) (kt : ∀ (a : Nat) (w' : bWl), Q (.threw a) w' → bT X w' pc L a) (hst : st = as.reverse ++ .ref a :: rest) : bG X w pc L st := by
  subst hp
  subst hst
  rintro ⟨p, l, e, R, s, m, args, below, meth, c⟩ hF hok H locs ls hH hlo hL
  obtain ⟨h1, h2, h3, h4, h5, h6, h7, h8, h9, h10, h11, h12, h13, h14, h15, h16⟩ := id hF
  intro T hT Y
  obtain ⟨fs, hfs⟩ := hC_spec hcw
  obtain ⟨-, r, hr0, cell, q1, q2, q3, q4⟩ := hH.2.2 a _ hfs
  obtain ⟨-, kC, hkC, -⟩ := (h10.1.1 ci _ hci).2
  obtain ⟨mk, methM, hn, hmM, hstM, habM⟩ := Cond.instanceMethod_spec (h9 _ hq4)
  obtain ⟨mk', methM', cM, hn', hmM', -, -, -, -, -, -, hsig⟩ := bCo_of (h9 _ hc.2.2.2)
  cases hn.symm.trans hn'
  cases hmM.symm.trans hmM'
  obtain ⟨ps, dk, kp, hps, hdk, hkp, hsuper, -, -, hnid⟩ := Cond.superclass_spec h7 (h9 _ hq3)
  have hn2 : s.methodNamed? ⟨md.1.cls, md.1.name, md.1.desc⟩ = some mk := hn
  have hpm : ps = mk.cls := Option.some.inj (hps.symm.trans (findClass_of_methodNamed hn))
  have hsub : s.vm.isSubclass ps mk.cls = true := by rw [hpm]; simp [Vm.isSubclass, Vm.isSubclassAux]
  obtain ⟨vm₁, X₁, hstep₁⟩ := Y.invokespecialUp h1 h7 (h9 _ hq1) (h9 _ hq2) hn2 hmM hstM habM hno hdk hnid hps hsuper hsub (a := a) (cell := cell) (by rw [hT]; exact q1) (fun z h => by rw [q3] at h; cases h) (by rw [q2]; exact hkC) (g := F0 m pc ls (as.reverse ++ .ref a :: rest)) rfl (argsL := as) (rest := rest) (hc.len _ hsig) rfl (by rw [h2]; exact hd)
  obtain ⟨t, hs, he⟩ := b_call (pc' := pc + 3) hM hc.1 hc.2.2.2 hsl hr.1 hr.2 hrs kr kt hF hok hH hlo hL (T := T.setVm vm₁) hT X₁ hd hn
  exact ⟨t, hstep₁ _ (by rw [doInvoke_state]; exact hs), he⟩
end CALLS
