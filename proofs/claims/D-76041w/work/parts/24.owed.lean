/-! ROWS OWED: the default method of an interface; String constants -/
set_option maxRecDepth 100000
section OWED
variable {X : bCX} {w w' : bWl} {pc pc' : Nat} {L L' : List (Option Value)} {st rest : List Value} {a : Nat} {md : bMD} {Q : Outcome → bWl → Prop}
/-- a final method of a rumour's, whatever its kind -/
theorem g_callVR {idx : Nat} {as : List Value} (hM : bM X.1 md w (.ref a :: as) Q) (hc : bOkc md as.length) (hr : bRm X md) (hd : decode (bcd X) pc = .ok (.invokevirtual idx, 3)) (hp : pc + 3 = pc') (h : ∃ c, hC w a = some c ∧ (c = 5 ∨ c = 6 ∨ c = 7 ∨ c = 8 ∨ c = 9 ∨ c = 10)) (hxc : md.1.cls ≠ "java/lang/invoke/MethodHandle" ∧ md.1.cls ≠ "java/lang/invoke/VarHandle") (hq1 : Cond.methodLink (bown X) idx md.1 ∈ lw_all) (hq2 : Cond.instanceMethod md.1 ∈ lw_all) (s5 : Cond.selects RX5 md.1 md.1 ∈ lw_all) (s6 : Cond.selects RX6 md.1 md.1 ∈ lw_all) (s7 : Cond.selects RX7 md.1 md.1 ∈ lw_all) (s8 : Cond.selects RX8 md.1 md.1 ∈ lw_all) (s9 : Cond.selects RX9 md.1 md.1 ∈ lw_all) (s10 : Cond.selects RX10 md.1 md.1 ∈ lw_all) (hsl : (lg_sl (.ref a :: as)).length ≤ md.2.2.1) (hrs : (rest.map fun v => v.category).sum ≤ 8)
    (kr : ∀ (v : Option Value) (w' : bWl), Q (.returned v) w' → bG X w' pc' L (v.toList ++ rest)) (kt : ∀ (a : Nat) (w' : bWl), Q (.threw a) w' → bT X w' pc L a) (hst : st = as.reverse ++ .ref a :: rest) : bG X w pc L st := by
  obtain ⟨c, hcw, hcs⟩ := h
  rcases hcs with rfl | rfl | rfl | rfl | rfl | rfl
  · exact g_callV (mx := md) (ci := 5) hM hc hr hd hp rfl hcw hxc hc.2.2.2 rfl hq1 hq2 s5 s5 hq2 hsl hrs kr kt hst
  · exact g_callV (mx := md) (ci := 6) hM hc hr hd hp rfl hcw hxc hc.2.2.2 rfl hq1 hq2 s5 s6 hq2 hsl hrs kr kt hst
  · exact g_callV (mx := md) (ci := 7) hM hc hr hd hp rfl hcw hxc hc.2.2.2 rfl hq1 hq2 s5 s7 hq2 hsl hrs kr kt hst
  · exact g_callV (mx := md) (ci := 8) hM hc hr hd hp rfl hcw hxc hc.2.2.2 rfl hq1 hq2 s5 s8 hq2 hsl hrs kr kt hst
  · exact g_callV (mx := md) (ci := 9) hM hc hr hd hp rfl hcw hxc hc.2.2.2 rfl hq1 hq2 s5 s9 hq2 hsl hrs kr kt hst
  · exact g_callV (mx := md) (ci := 10) hM hc hr hd hp rfl hcw hxc hc.2.2.2 rfl hq1 hq2 s5 s10 hq2 hsl hrs kr kt hst
theorem g_callUR {idx : Nat} {as : List Value} (hM : bM X.1 md w (.ref a :: as) Q) (hc : bOkc md as.length) (hr : bRm X md) (hd : decode (bcd X) pc = .ok (.invokespecial idx, 3)) (hp : pc + 3 = pc') (h : ∃ c, hC w a = some c ∧ (c = 5 ∨ c = 6 ∨ c = 7 ∨ c = 8 ∨ c = 9 ∨ c = 10)) (hno : md.1.name ≠ "<init>") (hq1 : Cond.methodLink (bown X) idx md.1 ∈ lw_all) (hq2 : Cond.sameMethod md.1.cls md.1.cls md.1.name md.1.desc ∈ lw_all) (hq3 : Cond.superclass (bown X) md.1.cls ∈ lw_all) (hq4 : Cond.instanceMethod md.1 ∈ lw_all) (hsl : (lg_sl (.ref a :: as)).length ≤ md.2.2.1) (hrs : (rest.map fun v => v.category).sum ≤ 8)
    (kr : ∀ (v : Option Value) (w' : bWl), Q (.returned v) w' → bG X w' pc' L (v.toList ++ rest)) (kt : ∀ (a : Nat) (w' : bWl), Q (.threw a) w' → bT X w' pc L a) (hst : st = as.reverse ++ .ref a :: rest) : bG X w pc L st := by
  obtain ⟨c, hcw, hcs⟩ := h
  rcases hcs with rfl | rfl | rfl | rfl | rfl | rfl
  · exact g_callU (ci := 5) hM hc hr hd hp rfl hcw hno hq1 hq2 hq3 hq4 hsl hrs kr kt hst
  · exact g_callU (ci := 6) hM hc hr hd hp rfl hcw hno hq1 hq2 hq3 hq4 hsl hrs kr kt hst
  · exact g_callU (ci := 7) hM hc hr hd hp rfl hcw hno hq1 hq2 hq3 hq4 hsl hrs kr kt hst
  · exact g_callU (ci := 8) hM hc hr hd hp rfl hcw hno hq1 hq2 hq3 hq4 hsl hrs kr kt hst
  · exact g_callU (ci := 9) hM hc hr hd hp rfl hcw hno hq1 hq2 hq3 hq4 hsl hrs kr kt hst
  · exact g_callU (ci := 10) hM hc hr hd hp rfl hcw hno hq1 hq2 hq3 hq4 hsl hrs kr kt hst
/-- the String constants -/
def strLen (i : Nat) : Option Int32 := if i < 14 then some (nI (bSn.getD i 0)) else none
def strAt (i : Nat) (k : Int32) : Option Int32 := if i < 14 ∧ ¬ (k < 0 ∨ bSn.getD i 0 ≤ k.toNatClampNeg) then some ((bSb.getD i []).getD k.toNatClampNeg 0) else none
theorem g_ldcS {i idx : Nat} (hd : decode (bcd X) pc = .ok (.ldc idx, 2)) (hp : pc + 2 = pc') (hi : i < 14) (hx : bSi.getD i 0 = idx) (hw : bown X = "RumourBeds$Reader") (k : bG X w pc' L (.ref (X.1.2.2.2.2.1 i) :: rest)) : bG X w pc L rest := sorry
theorem g_strLen {i idx : Nat} {v : Int32} (hd : decode (bcd X) pc = .ok (.invokevirtual idx, 3)) (hp : pc + 3 = pc') (hq : Cond.methodLink (bown X) idx ⟨"java/lang/String", "length", "()I"⟩ ∈ lw_all) (hr : 6 ≤ X.2.1.2.2.2.2.2.1 ∧ 150 ≤ X.2.1.2.2.2.2.2.2) (hv : strLen i = some v) (hrs : (rest.map fun v => v.category).sum ≤ 8) (k : bG X w pc' L (.int v :: rest)) : bG X w pc L (.ref (X.1.2.2.2.2.1 i) :: rest) := sorry
theorem g_strAt {i idx : Nat} {j v : Int32} (hd : decode (bcd X) pc = .ok (.invokevirtual idx, 3)) (hp : pc + 3 = pc') (hq : Cond.methodLink (bown X) idx ⟨"java/lang/String", "charAt", "(I)C"⟩ ∈ lw_all) (hr : 6 ≤ X.2.1.2.2.2.2.2.1 ∧ 150 ≤ X.2.1.2.2.2.2.2.2) (hv : strAt i j = some v) (hrs : (rest.map fun v => v.category).sum ≤ 8) (k : bG X w pc' L (.int v :: rest)) : bG X w pc L (.int j :: .ref (X.1.2.2.2.2.1 i) :: rest) := sorry
end OWED
def mdX13_needs : bMD := (yX13_needs, cX13_needs, 1, (some .int), [], 1, 12)
theorem oX13_needs : bOkc mdX13_needs 0 := ⟨by decide +kernel, ⟨by decide +kernel, by decide +kernel⟩, by decide +kernel, q463⟩
def fX13_needs (_ : bWl) (_ : Nat) : Option Int32 := some 3
theorem wX13_needs (g : bGh) (w : bWl) (a0 : Nat) {r : Int32} (hf : fX13_needs w a0 = some r) : bM g mdX13_needs w [.ref a0] (q_ (eI r) w) := by
  unfold fX13_needs at hf
  change bG _ _ 0 [some (.ref a0)] []
  refine g_iconst (pc' := 1) (v := 3) dX13_needs_0 rfl (by decide) ?_
  obtain rfl := Option.some.inj hf
  exact g_iret dX13_needs_1 rfl rfl ⟨rfl, rfl⟩
/-- super.needs() in a kind under Rumour: the interface's default -/
theorem g_needsU {X : bCX} {w : bWl} {pc pc' : Nat} {L : List (Option Value)} {rest : List Value} {a idx : Nat} {r : Int32} (hd : decode (bcd X) pc = .ok (.invokespecial idx, 3)) (hp : pc + 3 = pc') (hq : Cond.methodLink (bown X) idx ⟨"RumourBeds$Rumour", "needs", "()I"⟩ ∈ bNd) (hsup : Cond.superclass (bown X) "RumourBeds$Rumour" ∈ lw_all) (h : ∃ c, hC w a = some c ∧ (c = 5 ∨ c = 6 ∨ c = 7 ∨ c = 8 ∨ c = 9 ∨ c = 10)) (hr : bRm X mdX13_needs) (hv : fX13_needs w a = some r) (hrs : (rest.map fun v => v.category).sum ≤ 8) (k : bG X w pc' L (.int r :: rest)) : bG X w pc L (.ref a :: rest) := sorry
/-- r.needs(), r of a kind that says it itself -/
theorem g_needsV {X : bCX} {w : bWl} {pc pc' : Nat} {L : List (Option Value)} {rest : List Value} {a idx ci N : Nat} {C : String} {T0 : u_T} {r : Int32} {md : bMD} (hM : bM X.1 md w [.ref a] (q_ (eI r) w)) (hc : bOkc md 0) (hr : bRm X md) (hd : decode (bcd X) pc = .ok (.invokevirtual idx, 3)) (hp : pc + 3 = pc') (hci : bCl[ci]? = some (C, T0, N)) (hcw : hC w a = some ci) (hq : Cond.methodLink (bown X) idx ⟨"RumourBeds$Rumour", "needs", "()I"⟩ ∈ bNd) (hq4 : Cond.selects C ⟨"RumourBeds$Needs", "needs", "()I"⟩ md.1 ∈ lw_all) (hq5 : Cond.instanceMethod md.1 ∈ lw_all) (hxd : md.1.desc = "()I") (hsl : (lg_sl [.ref a]).length ≤ md.2.2.1) (hrs : (rest.map fun v => v.category).sum ≤ 8) (k : bG X w pc' L (.int r :: rest)) : bG X w pc L (.ref a :: rest) := sorry
/-- .. r of the plain kind: the interface's default -/
theorem g_needsD {X : bCX} {w : bWl} {pc pc' : Nat} {L : List (Option Value)} {rest : List Value} {a idx : Nat} {r : Int32} (hM : bM X.1 mdX13_needs w [.ref a] (q_ (eI r) w)) (hr : bRm X mdX13_needs) (hd : decode (bcd X) pc = .ok (.invokevirtual idx, 3)) (hp : pc + 3 = pc') (hcw : hC w a = some 5) (hq : Cond.methodLink (bown X) idx ⟨"RumourBeds$Rumour", "needs", "()I"⟩ ∈ bNd) (hrs : (rest.map fun v => v.category).sum ≤ 8) (k : bG X w pc' L (.int r :: rest)) : bG X w pc L (.ref a :: rest) := sorry
