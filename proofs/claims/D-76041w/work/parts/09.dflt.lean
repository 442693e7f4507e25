/-! A METHOD THAT LANDS IN AN INTERFACE'S DEFAULT: the word rides to warmed tables; what it gives; the lookup of a super call -/
set_option maxRecDepth 100000
theorem nd_any {vm vm' : Vm} (h : vm.Alike vm') (f : Class → Bool) (hf : ∀ k : Class, f k.bare = f k) (c : ClassId) : (vm'.classes[c]?).any f = (vm.classes[c]?).any f := by
  cases hk : vm.classes[c]? with
  | none => rw [h.none hk]
  | some k =>
    obtain ⟨k', hk', he⟩ := h.2.2 _ _ hk
    rw [hk']
    have e1 := hf k'
    rw [Class.bare_of he, hf k] at e1
    exact e1.symm
theorem nd_near {vm vm' : Vm} (h : vm.Alike vm') (c : ClassId) (name desc : String) : nearestHeld vm' c name desc = nearestHeld vm c name desc := by
  have e1 : superinterfaceMethods vm' = superinterfaceMethods vm := (superinterfaceMethods_bare vm').symm.trans (h.bare_eq ▸ superinterfaceMethods_bare vm)
  have e2 : maximallySpecific vm' = maximallySpecific vm := (maximallySpecific_bare vm').symm.trans (h.bare_eq ▸ maximallySpecific_bare vm)
  have e3 := nd_any h (·.isInterface) fun _ => rfl
  have e4 := nd_any h (fun x => x.methods.any fun m => !m.isAbstract && !m.isStatic) fun _ => rfl
  have e5 : ∀ (g : ClassId → Bool) (k : ClassId), (vm'.classes[k]?).any (·.interfaces.any g) = (vm.classes[k]?).any (·.interfaces.any g) := fun g => nd_any h _ fun _ => rfl
  simp only [nearestHeld, held, h.superclasses, h.declaredIn, h.superinterfaces, h.method?, e1, e2, e3, e4, e5]
/-- what the word says -/
theorem nd_spec {args : Array Value} {s : State} {cls : String} {x y : MethodName} (h : (Cond.landsInDefault cls x y).before args s = true) :
    ∃ (c : ClassId) (r m : MethodId) (rm : Method), s.vm.findClass cls = some c ∧ s.methodFound? x.cls x.name x.desc = some r ∧ s.methodNamed? y = some m ∧ s.vm.method? r = some rm ∧ selectMethod {} s.vm c r = .method m ∧ (∃ mk, s.vm.classes[m.cls]? = some mk ∧ mk.isInterface = true) ∧ rm.isPrivate = false ∧
      (∀ k d, nearestHeld s.vm c rm.name rm.desc = some (k, .default d) → d = m) ∧ ∀ k b, nearestHeld s.vm c rm.name rm.desc ≠ some (k, .thrower b) := by
  simp only [Cond.before, Cond.holds, Cond.value] at h
  cases hc : s.vm.findClass cls with
  | none => simp [hc] at h
  | some c =>
    cases hr : s.methodFound? x.cls x.name x.desc with
    | none => simp [hc, hr] at h
    | some r =>
      cases hm : s.methodNamed? y with
      | none => simp [hc, hr, hm] at h
      | some m =>
        cases hrm : s.vm.method? r with
        | none => simp [hc, hr, hm, hrm] at h
        | some rm =>
          simp only [hc, hr, hm, hrm, Option.map_some, beq_iff_eq, Option.some.injEq] at h
          split at h
          · rename_i m' hsel
            simp only [Bool.and_eq_true, decide_eq_true_eq, Bool.not_eq_true', Option.any_eq_true] at h
            obtain ⟨⟨⟨⟨h1, mk, h2, h3⟩, h4⟩, h5⟩, h6⟩ := h
            subst h1
            refine ⟨c, r, m', rm, rfl, rfl, rfl, hrm, hsel, ⟨mk, h2, h3⟩, h4, fun k d hk => ?_, fun k b hk => ?_⟩
            · rw [hk] at h6; simpa using h6
            · rw [hk] at h6; cases h6
          · cases h
theorem nd_warm {s U : State} {C own : String} {x y : MethodName} (hW : s.WarmedH U.vm) (hmh : x.cls ≠ "java/lang/invoke/MethodHandle" ∧ x.cls ≠ "java/lang/invoke/VarHandle") (hs : va_Nw (.sameMethod x.cls own x.name x.desc) s) (h : va_Nw (.landsInDefault C x y) s) : va_Nw (.landsInDefault C x y) U := by
  have al := hW.alike
  obtain ⟨c, k, r, hc, hk, hi, hf, hn⟩ := Cond.sameMethod_found hs
  obtain ⟨k0, hk0, hnm⟩ := Vm.findClass_spec hc
  cases hk.symm.trans hk0
  have hmf : (s.setVm U.vm).methodFound? x.cls x.name x.desc = s.methodFound? x.cls x.name x.desc := State.methodFound?_setVm_class al hc hk hi (signaturePolymorphic_of_name (by rw [hnm]; exact hmh)) _ _
  have e3 := nd_any al (·.isInterface) fun _ => rfl
  have e : (Cond.landsInDefault C x y).before #[] (s.setVm U.vm) = (Cond.landsInDefault C x y).before #[] s := by
    simp only [Cond.before, Cond.holds, Cond.value, State.vm_setVm, al.findClass, hmf, State.methodNamed?_setVm al, al.selectMethod, al.method?, al.superclasses, al.declaredIn, nd_near al, e3]
  have e2 : (Cond.landsInDefault C x y).before #[] U = (Cond.landsInDefault C x y).before #[] (s.setVm U.vm) := by
    simp only [Cond.before, Cond.holds, Cond.value]
    rfl
  exact e2.trans (e.trans h)
/-! the classes above a class, counted -/
def nd_it (vm : Vm) : Nat → ClassId → Option ClassId
  | 0, c => some c
  | n + 1, c => (vm.classes[c]?.bind (·.super)).bind (nd_it vm n)
theorem nd_add (vm : Vm) : ∀ (a b : Nat) (c : ClassId), nd_it vm (a + b) c = (nd_it vm a c).bind (nd_it vm b) := by
  intro a
  induction a with
  | zero => intro b c; rw [Nat.zero_add]; rfl
  | succ a ih =>
    intro b c
    rw [Nat.add_right_comm]
    show (vm.classes[c]?.bind (·.super)).bind (nd_it vm (a + b)) = ((vm.classes[c]?.bind (·.super)).bind (nd_it vm a)).bind (nd_it vm b)
    cases vm.classes[c]?.bind (·.super) with
    | none => rfl
    | some p => exact ih b p
theorem nd_mem (vm : Vm) : ∀ (F : Nat) (c p : ClassId), p ∈ vm.superclassesAux F c → ∃ k, nd_it vm k c = some p := by
  intro F
  induction F with
  | zero => intro c p h; cases h
  | succ F ih =>
    intro c p h
    unfold Vm.superclassesAux at h
    cases hs : vm.classes[c]?.bind (·.super) with
    | none => rw [hs] at h; cases h
    | some q =>
      rw [hs] at h
      rcases List.mem_cons.mp h with h | h
      · subst h; exact ⟨1, by show (vm.classes[c]?.bind (·.super)).bind (nd_it vm 0) = _; rw [hs]; rfl⟩
      · obtain ⟨k, hk⟩ := ih q p h
        exact ⟨k + 1, by show (vm.classes[c]?.bind (·.super)).bind (nd_it vm k) = _; rw [hs]; exact hk⟩
/-- a place that has one above it is in the table -/
theorem nd_lt (vm : Vm) {c q : ClassId} {i k : Nat} (hk : nd_it vm k c = some q) (hi : i < k) : ∃ p, nd_it vm i c = some p ∧ p < vm.classes.size := by
  have e : k = i + (1 + (k - i - 1)) := by omega
  rw [e, nd_add] at hk
  cases hp : nd_it vm i c with
  | none => rw [hp] at hk; cases hk
  | some p =>
    refine ⟨p, rfl, ?_⟩
    rw [hp] at hk
    rw [Option.bind_some, nd_add] at hk
    cases hc : vm.classes[p]? with
    | none =>
      have : nd_it vm 1 p = none := by show (vm.classes[p]?.bind (·.super)).bind _ = none; rw [hc]; rfl
      rw [this] at hk; cases hk
    | some kk => exact (Array.getElem?_eq_some_iff.mp hc).1
theorem nd_near_k (vm : Vm) (c p : ClassId) : ∀ (n k : Nat), k ≤ n → nd_it vm k c = some p → ∃ j, j ≤ vm.classes.size ∧ nd_it vm j c = some p := by
  intro n
  induction n with
  | zero => intro k hk h; exact ⟨k, by omega, h⟩
  | succ n ih =>
    intro k hk h
    by_cases hle : k ≤ vm.classes.size
    · exact ⟨k, hle, h⟩
    · obtain ⟨i, j, hij, hj, he⟩ := fb_twice (m := vm.classes.size) (n := vm.classes.size + 1) (f := fun i => (nd_it vm i c).getD 0) (fun i hi => by
        obtain ⟨q, hq, hlt⟩ := nd_lt vm h (i := i) (by omega)
        show (nd_it vm i c).getD 0 < _
        rw [hq]; exact hlt) (by omega)
      obtain ⟨qi, hqi, -⟩ := nd_lt vm h (i := i) (by omega)
      obtain ⟨qj, hqj, -⟩ := nd_lt vm h (i := j) (by omega)
      have he' : (nd_it vm i c).getD 0 = (nd_it vm j c).getD 0 := he
      rw [hqi, hqj] at he'
      have hq : qi = qj := he'
      refine ih (i + (k - j)) (by omega) ?_
      rw [nd_add, hqi, hq, ← hqj, ← nd_add, show j + (k - j) = k by omega]
      exact h
theorem nd_none (vm : Vm) (name desc : String) : ∀ (F : Nat) (c : ClassId), lookupInSuperclasses vm name desc F c = none → ∀ k, k < F → ∀ p, nd_it vm k c = some p → (vm.classes[p]?.bind (·.findMethod name desc)) = none := by
  intro F
  induction F with
  | zero => intro c h k hk; omega
  | succ F ih =>
    intro c h k hk p hp
    unfold lookupInSuperclasses at h
    cases hc : vm.classes[c]? with
    | none =>
      cases k with
      | zero => cases hp; rw [hc]; rfl
      | succ k =>
        have : nd_it vm (k + 1) c = none := by show (vm.classes[c]?.bind (·.super)).bind _ = none; rw [hc]; rfl
        rw [this] at hp; cases hp
    | some kc =>
      rw [hc] at h
      simp only [Option.bind_eq_bind, Option.bind_some] at h
      cases hf : kc.findMethod name desc with
      | some i => rw [hf] at h; cases h
      | none =>
        rw [hf] at h
        cases k with
        | zero => cases hp; rw [hc]; exact hf
        | succ k =>
          have hp' : (vm.classes[c]?.bind (·.super)).bind (nd_it vm k) = some p := hp
          rw [hc] at hp'
          cases hs : kc.super with
          | none => rw [Option.bind_some, hs] at hp'; cases hp'
          | some q =>
            rw [Option.bind_some, hs] at hp'
            have h' : kc.super.bind (lookupInSuperclasses vm name desc F) = none := h
            rw [hs] at h'
            exact ih q h' k (by omega) p hp'
theorem nd_all (vm : Vm) {name desc : String} {c : ClassId} (h : lookupInSuperclasses vm name desc (vm.classes.size + 1) c = none) {k : Nat} {p : ClassId} (hp : nd_it vm k c = some p) : (vm.classes[p]?.bind (·.findMethod name desc)) = none := by
  obtain ⟨j, hj, hq⟩ := nd_near_k vm c p k k (Nat.le_refl _) hp
  exact nd_none vm name desc _ c h j (by omega) p hq
theorem nd_sel (vm : Vm) (mR : MethodId) {name desc : String} : ∀ (F : Nat) (c : ClassId), (∀ k p, nd_it vm k c = some p → (vm.classes[p]?.bind (·.findMethod name desc)) = none) → selectInSuperclasses vm mR name desc F c = none := by
  intro F
  induction F with
  | zero => intro c h; rfl
  | succ F ih =>
    intro c h
    unfold selectInSuperclasses
    cases hc : vm.classes[c]? with
    | none => rfl
    | some kc =>
      have hf : kc.findMethod name desc = none := by
        have := h 0 c rfl
        rw [hc] at this
        exact this
      have hup : kc.super.bind (selectInSuperclasses vm mR name desc F) = none := by
        cases hs : kc.super with
        | none => rfl
        | some q => exact ih q fun k p hp => h (k + 1) p (by show (vm.classes[c]?.bind (·.super)).bind (nd_it vm k) = some p; rw [hc, Option.bind_some, hs]; exact hp)
      simp [hf, hup]
/-- a super call comes to the default as well -/
theorem nd_special {vm : Vm} {c : ClassId} {kc : Class} {name desc : String} {m : MethodId} {rm : Method} (hk : vm.classes[c]? = some kc) (hni : kc.isInterface = false) (hl : vm.lookupUp c name desc = some m) (hm : vm.method? m = some rm) (hst : rm.isStatic = false) (hpr : rm.isPrivate = false) (hn : rm.name = name) (hd : rm.desc = desc) (hif : ∃ mk, vm.classes[m.cls]? = some mk ∧ mk.isInterface = true) (hsel : selectMethod {} vm c m = .method m) : lookupSpecial vm c name desc = .method m := by
  cases hx : lookupInSuperclasses vm name desc (vm.classes.size + 1) c with
  | some x => exact lookupSpecial_of_lookupUp hk hni hl (by rw [hx]; rfl) hm hst
  | none =>
    have hall : ∀ k p, nd_it vm k c = some p → (vm.classes[p]?.bind (·.findMethod name desc)) = none := fun k p hp => nd_all vm hx hp
    have hsi := nd_sel vm m (vm.classes.size + 1) c hall
    obtain ⟨mk, hmk, hmi⟩ := hif
    have hown : (vm.classes[c]?.bind (·.findMethod name desc)) = none := hall 0 c rfl
    have habove : superclassMethods vm c name desc = [] := by
      unfold superclassMethods
      refine List.filterMap_eq_nil_iff.mpr fun p hp => ?_
      obtain ⟨k, hkp⟩ := nd_mem vm _ c p hp
      rw [hall k p hkp]; rfl
    unfold selectMethod at hsel
    rw [hm] at hsel
    simp only [hpr, Bool.false_eq_true, if_false, hmk, Option.any_some, hmi, Bool.not_true, Bool.and_false, hn, hd, hsi] at hsel
    unfold lookupSpecial
    simp only [hown, habove, Option.map_none, Option.toList_none, List.filter_nil, List.append_nil, List.find?_nil]
    split at hsel
    · cases hsel
    · exact hsel
