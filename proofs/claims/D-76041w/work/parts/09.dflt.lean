/-! A METHOD THAT LANDS IN AN INTERFACE'S DEFAULT: the word rides to warmed tables; what it gives; the lookup of a super call -/
set_option maxRecDepth 100000
theorem nd_any {vm vm' : Vm} (h : vm.Alike vm') (f : Class → Bool) (hf : ∀ k : Class, f k.bare = f k) (c : ClassId) : (vm'.classes[c]?).any f = (vm.classes[c]?).any f := by
  cases hk : vm.classes[c]? with
  | none => rw [h.none hk]
  | some k =>
    obtain ⟨k', hk', he⟩ := h.2.2 _ _ hk
    rw [hk']
    have e1 := hf k'
    rw [Class.bare_of he, hf k] at e1
    exact e1.symm
theorem nd_near {vm vm' : Vm} (h : vm.Alike vm') (c : ClassId) (name desc : String) : nearestHeld vm' c name desc = nearestHeld vm c name desc := by
  have e1 : superinterfaceMethods vm' = superinterfaceMethods vm := (superinterfaceMethods_bare vm').symm.trans (h.bare_eq ▸ superinterfaceMethods_bare vm)
  have e2 : maximallySpecific vm' = maximallySpecific vm := (maximallySpecific_bare vm').symm.trans (h.bare_eq ▸ maximallySpecific_bare vm)
  have e3 := nd_any h (·.isInterface) fun _ => rfl
  have e4 := nd_any h (fun x => x.methods.any fun m => !m.isAbstract && !m.isStatic) fun _ => rfl
  have e5 : ∀ (g : ClassId → Bool) (k : ClassId), (vm'.classes[k]?).any (·.interfaces.any g) = (vm.classes[k]?).any (·.interfaces.any g) := fun g => nd_any h _ fun _ => rfl
  simp only [nearestHeld, held, h.superclasses, h.declaredIn, h.superinterfaces, h.method?, e1, e2, e3, e4, e5]
/-- what the word says -/
theorem nd_spec {args : Array Value} {s : State} {cls : String} {x y : MethodName} (h : (Cond.landsInDefault cls x y).before args s = true) :
    ∃ (c : ClassId) (r m : MethodId) (rm : Method), s.vm.findClass cls = some c ∧ s.methodFound? x.cls x.name x.desc = some r ∧ s.methodNamed? y = some m ∧ s.vm.method? r = some rm ∧ selectMethod {} s.vm c r = .method m ∧ (∃ mk, s.vm.classes[m.cls]? = some mk ∧ mk.isInterface = true) ∧ rm.isPrivate = false ∧
      (∀ k d, nearestHeld s.vm c rm.name rm.desc = some (k, .default d) → d = m) ∧ ∀ k b, nearestHeld s.vm c rm.name rm.desc ≠ some (k, .thrower b) := by
  simp only [Cond.before, Cond.holds, Cond.value] at h
  cases hc : s.vm.findClass cls with
  | none => simp [hc] at h
  | some c =>
    cases hr : s.methodFound? x.cls x.name x.desc with
    | none => simp [hc, hr] at h
    | some r =>
      cases hm : s.methodNamed? y with
      | none => simp [hc, hr, hm] at h
      | some m =>
        cases hrm : s.vm.method? r with
        | none => simp [hc, hr, hm, hrm] at h
        | some rm =>
          simp only [hc, hr, hm, hrm, Option.map_some, beq_iff_eq, Option.some.injEq] at h
          split at h
          · rename_i m' hsel
            simp only [Bool.and_eq_true, decide_eq_true_eq, Bool.not_eq_true', Option.any_eq_true] at h
            obtain ⟨⟨⟨⟨h1, mk, h2, h3⟩, h4⟩, h5⟩, h6⟩ := h
            subst h1
            refine ⟨c, r, m', rm, rfl, rfl, rfl, hrm, hsel, ⟨mk, h2, h3⟩, h4, fun k d hk => ?_, fun k b hk => ?_⟩
            · rw [hk] at h6; simpa using h6
            · rw [hk] at h6; cases h6
          · cases h
