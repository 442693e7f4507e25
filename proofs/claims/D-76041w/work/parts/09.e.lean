/-! .. A VIRTUAL CALL THAT LANDS THERE -/
set_option maxRecDepth 100000
theorem nd_pick {e : Env} {d : Bool} {acts : List Action} {s : State} {E : CtlPost} {Q : Selection → Pre} {c : ClassId} {m : MethodId} {rm : Method} {mk : Class} (hsel : selectMethod e.platform s.vm c m = .method m) (hm : s.vm.method? m = some rm) (hmk : s.vm.classes[m.cls]? = some mk) (hif : mk.isInterface = true) (n1 : ∀ k d, nearestHeld s.vm c rm.name rm.desc = some (k, .default d) → d = m) (n2 : ∀ k b, nearestHeld s.vm c rm.name rm.desc ≠ some (k, .thrower b)) : wp (Jvm.Op.invokeinterface.selectVirtual c m) Q E e d acts s ↔ Q (.method m) d acts s := by
  by_cases hp : e.platform.privateHidesDefault = true
  · cases hn : nearestHeld s.vm c rm.name rm.desc with
    | none => simp [Jvm.Op.invokeinterface.selectVirtual, hm, Jvm.Op.selectFor_method hsel hm, hmk, hif, hp, hn]
    | some q =>
      obtain ⟨k, hd⟩ := q
      cases hd with
      | thrower b => exact absurd hn (n2 k b)
      | nothing => simp [Jvm.Op.invokeinterface.selectVirtual, hm, Jvm.Op.selectFor_method hsel hm, hmk, hif, hp, hn]
      | default x =>
        have := n1 k x hn
        subst this
        simp [Jvm.Op.invokeinterface.selectVirtual, hm, Jvm.Op.selectFor_method hsel hm, hmk, hif, hp, hn]
  · have hp' : e.platform.privateHidesDefault = false := by simpa using hp
    simp [Jvm.Op.invokeinterface.selectVirtual, hm, Jvm.Op.selectFor_method hsel hm, hmk, hif, hp']
/-- the instruction, all resolved -/
theorem nd_wp {Q : Unit → Pre} {E : CtlPost} {e : Env} {d : Bool} {acts : List Action} {s : State} {f : JFrame} {index a : Nat} {m : MethodId} {cn : ClassId} {kc kn mk : Class} {cf : ClassFile} {ci nt : Nat} {rm : Method} {rest : List Value} {cell : Cell}
    (hs : s.topJava?.isSome) (h1 : s.vm.classes[f.method.cls]? = some kc) (h2 : kc.cf = some cf) (h3 : cf.constantPool[index]? = some (.methodref ci nt)) (h4 : s.vm.classReady f.method.cls ci cn) (hkn : s.vm.classes[cn]? = some kn) (hni : kn.isInterface = false)
    (hr : s.vm.methodReady f.method.cls index m) (hmk : s.vm.classes[m.cls]? = some mk) (hm : s.vm.method? m = some rm) (hpoly : signaturePolymorphic mk rm = false) (hst : rm.isStatic = false) (habs : rm.isAbstract = false) (hlen : rm.sig.parameters = []) (hstack : f.stack = .ref a :: rest)
    (hcell : s.heap[a]? = some cell) (hobj : ∀ c, cell.vm ≠ .statics c) (hsel : selectMethod e.platform s.vm cell.cls m = .method m) (hif : mk.isInterface = true)
    (n1 : ∀ k d, nearestHeld s.vm cell.cls rm.name rm.desc = some (k, .default d) → d = m) (n2 : ∀ k b, nearestHeld s.vm cell.cls rm.name rm.desc ≠ some (k, .thrower b)) :
    wp (Jvm.Op.invokevirtual.sem index) Q E e d acts (s.setTop f) ↔ E (.invoke m #[.ref a]) acts (s.setTop { f with stack := rest }) := by
  have hpre : ∀ {Q' : ClassId → Pre}, wp (Jvm.refClassAt index) Q' E e d acts (s.setTop f) ↔ Q' cn d acts (s.setTop f) := by
    intro Q'
    simp [Jvm.refClassAt, Jvm.constantAt, State.method?_setTop f hs, h1, h2, h3, Jvm.W.resolveClassAt_ready (State.method?_setTop f hs) h4]
  have hstack' : f.stack = ([] : List Value).reverse ++ .ref a :: rest := hstack
  have hl0 : ([] : List Value).length = rm.sig.parameters.length := by rw [hlen]; rfl
  simp only [Jvm.Op.invokevirtual.sem, wp_bind', hpre, Jvm.W.theClass, State.vm_setTop, hkn, Option.some.injEq, exists_eq_left', Jvm.W.ite, hni, Bool.false_eq_true, if_false, wp_pure', Jvm.W.resolveMethodAt_ready (State.method?_setTop f hs) hr]
  simp only [Jvm.W.theMethod, State.vm_setTop, hm, Option.some.injEq, exists_eq_left', Seam.isPolymorphic, wp_bind', Jvm.W.theClass, hmk, wp_pure', hpoly, Jvm.W.ite, Bool.false_eq_true, if_false, hst, Jvm.popArgs, ← hl0, Jvm.Op.popN_top hs hstack']
  simp [hs, hcell, hobj, nd_pick (s := s.setTop _) (show selectMethod e.platform (s.setTop _).vm cell.cls m = .method m from hsel) hm hmk hif n1 n2, hm, habs]
/-- .. cold or warm, in a frame that stands -/
theorem nd_virt {p : Program} {l : Launch} {e : Env} {R : Room} {s : State} {m : MethodId} {args : Array Value} {below : List Frame} {meth : Method} {c : Code} {T : State} {locs : List Loc} {cells slots : Nat} (X : Stand p l e R s m args below meth c T locs cells slots) (hexec : p.tables.exec = Jvm.exec)
    {own owner : String} {index : Nat} {x : MethodName} (hown : s.vm.findClass own = some m.cls) (hlink : (Cond.methodLink own index x).before args s = true) (hsame : (Cond.sameMethod x.cls owner x.name x.desc).before args s = true) (howner : owner ≠ "java/lang/invoke/MethodHandle" ∧ owner ≠ "java/lang/invoke/VarHandle")
    {r : MethodId} {rm : Method} {mk : Class} (hn : s.methodNamed? ⟨owner, x.name, x.desc⟩ = some r) (hrm : s.vm.method? r = some rm) (hst : rm.isStatic = false) (habs : rm.isAbstract = false) (hlen : rm.sig.parameters = []) {a : Addr} {cell : Cell} (hcell : T.heap[a]? = some cell) (hobj : ∀ c, cell.vm ≠ .statics c)
    (hsel : selectMethod e.platform s.vm cell.cls r = .method r) (hmk : s.vm.classes[r.cls]? = some mk) (hif : mk.isInterface = true)
    (n1 : ∀ k d, nearestHeld s.vm cell.cls rm.name rm.desc = some (k, .default d) → d = r) (n2 : ∀ k b, nearestHeld s.vm cell.cls rm.name rm.desc ≠ some (k, .thrower b))
    {g : JFrame} (hg : g.method = m) {rest : List Value} (hstack : g.stack = .ref a :: rest) (hdg : decode c.code g.pc = .ok (.invokevirtual index, 3)) :
    ∃ vm', Stand p l e R s m args below meth c (T.setVm vm') locs cells slots ∧ ∀ target, (∀ acts, Steps p.tables e below (doInvoke e ((T.setVm vm').setTop { g with stack := rest }) acts r #[.ref a]).1 target) → Steps p.tables e below (T.setTop g) target := by
  obtain ⟨cn, kn, r1, hcn, hkn, hni, hf, hn1⟩ := Cond.sameMethod_found hsame
  cases hn.symm.trans hn1
  obtain ⟨ci, hl, hright⟩ := Cond.methodLink_specUp hown hcn hkn hni hf hlink e.platform (by rw [X.admits.platform]) (by rw [X.admits.platform])
  have hE : s.MethodEntryUp e T.vm m.cls index cn r ci := State.methodEntryUp X.warmed hl hright
  obtain ⟨kr, hkr, hnr⟩ := className_of_methodNamed hn
  cases hmk.symm.trans hkr
  obtain ⟨dk, cfile, nt, _, _, _, _, _, hd, hcf, hcp, -⟩ := hl.here
  have al := hE.warmed.alike
  obtain ⟨dk2, hdk2, hde⟩ := al.2.2 _ _ hd
  obtain ⟨kr2, hkr2, hre⟩ := al.2.2 _ _ hkr
  obtain ⟨kn2, hkn2, hne⟩ := al.2.2 _ _ hkn
  refine ⟨T.vm.calledUp m.cls ci index cn r, X.noted hE.warmed, fun target hrest => ?_⟩
  subst hg
  have key := fun (Q : Unit → Pre) (E : CtlPost) (d : Bool) (acts : List Action) => nd_wp (Q := Q) (E := E) (e := e) (d := d) (acts := acts) (s := T.setVm (T.vm.calledUp g.method.cls ci index cn r)) (f := g) (index := index) (a := a) (m := r) (cn := cn) (kc := dk2) (kn := kn2) (mk := kr2) (cf := cfile) (ci := ci) (nt := nt) (rm := rm) (rest := rest) (cell := cell)
    X.here.top hdk2 (by rw [hde]; exact hcf) hcp hE.classReady hkn2 (by rw [hne]; exact hni) hE.ready hkr2 (by show (T.vm.calledUp g.method.cls ci index cn r).method? r = some rm; rw [al.method?]; exact hrm)
    (by rw [hre]; show signaturePolymorphic mk rm = false; simp [signaturePolymorphic, hnr, howner.1, howner.2]) hst habs hlen hstack hcell hobj
    (by show selectMethod e.platform (T.vm.calledUp g.method.cls ci index cn r) cell.cls r = .method r; rw [al.selectMethod]; exact hsel) (by rw [hre]; exact hif)
    (fun k d hk => n1 k d ((nd_near al _ _ _).symm.trans hk)) (fun k b hk => n2 k b ((nd_near al _ _ _).symm.trans hk))
  jvm_step X.here [hexec, hdg, Jvm.Op.invokevirtual.wp_coldUp (e := e) (s := T) (s₀ := s) (f := g) X.here.top X.warmed hE hd hcf (Or.inl hcp) hkn hni, key]
  exact hrest
