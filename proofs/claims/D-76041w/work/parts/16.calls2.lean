/-! CATCHING; CALLS -/
set_option maxRecDepth 100000
theorem b_stepCatch {e : Env} {s : State} {a : Addr} {f : JFrame} {r : List Frame} {pc : Nat} {vm' : Vm} (hfind : ∀ (Q : Handler → Pre) (E : CtlPost) (d : Bool) (acts : List Action), wp (findHandler f a) Q E e d acts s ↔ Q (.found pc) d acts (s.setVm vm')) :
    (stepThrowing e s a (.java f :: r)).Is ((s.setVm vm').setFrames (.java { f with pc := pc, stack := [.ref a] } :: r)) [] := by
  simp only [stepThrowing, searchFrame, vmDo]
  generalize hr : Sem.go _ e false [] s = res
  obtain ⟨as, rfl, ha⟩ := Sem.eq_ok_of hr (a := Handler.found pc) (s' := s.setVm vm') (acts' := []) (by simp [hfind _ _ _ _])
  exact ⟨rfl, ha⟩
theorem b_frames_vm (u : State) (vm' : Vm) (F G : List Frame) : ((u.setFrames F).setVm vm').setFrames G = (u.setVm vm').setFrames G := by
  have h1 : (u.setFrames F).setVm vm' = (u.setVm vm').setFrames F := rfl
  rw [h1, State.setFrames_setFrames]
theorem b_caught {tb : Tables} {e : Env} {s target : State} {g : JFrame} {c : Code} {below : List Frame} {a : Addr} (h : At s g.method c below) {pc : Nat} {vm' : Vm}
    (hfind : ∀ (Q : Handler → Pre) (E : CtlPost) (d : Bool) (acts : List Action), wp (findHandler g a) Q E e d acts ((s.setTop g).pushFrame (.throwing a)) ↔ Q (.found pc) d acts (((s.setTop g).pushFrame (.throwing a)).setVm vm'))
    (hrest : Steps tb e below ((s.setVm vm').setTop { g with pc := pc, stack := [.ref a] }) target) : Steps tb e below ((s.setTop g).pushFrame (.throwing a)) target := by
  obtain ⟨hgo, hw⟩ := h.throwing a
  refine Steps.head hgo hw ?_
  rw [stepThread_throwing (frames_entered h.top _), (b_stepCatch (s := (s.setTop g).pushFrame (.throwing a)) hfind).1]
  obtain ⟨g₀, hg⟩ := Option.isSome_iff_exists.mp h.top
  obtain ⟨r, hr⟩ := State.topJava?_eq_some.mp hg
  have hr' : (s.setVm vm').frames = .java g₀ :: r := hr
  rw [State.setTop_of_frames _ hr'] at hrest
  rw [hr, List.tail_cons, State.pushFrame, b_frames_vm, State.setTop_of_frames _ hr, b_frames_vm]
  exact hrest
theorem b_steps_weaken {tb : Tables} {e : Env} {x : Frame} {below : List Frame} {a b : State} (h : Steps tb e (x :: below) a b) : Steps tb e below a b := by
  obtain ⟨n, h1, h2⟩ := h
  exact ⟨n, h1, fun k hk => Within.weaken (mid := [x]) (h2 k hk)⟩
/-- where the handlers' table sends an exception thrown at pc: rows ahead that do not cover it, the row that does -/
def bHd (hh : List (Nat × Nat × Nat × Nat)) (pc : Nat) : Option (Nat × Nat) := match hh with
  | [] => none
  | (b, e, h, t) :: r => if b ≤ pc ∧ pc < e then some (h, t) else bHd r pc
theorem bHd_spec {pc h t : Nat} : ∀ (hh : List (Nat × Nat × Nat × Nat)), bHd hh pc = some (h, t) → ∃ (pre rest : List ExceptionTableEntry) (x : ExceptionTableEntry), tableOf hh = pre ++ x :: rest ∧ (∀ y ∈ pre, covers y pc = false) ∧ covers x pc = true ∧ x.handlerPc = h ∧ x.catchType = t := by
  intro hh
  induction hh with
  | nil => intro h1; simp [bHd] at h1
  | cons q r ih =>
    obtain ⟨b, e, h', t'⟩ := q
    intro h1
    unfold bHd at h1
    split at h1
    · rename_i hc
      cases h1
      exact ⟨[], tableOf r, ⟨b, e, h, t⟩, rfl, fun y hy => absurd hy List.not_mem_nil, (by simp [covers, hc.1, hc.2]), rfl, rfl⟩
    · rename_i hc
      obtain ⟨pre, rest, x, e1, e2, e3, e4, e5⟩ := ih h1
      refine ⟨⟨b, e, h', t'⟩ :: pre, rest, x, by show _ :: tableOf r = _; rw [e1]; rfl, fun y hy => ?_, e3, e4, e5⟩
      rcases List.mem_cons.mp hy with rfl | hy
      · have hz : ¬ (b ≤ pc ∧ pc < e) := hc
        by_cases q1 : b ≤ pc
        · have q2 : ¬ pc < e := fun q => hz ⟨q1, q⟩
          simp [covers, q2]
        · simp [covers, q1]
      · exact e2 y hy
section CATCH2
variable {X : bCX} {w w' : bWl} {pc pc' : Nat} {L L' : List (Option Value)} {rest : List Value} {a : Nat}
/-- an exception of just the class that the handler names is caught -/
theorem t_catch {h t ci N : Nat} {C : String} {T : u_T} (hh0 : bHd X.2.1.2.2.2.2.1 pc = some (h, t)) (h0 : t ≠ 0) (hq : Cond.classLink (bown X) t C ∈ lw_all) (hc : bCl[ci]? = some (C, T, N)) (ha : hC w a = some ci) (k : bG X w h L [.ref a]) : bT X w pc L a := by
  obtain ⟨g, ⟨y, cc, nL, ret, hh, fr, lo⟩, n0, u0, Q⟩ := X
  rintro ⟨p, l, e, R, s, m, args, below, meth, c⟩ hF hok H locs ls st hH hlo hL
  obtain ⟨h1, h2, h3, h4, h5, h6, h7, h8, h9, h10, h11, h12, h13, h14, h15, h16⟩ := id hF
  intro S hS Y
  obtain ⟨fs, hfs⟩ := hC_spec ha
  obtain ⟨-, r, hr0, cell, q1, q2, q3, q4⟩ := hH.2.2 a _ hfs
  have hcls := (h10.1.1 ci _ hc).2
  have hpl : e.platform.magicAccessors = ({} : Platform).magicAccessors := by rw [Y.admits.platform]
  obtain ⟨pre, rst, x, e1, e2, e3, e4, e5⟩ := bHd_spec hh hh0
  obtain ⟨c', hc', hcl⟩ := Cond.classLink_spec h7 (h9 _ hq) e.platform hpl
  have hcc : c' = g.1.1 ci := Option.some.inj (hc'.symm.trans hcls.1)
  subst hcc
  obtain ⟨kC, hkC, -⟩ := hcls.2
  obtain ⟨kC', hkC', -⟩ := Y.warmed.alike.2.2 _ _ hkC
  have hcl₀ : S.vm.ClassLinks e.platform m.cls x.catchType (g.1.1 ci) := by rw [e5]; exact Y.warmed.classLinks hcl
  have hfit : S.vm.assignable (g.1.1 ci) (g.1.1 ci) = true := by rw [Y.warmed.alike.assignable]; exact va_assign hcls
  have hsc : S.heap[a]? = some cell := by rw [hS]; exact q1
  have q2' : cell.cls = g.1.1 ci := q2
  have hf := b_finds (e := e) (s := (S.setTop (F0 m pc ls st)).pushFrame (.throwing a)) (f := F0 m pc ls st) (a := a) (meth := meth) (code := c) Y.method' Y.code pre rst x (h6.trans e1) e2 e3 (by rw [e5]; exact h0) (c := g.1.1 ci) (cell := cell) hcl₀ hsc (fun k hk => by rw [q3] at hk; cases hk) ⟨kC', by rw [q2']; exact hkC'⟩ ⟨kC', hkC'⟩ (by rw [q2']; exact hfit)
  obtain ⟨dk, _, _, kt, hdk, _, _, _, _, hkt, _, hopen⟩ := hcl.here
  have hW' := Y.warmed.noted hdk (by simpa using hopen) (State.rightAt_cls hcl)
  obtain ⟨t2, hs2, he2⟩ := k (p, l, e, R, s, m, args, below, meth, c) hF hok H locs ls hH hlo hL (S.setVm (S.vm.noted m.cls x.catchType (.cls (g.1.1 ci)))) hS (Y.noted (by rw [e5]; exact hW'))
  refine ⟨t2, b_caught Y.here hf ?_, he2⟩
  rw [e4]
  exact hs2
end CATCH2
