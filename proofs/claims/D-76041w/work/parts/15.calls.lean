/-! RETURNS, THROWS, CALLS -/
set_option maxRecDepth 100000
theorem W_mono {p : Program} {l : Launch} {e : Env} {R : Room} {s : State} {m : MethodId} {args : Array Value} {below : List Frame} {meth : Method} {c : Code} {H : Heap} {locs : List Loc} {cells slots : Nat} {Q Q' : State → Prop} {g : JFrame} (h : ∀ t, Q t → Q' t) (k : W p l e R s m args below meth c H locs cells slots Q g) : W p l e R s m args below meth c H locs cells slots Q' g := fun T hT X => by
  obtain ⟨t, a, b⟩ := k T hT X
  exact ⟨t, a, h t b⟩
/-- the end by a return -/
theorem bEnd_of {g : bGh} {md : bMD} {n0 u0 : Nat} {Q : Outcome → bWl → Prop} {p : Program} {l : Launch} {e : Env} {R : Room} {s : State} {m : MethodId} {args : Array Value} {below : List Frame} {meth : Method} {c : Code} {w : bWl} {H : Heap} {o0 : Outcome} (hH : bHo g w H) (hok : bOk (g, md, n0, u0, Q) w) (hq : Q o0 w) (t : State)
    (h : MQ below (fun _ _ o t => o = o0 ∧ t.heap = H) args s (w.2.1 - n0) (w.2.2.1 - u0) (fun q => g.2.2.1.size ≤ q) t) : bEnd (g, md, n0, u0, Q) (p, l, e, R, s, m, args, below, meth, c) t := by
  obtain ⟨o, hrun, hend, ⟨ho, hh⟩, L, ⟨-, hW, hs⟩, hfree⟩ := h
  subst ho
  exact ⟨o, w, L, hrun, hend, hW, hs, hfree, by rw [hh]; exact hH, hok, hq⟩
section RETS
variable {X : bCX} {w w' : bWl} {pc pc' : Nat} {L L' : List (Option Value)} {rest : List Value} {a : Nat}
theorem g_iret {v : Int32} {ty : FieldType} (hd : decode (bcd X) pc = .ok (.ireturn, 1)) (hr : X.2.1.2.2.2.1 = some ty) (hn : narrow ty (.int v) = .int v) (hq : X.2.2.2.2 (.returned (some (.int v))) w) : bG X w pc L [.int v] := by
  obtain ⟨g, ⟨y, cc, nL, ret, hh, fr, lo⟩, n0, u0, Q⟩ := X
  rintro ⟨p, l, e, R, s, m, args, below, meth, c⟩ hF hok H locs ls hH hlo hL
  obtain ⟨h1, h2, h3, h4, h5, h6, h7, h8, h9, h10, h11, h12, h13, h14, h15, h16⟩ := id hF
  exact W_mono (bEnd_of hH hok hq) (W.zret (Qc := fun _ _ o t => o = .returned (some (.int v)) ∧ t.heap = H) h1 h2 (h4.trans hr) hn (fun t ht _ => ⟨rfl, ht⟩) hlo hd h5)
theorem g_lret {v : Int64} (hd : decode (bcd X) pc = .ok (.lreturn, 1)) (hr : X.2.1.2.2.2.1 = some .long) (hq : X.2.2.2.2 (.returned (some (.long v))) w) : bG X w pc L [.long v] := by
  obtain ⟨g, ⟨y, cc, nL, ret, hh, fr, lo⟩, n0, u0, Q⟩ := X
  rintro ⟨p, l, e, R, s, m, args, below, meth, c⟩ hF hok H locs ls hH hlo hL
  obtain ⟨h1, h2, h3, h4, h5, h6, h7, h8, h9, h10, h11, h12, h13, h14, h15, h16⟩ := id hF
  exact W_mono (bEnd_of hH hok hq) (W.lret (Qc := fun _ _ o t => o = .returned (some (.long v)) ∧ t.heap = H) h1 h2 (h4.trans hr) (fun t ht _ => ⟨rfl, ht⟩) hlo hd h5)
theorem g_vret (hd : decode (bcd X) pc = .ok (.return_, 1)) (hr : X.2.1.2.2.2.1 = none) (hq : X.2.2.2.2 (.returned none) w) : bG X w pc L [] := by
  obtain ⟨g, ⟨y, cc, nL, ret, hh, fr, lo⟩, n0, u0, Q⟩ := X
  rintro ⟨p, l, e, R, s, m, args, below, meth, c⟩ hF hok H locs ls hH hlo hL
  obtain ⟨h1, h2, h3, h4, h5, h6, h7, h8, h9, h10, h11, h12, h13, h14, h15, h16⟩ := id hF
  exact W_mono (bEnd_of hH hok hq) (W.vret (Qc := fun _ _ o t => o = .returned none ∧ t.heap = H) h1 h2 (h4.trans hr) (fun t ht _ => ⟨rfl, ht⟩) hlo hd h5)
theorem g_aret {v : Value} {rt : FieldType} (hd : decode (bcd X) pc = .ok (.areturn, 1)) (hr : X.2.1.2.2.2.1 = some rt) (hrt : (∃ n, rt = .object n) ∨ ∃ t, rt = .array t) (hv : v = .null ∨ ∃ a, v = .ref a) (hq : X.2.2.2.2 (.returned (some v)) w) : bG X w pc L [v] := by
  obtain ⟨g, ⟨y, cc, nL, ret, hh, fr, lo⟩, n0, u0, Q⟩ := X
  rintro ⟨p, l, e, R, s, m, args, below, meth, c⟩ hF hok H locs ls hH hlo hL
  obtain ⟨h1, h2, h3, h4, h5, h6, h7, h8, h9, h10, h11, h12, h13, h14, h15, h16⟩ := id hF
  exact W_mono (bEnd_of hH hok hq) (W.aret (Qc := fun _ _ o t => o = .returned (some v) ∧ t.heap = H) h1 h2 (h4.trans hr) hrt hv (fun t ht _ => ⟨rfl, ht⟩) hlo hd h5)
theorem g_athrow (hd : decode (bcd X) pc = .ok (.athrow, 1)) (k : bT X w pc L a) : bG X w pc L (.ref a :: rest) := by
  obtain ⟨g, ⟨y, cc, nL, ret, hh, fr, lo⟩, n0, u0, Q⟩ := X
  rintro ⟨p, l, e, R, s, m, args, below, meth, c⟩ hF hok H locs ls hH hlo hL
  obtain ⟨h1, h2, h3, h4, h5, h6, h7, h8, h9, h10, h11, h12, h13, h14, h15, h16⟩ := id hF
  intro T hT Y
  obtain ⟨t, hs, he⟩ := k (p, l, e, R, s, m, args, below, meth, c) hF hok H locs ls rest hH hlo hL T hT Y
  refine ⟨t, ?_, he⟩
  have hd' : decode c.code pc = .ok (.athrow, 1) := by rw [h2]; exact hd
  jvm_step Y.here [h1, hd', athrow.wp_sem]
  exact hs
/-- a method without handlers is left -/
theorem t_leave (hh0 : X.2.1.2.2.2.2.1 = []) (hq : X.2.2.2.2 (.threw a) w) : bT X w pc L a := by
  obtain ⟨g, ⟨y, cc, nL, ret, hh, fr, lo⟩, n0, u0, Q⟩ := X
  rintro ⟨p, l, e, R, s, m, args, below, meth, c⟩ hF hok H locs ls st hH hlo hL
  obtain ⟨h1, h2, h3, h4, h5, h6, h7, h8, h9, h10, h11, h12, h13, h14, h15, h16⟩ := id hF
  intro T hT Y
  have hh0' : hh = [] := hh0
  obtain ⟨hwalk, hrun, hend, hW, hs⟩ := Y.leaveThrown a (g := F0 m pc ls st) rfl rfl rfl (by rw [h6, hh0']; intro x hx; cases hx) h5
  exact ⟨_, hwalk, .threw a, w, locs, hrun, hend, hW, hs, hlo, by show bHo g w T.heap; rw [hT]; exact hH, hok, hq⟩
end RETS
section CATCH
variable {e : Env} {s : State} {f : JFrame} {a : Addr}
theorem b_go_link {Q : Handler → Pre} {E : CtlPost} {d : Bool} {acts : List Action} {x : ExceptionTableEntry} {t : List ExceptionTableEntry} {c : ClassId} {cell : Cell} (hx : covers x f.pc = true) (h0 : x.catchType ≠ 0)
    (hl : s.vm.ClassLinks e.platform f.method.cls x.catchType c) (hcell : s.heap[a]? = some cell) (hobj : ∀ k, cell.vm ≠ .statics k)
    (hk : ∃ k, s.vm.classes[cell.cls]? = some k) (hc : ∃ k, s.vm.classes[c]? = some k) (hfit : s.vm.assignable cell.cls c = true) :
    wp (findHandler.go f a (x :: t)) Q E e d acts s ↔ Q (.found x.handlerPc) d acts (s.setVm (s.vm.noted f.method.cls x.catchType (.cls c))) := by
  simp only [covers] at hx
  obtain ⟨ha, ht⟩ := (resolveClass_links e.toSetting hl).op (op := VmOp.resolveClass f.method.cls x.catchType) rfl
  have hal : s.vm.Alike (s.vm.noted f.method.cls x.catchType (.cls c)) := (Vm.Alike.refl s.vm).noted _ _ _
  obtain ⟨k1, hk1⟩ := hk
  obtain ⟨k2, hk2⟩ := hc
  obtain ⟨k1', hk1', -⟩ := hal.2.2 _ _ hk1
  obtain ⟨k2', hk2', -⟩ := hal.2.2 _ _ hk2
  have hfit' : (s.vm.noted f.method.cls x.catchType (.cls c)).assignable cell.cls c = true := by rw [hal.assignable]; exact hfit
  simp [findHandler.go, hx, h0, ha, ht, hcell, hobj, hk1', hk2', hfit', VmOp.dirties, VmOp.acts]
/-- the search for a handler ends at the row x, and leaves warmer tables -/
theorem b_finds {meth : Method} {code : Code} (hm : s.vm.method? f.method = some meth) (hc : meth.code = some code) (pre rest : List ExceptionTableEntry) (x : ExceptionTableEntry) (hsplit : code.exceptionTable.toList = pre ++ x :: rest)
    (hskip : ∀ y ∈ pre, covers y f.pc = false) (hx : covers x f.pc = true) (h0 : x.catchType ≠ 0) {c : ClassId} {cell : Cell}
    (hl : s.vm.ClassLinks e.platform f.method.cls x.catchType c) (hcell : s.heap[a]? = some cell) (hobj : ∀ k, cell.vm ≠ .statics k)
    (hk : ∃ k, s.vm.classes[cell.cls]? = some k) (hcl : ∃ k, s.vm.classes[c]? = some k) (hfit : s.vm.assignable cell.cls c = true) (Q : Handler → Pre) (E : CtlPost) (d : Bool) (acts : List Action) :
    wp (findHandler f a) Q E e d acts s ↔ Q (.found x.handlerPc) d acts (s.setVm (s.vm.noted f.method.cls x.catchType (.cls c))) := by
  rw [W.findHandler_eq hm hc, hsplit]
  clear hsplit
  induction pre with
  | nil => exact b_go_link hx h0 hl hcell hobj hk hcl hfit
  | cons y ys ih =>
    rw [List.cons_append, W.findHandler_go_skip (hskip y (by simp))]
    exact ih (fun z hz => hskip z (List.mem_cons_of_mem _ hz))
end CATCH
