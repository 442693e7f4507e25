/-! CALLS: the callee's walk inside the caller's -/
set_option maxRecDepth 100000
/-- the locals at a method's entry -/
def bAr (vs : List Value) : List (Option Value) := vs.flatMap fun v => if v.category = 2 then [some v, none] else [some v]
/-- a callee's contract -/
abbrev bM (g : bGh) (md : bMD) (w : bWl) (as : List Value) (Q : Outcome → bWl → Prop) : Prop := bG (g, md, w.2.1, w.2.2.1, Q) w 0 (bAr as) []
theorem bAr_args (vs : List Value) : ∀ (pre : List (Option Value)) (i : Nat) (v : Value), (pre ++ bAr vs)[i]? = some (some v) → pre.length ≤ i → (i, v) ∈ lv_args pre.length vs := by
  induction vs with
  | nil =>
    intro pre i v h hi
    rw [show bAr [] = [] from rfl, List.append_nil] at h
    exact absurd (List.getElem?_eq_some_iff.mp h).1 (by omega)
  | cons x t ih =>
    intro pre i v h hi
    have hb : bAr (x :: t) = (if x.category = 2 then [some x, none] else [some x]) ++ bAr t := rfl
    rw [hb] at h
    unfold lv_args
    by_cases hc : x.category = 2
    · rw [if_pos hc] at h
      rw [if_pos hc]
      by_cases h0 : i = pre.length
      · subst h0
        simp at h
        subst h
        exact List.mem_cons_self
      · by_cases h1 : i = pre.length + 1
        · subst h1
          simp at h
        · have := ih (pre ++ [some x, none]) i v (by simpa using h) (by simp; omega)
          simp at this
          exact List.mem_cons_of_mem _ this
    · rw [if_neg hc] at h
      rw [if_neg hc]
      by_cases h0 : i = pre.length
      · subst h0
        simp at h
        subst h
        exact List.mem_cons_self
      · have := ih (pre ++ [some x]) i v (by simpa using h) (by simp; omega)
        simp at this
        exact List.mem_cons_of_mem _ this
theorem bAr_entry (m : MethodId) (vs : List Value) {n : Nat} (h : (lg_sl vs).length ≤ n) : ∃ ls : Array Slot, entryFrame m vs.toArray n = F0 m 0 ls [] ∧ bLH ls n (bAr vs) := by
  refine ⟨_, lg_entry_eq m vs n, ?_⟩
  have he := lv_entry vs h
  exact ⟨he.1, he.2.1, fun i v hi => he.2.2 (i, v) (by simpa using bAr_args vs [] i v (by simpa using hi) (by simp))⟩
/-- what the tables say of a method: its code -/
def bCo (md : bMD) (s : State) : Prop := ∃ (mk : MethodId) (meth : Method) (c : Code), s.methodNamed? md.1 = some mk ∧ s.vm.method? mk = some meth ∧ meth.code = some c ∧ c.code = md.2.1 ∧ c.maxLocals = md.2.2.1 ∧ c.exceptionTable.toList = tableOf md.2.2.2.2.1 ∧ meth.sig.returnType = md.2.2.2.1 ∧ meth.locks = false ∧ parseMethodDescriptor md.1.desc = some meth.sig
/-- .. told by a word of the tables -/
def bWd (md : bMD) : Cond := match md.2.2.2.2.1 with
  | [] => .code md.1 md.2.1 md.2.2.1 md.2.2.2.1
  | hh => .codeWith md.1 md.2.1 md.2.2.1 md.2.2.2.1 hh
theorem bCo_of {md : bMD} {args : Array Value} {s : State} (h : (bWd md).before args s = true) : bCo md s := by
  unfold bWd at h
  split at h
  · rename_i hh
    obtain ⟨mk, hn⟩ := Cond.code_named h
    obtain ⟨meth, c, h1, h2, h3, h4, h5, h6, h7, h8⟩ := Cond.code_spec hn h
    refine ⟨mk, meth, c, hn, h1, h2, h3, h4, ?_, h5, h6, h8⟩
    rw [hh]
    have h9 : c.exceptionTable = #[] := Array.isEmpty_iff.mp h7
    rw [h9]
    rfl
  · obtain ⟨mk, meth, c, hn, h1, h2, h3, h4, h5, h6, h7, h8⟩ := Cond.codeWith_spec h
    exact ⟨mk, meth, c, hn, h1, h2, h3, h4, by rw [← h5]; exact (table_eq _).symm, h6, h7, h8⟩
theorem b_word {s U : State} {args a' : Array Value} (hW : s.WarmedH U.vm) (h9 : ∀ w ∈ lw_all, w.before args s = true) : ∀ w ∈ lw_all, w.before a' U = true := fun w hw => word_at hW (lw_self w hw).2 (h9 w hw)
/-- THE CALL, behind the invoking instruction's own part: the callee's walk, then what follows -/
theorem b_call {X : bCX} {w : bWl} {pc pc' : Nat} {L : List (Option Value)} {rest : List Value} {md : bMD} {as : List Value} {Q : Outcome → bWl → Prop} (hM : bM X.1 md w as Q) (hpl : plainFor md.1 = true) (hco : bWd md ∈ lw_all) (hsl : (lg_sl as).length ≤ md.2.2.1) (hfr : md.2.2.2.2.2.1 + 1 ≤ X.2.1.2.2.2.2.2.1) (hlo : 8 + (md.2.2.1 + 11) + md.2.2.2.2.2.2 ≤ X.2.1.2.2.2.2.2.2) (hrs : (rest.map fun v => v.category).sum ≤ 8)
    (kr : ∀ (v : Option Value) (w' : bWl), Q (.returned v) w' → bG X w' (pc + 3) L (v.toList ++ rest)) (kt : ∀ (a : Nat) (w' : bWl), Q (.threw a) w' → bT X w' pc L a)
    {p : Program} {l : Launch} {e : Env} {R : Room} {s : State} {m : MethodId} {args : Array Value} {below : List Frame} {meth : Method} {c : Code} (hF : bFx X (p, l, e, R, s, m, args, below, meth, c)) (hok : bOk X w) {H : Heap} {locs : List Loc} {ls : Array Slot} (hH : bHo X.1 w H) (hloc : ∀ q ∈ locs, X.1.2.2.1.size ≤ q.base) (hL : bLH ls X.2.1.2.2.1 L)
    {T : State} (hT : T.heap = H) (Y : Stand p l e R s m args below meth c T locs (w.2.1 - X.2.2.1) (w.2.2.1 - X.2.2.2.1)) {ig : Instr} (hd : decode (bcd X) pc = .ok (ig, 3)) {mk : MethodId} (hmk : s.methodNamed? md.1 = some mk) :
    ∃ t, Steps p.tables e below (doInvoke e (T.setTop (F0 m pc ls rest)) [] mk as.toArray).1 t ∧ bEnd X (p, l, e, R, s, m, args, below, meth, c) t := by
  obtain ⟨g, ⟨y, cc, nL, ret, hh, fr, lo⟩, n0, u0, Q0⟩ := X
  obtain ⟨y', cc', nL', ret', hh', fr', lo'⟩ := md
  obtain ⟨h1, h2, h3, h4, h5, h6, h7, h8, h9, h10, h11, h12, h13, h14, h15, h16⟩ := id hF
  obtain ⟨k1, k2, k3, k4, k5⟩ := id hok
  have k1' : n0 ≤ w.2.1 := k1
  have k2' : u0 ≤ w.2.2.1 := k2
  have k3' : w.2.1 ≤ g.2.2.2.1.1 := k3
  have k4' : w.2.2.1 ≤ g.2.2.2.1.2 := k4
  have hfr' : fr' + 1 ≤ fr := hfr
  have hlo' : 8 + (nL' + 11) + lo' ≤ lo := hlo
  have hd' : decode c.code (F0 m pc ls rest).pc = .ok (ig, 3) := by rw [h2]; exact hd
  obtain ⟨mk', methM, cM, hn, hmM, hcM, e1, e2, e3, e4, e5, e6⟩ := bCo_of (h9 _ hco)
  cases hn.symm.trans hmk
  have hmT : T.vm.method? mk = some methM := by rw [Y.warmed.alike.method?]; exact hmM
  have hnT : T.methodNamed? y' = some mk := Y.named hn
  have hpk : T.plainMethod mk := State.plainMethod.of_named hpl hnT hmT
  obtain ⟨Y₀, hin⟩ := Y.into (g := F0 m pc ls rest) rfl (hL.1.trans h3.symm) hd' as.toArray (R' := { frames := R.frames - 1, cells := R.cells - (w.2.1 - n0), slots := R.slots - (w.2.2.1 - u0), locals := R.locals - (8 + (nL' + 11)) }) hmT hcM e5 hpk (by show R.frames - 1 + 1 ≤ R.frames; omega) (by rw [e2]; show 2 * 0 + _ + (nL' + 11) + (R.locals - (8 + (nL' + 11))) ≤ R.locals; have : (rest.map fun v => v.category).sum ≤ 8 := hrs; have hx : (F0 m pc ls rest).stack = rest := rfl; rw [hx]; omega) (by show w.2.1 - n0 + (R.cells - (w.2.1 - n0)) ≤ R.cells; omega) (by show w.2.2.1 - u0 + (R.slots - (w.2.2.1 - u0)) ≤ R.slots; omega)
  have hW1 : s.WarmedH (T.calling (F0 m pc ls rest) mk as.toArray).vm := Y.warmed
  obtain ⟨ls', hent, hLH⟩ := bAr_entry mk as (n := nL') hsl
  have hM' := hM (p, l, e, { frames := R.frames - 1, cells := R.cells - (w.2.1 - n0), slots := R.slots - (w.2.2.1 - u0), locals := R.locals - (8 + (nL' + 11)) }, T.calling (F0 m pc ls rest) mk as.toArray, mk, as.toArray, .java (F0 m pc ls rest) :: below, methM, cM)
    ⟨h1, e1, e2, e4, e5, e3, findClass_of_methodNamed (s := T.calling (F0 m pc ls rest) mk as.toArray) hnT, (name_of_methodNamed hn hmM).1, b_word hW1 h9, h10.moved hW1, by show fr' ≤ R.frames - 1; omega, by show lo' ≤ R.locals - (8 + (nL' + 11)); omega, by show g.2.2.2.1.1 - w.2.1 ≤ R.cells - (w.2.1 - n0); omega, by show g.2.2.2.1.2 - w.2.2.1 ≤ R.slots - (w.2.2.1 - u0); omega, by show T.heap.size = w.2.1; rw [hT]; exact hH.1, Nat.le_trans h16 k1'⟩
    ⟨Nat.le_refl _, Nat.le_refl _, k3, k4, k5⟩ H [] ls' hH (fun q hq => by cases hq) hLH
  have hM2 : W p l e { frames := R.frames - 1, cells := R.cells - (w.2.1 - n0), slots := R.slots - (w.2.2.1 - u0), locals := R.locals - (8 + (nL' + 11)) } (T.calling (F0 m pc ls rest) mk as.toArray) mk as.toArray (.java (F0 m pc ls rest) :: below) methM cM H [] 0 0 (bEnd (g, (y', cc', nL', ret', hh', fr', lo'), w.2.1, w.2.2.1, Q) (p, l, e, { frames := R.frames - 1, cells := R.cells - (w.2.1 - n0), slots := R.slots - (w.2.2.1 - u0), locals := R.locals - (8 + (nL' + 11)) }, T.calling (F0 m pc ls rest) mk as.toArray, mk, as.toArray, .java (F0 m pc ls rest) :: below, methM, cM)) (F0 mk 0 ls' []) := W_cs (Nat.sub_self _).symm (Nat.sub_self _).symm hM'
  have hheap0 : ((T.setTop (F0 m pc ls rest)).pushFrame (.java (entryFrame mk as.toArray cM.maxLocals))).heap = H := by rw [← hT]; rfl
  obtain ⟨t, hst, o, w', LL, hrun, hend, hWt, hsame, hLL, hHo', ⟨j1, j2, j3, j4, j5⟩, hQ⟩ := hM2 _ hheap0 Y₀
  have hst' : Steps p.tables e below (doInvoke e (T.setTop (F0 m pc ls rest)) [] mk as.toArray).1 t := by
    rw [hin []]
    rw [e2, hent]
    rw [e2, hent] at hst
    exact b_steps_weaken hst
  have hok2 : bOk (g, (y, cc, nL, ret, hh, fr, lo), n0, u0, Q0) w' := ⟨Nat.le_trans k1' j1, Nat.le_trans k2' j2, j3, j4, j5⟩
  have hlocs2 : ∀ q ∈ locs ++ LL, g.2.2.1.size ≤ q.base := fun q hq => by
    rcases List.mem_append.mp hq with h | h
    · exact hloc q h
    · exact hLL q h
  have ec : w.2.1 - n0 + (w'.2.1 - w.2.1) = w'.2.1 - n0 := by omega
  have es : w.2.2.1 - u0 + (w'.2.2.1 - w.2.2.1) = w'.2.2.1 - u0 := by omega
  cases o with
  | returned v =>
    obtain ⟨T2, Y2, -, -, ht⟩ := Y.outOf (g := F0 m pc ls rest) rfl hd' hend hWt hsame
    have Y3 : Stand p l e R s m args below meth c T2 (locs ++ LL) (w'.2.1 - n0) (w'.2.2.1 - u0) := by rw [← ec, ← es]; exact Y2
    have hT2 : T2.heap = t.heap := by rw [ht]; simp [State.setTop, State.modifyTopJava]
    obtain ⟨t2, s2, q2⟩ := kr v w' hQ (p, l, e, R, s, m, args, below, meth, c) hF hok2 T2.heap (locs ++ LL) ls (by rw [hT2]; exact hHo') hlocs2 hL T2 rfl Y3
    refine ⟨t2, hst'.trans ?_, q2⟩
    rw [ht]
    exact s2
  | threw x =>
    obtain ⟨T2, Y2, -, -, ht⟩ := Y.outOfThrown (g := F0 m pc ls rest) rfl hend hWt hsame
    have Y3 : Stand p l e R s m args below meth c T2 (locs ++ LL) (w'.2.1 - n0) (w'.2.2.1 - u0) := by rw [← ec, ← es]; exact Y2
    have hT2 : T2.heap = t.heap := by rw [ht, Stand.throwing_heap]
    obtain ⟨t2, s2, q2⟩ := kt x w' hQ (p, l, e, R, s, m, args, below, meth, c) hF hok2 T2.heap (locs ++ LL) ls rest (by rw [hT2]; exact hHo') hlocs2 hL T2 rfl Y3
    refine ⟨t2, hst'.trans ?_, q2⟩
    rw [ht]
    exact s2
