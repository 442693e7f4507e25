/-! THE CLAIM OUT OF ONE WALK OF THE LAW'S BODY (the kit's own end, with two facts more at the entry) -/
set_option maxRecDepth 100000
def R_law : String := "RumourBedsLaw"
def lw_P (b : Addr) (xs : List Int32) (args : Array Value) (s : State) : Prop := args = #[.ref b] ∧ s.IntsAt b xs ∧ xs.length ≤ 384 ∧ (Jvm.Cond.and given_1 narrow_1).before args s = true
def lw_Q (_ : Array Value) (s : State) (o : Outcome) (t : State) : Prop := o = .returned (some (.int 1)) ∧ Framed s o t [] 734565 6892410
def lw_Z (below : List Frame) (a : Array Value) (s : State) : State → Prop := fun t => ∃ o, t.status = .running ∧ Ended t below o ∧ lw_Q a s o t
def lw_At (p : Program) (s : State) (m : MethodId) (meth : Method) (c : Code) (b L : Nat) (xs : Nat → Int32) : Prop :=
  p.tables.exec = Jvm.exec ∧ c.code = code ∧ meth.sig.returnType = ret ∧ c.maxLocals = 4 ∧ s.vm.findClass R_law = some m.cls ∧ (∀ w ∈ lw_tbl, w.before #[Value.ref b] s = true) ∧ va_X b L xs s s.heap ∧ b < s.heap.size ∧ meth.locks = false ∧ (Jvm.Cond.and given_1 narrow_1).before #[Value.ref b] s = true ∧ c.exceptionTable.isEmpty = true ∧ meth.name = "law"
/-- the machine's facts, and the script -/
theorem st_all {s : State} {b L : Nat} {xs : Nat → Int32} (hts : ∀ w ∈ lw_tbl, w.before #[Value.ref b] s = true) (hX : va_X b L xs s s.heap) (hbl : b < s.heap.size) (hgv : (Jvm.Cond.and given_1 narrow_1).before #[Value.ref b] s = true) :
    ∃ g : bGh, g.2.2.1 = s.heap ∧ g.2.2.2.1 = (s.heap.size + 734565, 6892410) ∧ bSt g s ∧ scrAt g b L xs := by
  have hfl : ∀ w ∈ st_fl, w.before #[Value.ref b] s = true := flat_of_before _ hgv
  have h9 : ∀ w ∈ lw_all, w.before #[Value.ref b] s = true := fun w hw => hts w (lw_all_tbl hw)
  obtain ⟨D, hD⟩ := Classical.axiomOfChoice (st_kn h9)
  obtain ⟨c0, a0, b0⟩ := st_arr (h9 _ q134) (fun C h => by cases h)
  obtain ⟨c1, a1, b1⟩ := st_arr (h9 _ q199) (fun C h => by cases h)
  obtain ⟨c2, a2, b2⟩ := st_arr (h9 _ q996) (fun C h => by cases h)
  obtain ⟨c3, a3, b3⟩ := st_arr (h9 _ q997) (fun C h => by cases h)
  obtain ⟨c4, a4, b4⟩ := st_slot (hts _ q123)
  obtain ⟨scr, x1, x2, x3, x4, x5⟩ := hX
  have hA : ∀ a : Nat, a < s.heap.size → ¬ s.heap.size ≤ a := fun a h => Nat.not_le.mpr h
  have hS : ∀ i : Nat, ∃ q : Nat × Nat, i < 14 → (st_tm i).eval #[Value.ref b] s none [] s = some (.ref q.1) ∧ va_O "java/lang/String" q.1 (fun q => s.heap.size ≤ q) s s.heap ∧ va_OF "java/lang/String" "coder" "B" (.int 0) q.1 (fun q => s.heap.size ≤ q) s s.heap ∧ va_OF "java/lang/String" "value" "[B" (.ref q.2) q.1 (fun q => s.heap.size ≤ q) s s.heap ∧ va_T .byte q.2 (bSn.getD i 0) (fun j => .int ((bSb.getD i []).getD j 0)) (fun q => s.heap.size ≤ q) s s.heap := by
    intro i
    by_cases hi : i < 14
    · obtain ⟨a, c, cA, kA, z1, z2, z3, z4, z5, z6, -⟩ := Cond.exactly_spec (args := #[Value.ref b]) (first := s) (o := none) (s := s) (idx := []) (t := st_tm i) (cls := "java/lang/String") (hfl _ (st_w1 i hi))
      obtain ⟨t, ht, hT⟩ := va_Tof (f := fun j => .int ((bSb.getD i []).getD j 0)) (A := fun q => s.heap.size ≤ q) (show bSn.getD i 0 < 2 ^ 31 from st_n i hi) (hfl _ (st_w3 i hi)) (va_eqt (hfl _ (st_w4 i hi))) (fun j hj => va_eqt (hfl _ (st_w5 i hi j hj))) hA
      exact ⟨(a, t), fun _ => ⟨z1, ⟨cA, z3, z5, by rw [z6]; exact z2, hA a (Array.getElem?_eq_some_iff.mp z3).1⟩, vk_OFof z1 (va_eqt (hfl _ (st_w2 i hi))) hA, vk_OFof z1 ht hA, hT⟩⟩
    · exact ⟨(0, 0), fun h => absurd h hi⟩
  obtain ⟨ad, had⟩ := Classical.axiomOfChoice hS
  refine ⟨((fun c => (D c).1, fun c => (D c).2), (fun k => match k with | 0 => c0 | 1 => c1 | 2 => c2 | 3 => c3 | 4 => c4 | _ => scr.cls), s.heap, (s.heap.size + 734565, 6892410), (fun i => (ad i).1), fun i => (ad i).2), rfl, rfl, ?_, ?_⟩
  · refine ⟨⟨fun c q hq => hD c q hq, fun k q hk => ?_⟩, fun w hw => ?_, va_AO.of (hts _ q123), fun w hw => ?_, ?_, ?_, ?_, ?_, ?_⟩
    · match k, hk with
      | 0, hk => cases hk; exact ⟨a0, b0⟩
      | 1, hk => cases hk; exact ⟨a1, b1⟩
      | 2, hk => cases hk; exact ⟨a2, b2⟩
      | 3, hk => cases hk; exact ⟨a3, b3⟩
      | 4, hk => cases hk; exact ⟨a4, b4⟩
      | k + 5, hk => exact absurd (List.getElem?_eq_some_iff.mp hk).1 (by simp [bTy])
    · have h1 := hts w (st_w8 w hw)
      simp only [bNw, List.mem_cons, List.not_mem_nil, or_false] at hw
      rcases hw with e | e | e | e | e | e | e | e | e | e | e | e | e | e | e | e | e | e | e | e | e | e | e | e <;> subst e <;> exact va_Nw.of rfl h1
    · have h1 := hfl w (st_w7 w hw)
      simp only [bNd, List.mem_cons, List.not_mem_nil, or_false] at hw
      rcases hw with e | e | e | e | e | e | e <;> subst e <;> first | exact va_Nw.of rfl h1 | exact h1
    · exact ⟨va_Nc.of (hfl _ st_c1), va_Nc.of (hfl _ st_c2), va_Nc.of (hfl _ st_c3), va_Nc.of (hfl _ st_c4)⟩
    · exact ⟨va_Zqof (hts _ q246) (h9 _ q87) (hfl _ st_s1) hA, va_Zqof (hts _ q248) (h9 _ q87) (hfl _ st_s2) hA, va_Zqof (hts _ q859) (h9 _ q102) (hfl _ st_s3) hA, va_Zof (hts _ q843) (h9 _ q100) (va_eqt (hfl _ st_s4)) hA⟩
    · exact ⟨fun i hi => (had i hi).2, trivial⟩
    · exact fun i hi => vk_R.of (hts _ (st_sref hi)) (had i hi).1
    · obtain ⟨kk, hk, comp, hc⟩ := x2.2
      exact fun N z => ⟨(fun k h => by cases h), kk, hk, comp, hc⟩
  · exact ⟨hbl, scr, x1, rfl, x2.1, x3, x4, x5⟩
/-- from the entry, for every script of at most 384 ints, the law comes to its end with true -/
theorem whole_start {p : Program} {e : Env} {s : State} {m : MethodId} {below : List Frame} {meth : Method} {c : Code} (l : Launch) {b L : Nat} {xs : Nat → Int32} (hL : L ≤ 384) (C0 : lw_At p s m meth c b L xs) : W p l e room_1 s m #[Value.ref b] below meth c s.heap [] 0 0 (lw_Z below #[Value.ref b] s) (entryFrame m ([Value.ref b] : List Value).toArray 4) := by
  obtain ⟨hexec, hcode, hret, hml, hown, hts, hX, hbl, hlocks, hgv, hex, hnm⟩ := C0
  obtain ⟨g, hg1, hg2, hst, hscr⟩ := st_all hts hX hbl hgv
  obtain ⟨xa, A, LR, w1, w2, w3, w4, e1, e2, e3, e4, hA, hr, r1, r2, r3⟩ := pure_all s.heap.size
  obtain ⟨ls, hls, hLH⟩ := bAr_entry m [Value.ref b] (n := 4) (Nat.le_of_ble_eq_true rfl)
  have key : bG (g, mdL, s.heap.size, 0, fun o _ => o = .returned (some (.int 1))) (fun _ => none, s.heap.size, 0, s.heap.size + 734565, 6892410) 0 [some (.ref b)] [] := by
    refine law_start e1 e2 e3 e4 ?_
    exact law_loop hA hscr hL r1 r2 r3 (fun _ _ _ => rfl) 64 w4 0 (by omega) (by omega) hr
  have hbo := key (p, l, e, room_1, s, m, #[Value.ref b], below, meth, c) ⟨hexec, hcode, hml, hret, hlocks, by
      show c.exceptionTable.toList = []
      rw [Array.isEmpty_iff.mp hex], hown, hnm, fun w hw => hts w (lw_all_tbl hw), hst, Nat.le_refl 14, Nat.le_refl 530, by rw [hg2]; show s.heap.size + 734565 - s.heap.size ≤ 734565; omega, by rw [hg2]; exact Nat.le_refl _, rfl, by rw [hg1]; exact Nat.le_refl _⟩
    ⟨Nat.le_refl _, Nat.le_refl _, by rw [hg2]; exact Nat.le_add_right _ _, Nat.zero_le _, by rw [hg2]⟩ s.heap [] ls ⟨rfl, fun q _ => by rw [hg1], fun a e h => by cases h⟩ (fun q h => by cases h) hLH
  intro T hT X
  rw [hls]
  have hz1 : s.heap.size - s.heap.size = 0 := Nat.sub_self _
  have hbo' : W p l e room_1 s m #[Value.ref b] below meth c s.heap [] (s.heap.size - s.heap.size) (0 - 0) (bEnd (g, mdL, s.heap.size, 0, fun o _ => o = .returned (some (.int 1))) (p, l, e, room_1, s, m, #[Value.ref b], below, meth, c)) (F0 m 0 ls []) := hbo
  rw [hz1] at hbo'
  obtain ⟨t, ht, o, w, Ls, k1, k2, k3, k4, k5, k6, k7, k8⟩ := hbo' T hT X
  refine ⟨t, ht, o, k1, k2, k8, ⟨_, k8⟩, k3, k4.weaken (fun x hx hlt => ?_) ?_ ?_⟩
  · exact absurd hlt (Nat.not_lt.mpr (by have := k5 x hx; rw [hg1] at this; exact this))
  · have := k7.2.2.1
    rw [hg2] at this
    have h2 : w.2.1 ≤ s.heap.size + 734565 := this
    omega
  · have := k7.2.2.2.1
    rw [hg2] at this
    have h2 : w.2.2.1 ≤ 6892410 := this
    omega
set_option maxHeartbeats 4000000 in
theorem lw_walk (l : Launch) (b : Addr) (xs : List Int32) : MetFree l x (headSpec (Jvm.Cond.code x code maxLocals ret :: tables_1) room_1) (lw_P b xs) (fun _ _ _ _ _ => True) lw_Q := by
  refine MetFree.of_bodyS (code := code) (maxLocals := maxLocals) (ret := ret) (by decide) ?_ ?_
  · intro args s m h hn
    obtain ⟨meth, c, h1, h2, h3, h4, h5, h6, -, -⟩ := Cond.code_spec hn (atoms_spec (ws := Jvm.Cond.code x code maxLocals ret :: tables_1) h _ List.mem_cons_self)
    exact ⟨meth, c, h1, h2, h3, h4, h5, h6⟩
  · intro p e s m args below meth c s₁ B hml0 hP _
    obtain ⟨rfl, hx, hbd, hgv⟩ := hP
    obtain ⟨scr, harrAt, hlist, hof, hsmall⟩ := hx
    obtain ⟨hcb, hkn, -, -⟩ := State.arrayAt?_spec harrAt
    have hown : s.vm.findClass R_law = some m.cls := findClass_of_methodNamed B.named
    have hts0 : ∀ c ∈ (Jvm.Cond.code x code maxLocals ret :: tables_1), c.before #[Value.ref b] s = true := atoms_spec (ws := Jvm.Cond.code x code maxLocals ret :: tables_1) B.pre
    have hts : ∀ w ∈ lw_tbl, w.before #[Value.ref b] s = true := k2_hts_sels lw_privs (fun w hw => hts0 w (List.mem_cons_of_mem _ hw)) lw_privs_ok
    have hml : c.maxLocals = 4 := B.maxLocals_eq (hts0 _ List.mem_cons_self)
    have X₀ : Stand p l e room_1 s m #[Value.ref b] below meth c s₁ [] 0 0 := Stand.of_body B
    obtain ⟨methC, cC, g1, g2, -, -, -, -, g7, -⟩ := Cond.code_spec B.named (hts0 _ List.mem_cons_self)
    cases g1.symm.trans B.method
    have hexc : c.exceptionTable.isEmpty = true := by
      have e1 : s₁.code? m = some c := B.here.code
      have e2 : s₁.vm.method? m = some meth := by rw [B.state]; exact B.method
      have e3 : cC = c := by
        obtain ⟨kk, u1, u2⟩ : ∃ k, s₁.vm.classes[m.cls]? = some k ∧ k.methods[m.idx]? = some meth := by simpa [Vm.method?, Option.bind_eq_some_iff] using e2
        simp only [State.code?, u1, u2, Option.bind_eq_bind, Option.bind_some, g2] at e1
        exact Option.some.inj e1
      rw [← e3]
      exact g7
    have hname : meth.name = "law" := (name_of_methodNamed B.named B.method).1
    have hh0 : s₁.heap = s.heap := by rw [B.state]; rfl
    have hsz : scr.slots.size = xs.length := by rw [← Array.length_toList, hlist, List.length_map]
    have hval : ∀ j : Nat, j < xs.length → scr.slots[j]? = some (.int (xs.getD j 0)) := fun j hj => by
      rw [← Array.getElem?_toList, hlist]
      simp [hj]
    have hbl : b < s.heap.size := (Array.getElem?_eq_some_iff.mp hcb).1
    have hX : va_X b xs.length (fun j => xs.getD j 0) s s.heap := ⟨scr, hcb, hof, hkn, hsz, hval⟩
    have K : W p l e room_1 s m #[Value.ref b] below meth c s₁.heap [] 0 0 (lw_Z below #[Value.ref b] s) (entryFrame m ([Value.ref b] : List Value).toArray 4) := by
      rw [hh0]
      exact whole_start l hbd ⟨B.exec, B.bytes, B.returns, hml, hown, hts, hX, hbl, B.notSynchronized, hgv, hexc, hname⟩
    obtain ⟨t, a1, o, b1, b2, b3⟩ := K s₁ rfl X₀
    exact ⟨t, o, a1, b1, b2, b3⟩
theorem lw_pre_spec {args : Array Value} {s : State} (h : (Jvm.Cond.and given_1 narrow_1).before args s = true) (hr : rest_1_c.before args s = true) : ∃ (b : Addr) (xs : List Int32), lw_P b xs args s := by
  have hs := flat_of_before _ h
  have hq := flat_of_before _ hr
  have hc : (Cond.count 1).before args s = true := hs _ (by decide +kernel)
  have harr : (Cond.arrayOf (.arg 0) .int).before args s = true := hs _ (by decide +kernel)
  have hle : (Cond.le (.length (.arg 0)) (.int 384)).before args s = true := hs _ (by decide +kernel)
  have hlen : (Cond.isInt (.length (.arg 0))).before args s = true := hq _ (by decide +kernel)
  have hall : (Cond.all (.arg 0) (.isInt (.elem (.arg 0) (.index 0)))).before args s = true := hq _ (by decide +kernel)
  obtain ⟨b, xs, hb, hx⟩ := State.ints_of_pre rfl harr hlen hall
  have hsm : xs.length < 2 ^ 31 := hx.choose_spec.2.2.2
  have hev : (Term.length (.arg 0)).eval args s none [] s = some (.int xs.length.toInt32) := hx.length_eval hb
  have hv := Cond.le_ints hev (show (Term.int 384).eval args s none [] s = some (.int 384) from rfl)
  have hd : xs.length.toInt32 ≤ 384 := by
    simpa [Cond.before, Cond.holds, hv] using hle
  have hN : xs.length ≤ 384 := (Int32.ofNat_le_ofNat hsm (by decide)).mp (show Int32.ofNat xs.length ≤ Int32.ofNat 384 from hd)
  exact ⟨b, xs, Cond.one_arg hc (show args[0]? = some (.ref b) from hb), hx, hN, h⟩
theorem lw_comes (l : Launch) : Comes l x (Jvm.Cond.code x code maxLocals ret :: tables_1) room_1 (fun tb e args s => Calls_1 tb e args s ∧ rest_1 tb e args s ∧ Pre_1 tb e args s)
    (fun _ _ args s o t => lw_Q args s o t) := by
  intro p e ha hc hk s m args below hf hfit hheap happ hpre
  obtain ⟨b, xs, hP⟩ := lw_pre_spec hpre.2.2 hpre.2.1
  obtain ⟨k, o, h1, h2, h3, hQ⟩ := lw_walk l b xs p e ha hc hk s m args below hf ((Spec.applies_iff_loose hf).mp happ).1 hP trivial
  exact ⟨k, o, h1, h2, h3, hQ⟩
theorem lw_frame {s t : State} {o : Outcome} {args : Array Value} (h : Framed s o t [] 734565 6892410) :
    Framed s o t (fieldLocs frame_1_writes args s ++ arrayLocs frame_1_arrays args s ++ staticLocs frame_1_statics s) 734565 6892410 := h
theorem lw_limb (L : Cond) (hL : ∀ (args : Array Value) (s t : State), L.after args s (.returned (some (.int 1))) t = true) :
    ArmFor flags0 classFile x code maxLocals ret World_1 tables_1 room_1 Calls_1 rest_1 Pre_1
      (fun tb e a s o t => postC L tb e a s o t ∧ Framed s o t (fieldLocs frame_1_writes a s ++ arrayLocs frame_1_arrays a s ++ staticLocs frame_1_statics s) 734565 6892410) := by
  intro l _ _ _ p e ha hc hk s m args below hf hfit hheap happ hpre
  obtain ⟨k, o, h1, h2, h3, rfl, hF⟩ := lw_comes l p e ha hc hk s m args below hf hfit hheap happ hpre
  exact ⟨k, _, h1, h2, h3, hL args s _, lw_frame hF⟩
theorem i_vc : Claimed_1_1 ∧ Claimed_1_2 := ⟨lw_limb limb_1_1 (fun args s t => by simp [limb_1_1, Cond.after, Cond.holds, Cond.value]), lw_limb limb_1_2 (fun args s t => Cond.after_iff.mpr (by
  first | (rw [show limb_1_2 = Cond.eq .result (.int 1) from rfl, Cond.eq_ints (x := 1) (y := 1) rfl rfl]; simp; done) | (simp [limb_1_2, Cond.value, Term.eval]; done)))⟩
