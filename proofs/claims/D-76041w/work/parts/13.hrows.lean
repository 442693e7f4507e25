/-! HEAP ROWS -/
set_option maxRecDepth 100000
def okc (n : Nat) : Nat → Bool := fun c => c == n
def okRu : Nat → Bool := fun c => Nat.ble 5 c && Nat.ble c 10
def okTh : Nat → Bool := fun c => c == 4 || c == 12
theorem okc_eq {n c : Nat} (h : okc n c = true) : c = n := by simpa [okc] using h
theorem okRu_eq {c : Nat} (h : okRu c = true) : c = 5 ∨ c = 6 ∨ c = 7 ∨ c = 8 ∨ c = 9 ∨ c = 10 := by
  simp [okRu] at h
  omega
theorem okTh_eq {c : Nat} (h : okTh c = true) : c = 4 ∨ c = 12 := by simpa [okTh] using h
/-- every class that 'ok' allows has the field tk at its place k -/
def bFok (ok : Nat → Bool) (k : Nat) (tk : String × String × String × Bool) : Prop := ∀ c, ok c = true → ∃ (C : String) (T : u_T) (N : Nat) (ty : Nat → FieldType), bCl[c]? = some (C, T, N) ∧ k < N ∧ (∀ w ∈ u_ws C T N, w ∈ lw_all) ∧ (∀ k, k < N → parseFieldDescriptor (T k).2.2.1 = some (ty k)) ∧ (∀ a, a < N → ∀ b, b < N → a ≠ b → (T a).2.1 ≠ (T b).2.1) ∧ T k = tk
def bSame (D ref nm ds : String) : Prop := D = ref ∨ Cond.sameField ref D nm ds ∈ lw_all
theorem bSame.use {D ref nm ds : String} {args : Array Value} {s : State} (h : bSame D ref nm ds) (h9 : ∀ w ∈ lw_all, w.before args s = true) (x : ClassId × Class × Nat × Field) (ho : s.fieldFound? D nm ds = some x) : s.fieldFound? ref nm ds = some x := by
  rcases h with rfl | h
  · exact ho
  · exact u_same (h9 _ h) x ho
theorem bE_obj (g : bGh) (o : Nat × List Value) : bE g (.inr o) = .inr o := rfl
section HROWS
variable {X : bCX} {w w' : bWl} {pc pc' : Nat} {L L' : List (Option Value)} {rest : List Value} {a : Nat}
theorem g_get {ok : Nat → Bool} {k idx : Nat} {D ref nm ds : String} {fin : Bool} {v : Value} (hfo : bFok ok k (D, nm, ds, fin)) (hs : bSame D ref nm ds) (hd : decode (bcd X) pc = .ok (.getfield idx, 3)) (hp : pc + 3 = pc') (hq : Cond.fieldLink (bown X) idx ref nm ds ∈ lw_all) (hv : hF w ok a k = some v) (kk : bG X w pc' L (v :: rest)) : bG X w pc L (.ref a :: rest) := by
  subst hp
  obtain ⟨g, ⟨y, cc, nL, ret, hh, fr, lo⟩, n0, u0, Q⟩ := X
  rintro ⟨p, l, e, R, s, m, args, below, meth, c⟩ hF hok H locs ls hH hlo hL
  obtain ⟨h1, h2, h3, h4, h5, h6, h7, h8, h9, h10, h11, h12, h13, h14, h15, h16⟩ := id hF
  obtain ⟨ci, fs, ha, hci, hk⟩ := hF_spec hv
  obtain ⟨C, T, N, ty, q1, q2, q3, q4, q5, q6⟩ := hfo ci hci
  refine va_get (C := C) (T := T) (N := N) (ci := ci) (ref := ref) (index := idx) h1 h2 h9 q3 h7 h10.1 (bP1 hH ha) 0 rfl q1 k q2 (by rw [q6]; exact h9 _ hq) (by rw [q6]; exact hs.use h9) hk hd ?_
  exact kk (p, l, e, R, s, m, args, below, meth, c) hF hok H locs ls hH hlo hL
/-- one cell has been written -/
theorem bHo_st {g : bGh} {w : bWl} {H H1 : Heap} {a : Nat} {e e' : bCe} (hH : bHo g w H) (ha : w.1 a = some e) (he : va_at g.1 bCl (a, bE g e') H1) (z : H1.size = H.size) (oq : ∀ q : Nat, q ≠ a → H1[q]? = H[q]?) : bHo g (va_up w.1 a (some e'), w.2) H1 := by
  obtain ⟨h1, h2, h3⟩ := hH
  have hsz := (h3 a e ha).1
  refine ⟨z.trans h1, fun q hq => ?_, fun b x hb => ?_⟩
  · rw [oq q (by omega)]; exact h2 q hq
  · by_cases hba : b = a
    · subst hba
      have hb' : va_up w.1 b (some e') b = some x := hb
      rw [va_up_self] at hb'
      cases hb'
      exact ⟨hsz, he⟩
    · have hb' : va_up w.1 a (some e') b = some x := hb
      rw [va_up_ne _ _ hba] at hb'
      obtain ⟨h5, h6⟩ := h3 b x hb'
      exact ⟨h5, h6.kept (oq b hba)⟩
theorem bLo_st {g : bGh} {locs : List Loc} {a k : Nat} (hl : ∀ q ∈ locs, g.2.2.1.size ≤ q.base) (ha : g.2.2.1.size ≤ a) : ∀ q ∈ locs ++ [⟨a, k⟩], g.2.2.1.size ≤ q.base := by
  intro q hq
  rcases List.mem_append.mp hq with h | h
  · exact hl q h
  · rw [List.mem_singleton.mp h]; exact ha
theorem g_put {ok : Nat → Bool} {k idx : Nat} {D ref nm ds : String} {v : Value} {ty : FieldType} (hfo : bFok ok k (D, nm, ds, false)) (hs : bSame D ref nm ds) (hd : decode (bcd X) pc = .ok (.putfield idx, 3)) (hp : pc + 3 = pc') (hq : Cond.fieldLink (bown X) idx ref nm ds ∈ lw_all) (ht : parseFieldDescriptor ds = some ty) (hn : narrow ty v = v) (hfit : fits ty v = true) (hv : hP w ok a k v = some w') (kk : bG X w' pc' L rest) : bG X w pc L (v :: .ref a :: rest) := by
  subst hp
  obtain ⟨g, ⟨y, cc, nL, ret, hh, fr, lo⟩, n0, u0, Q⟩ := X
  rintro ⟨p, l, e, R, s, m, args, below, meth, c⟩ hF hok H locs ls hH hlo hL
  obtain ⟨h1, h2, h3, h4, h5, h6, h7, h8, h9, h10, h11, h12, h13, h14, h15, h16⟩ := id hF
  obtain ⟨ci, fs, ha, hci, hl, rfl⟩ := hP_spec hv
  obtain ⟨C, T, N, ty0, hc, hk, hin, hty, hnm, hT⟩ := hfo ci hci
  obtain ⟨hb0, hat⟩ := hH.2.2 a _ ha
  have hap := va_apart (own := y.cls) h9 hin ty0 hty hnm h10.1 hc
  obtain ⟨r, hr0, cell, q1, q2, q3, q4⟩ := hat
  have hr : r = (C, T, N) := Option.some.inj (hr0.symm.trans hc)
  subst hr
  obtain ⟨hS, hfc, kC, hkC, hkind⟩ := h10.1.1 ci _ hc
  obtain ⟨cf, kf, fi, f, hi, hsl⟩ := hS k hk
  have hi' : s.fieldFound? (T k).1 (T k).2.1 (T k).2.2.1 = some (cf, kf, fi, f) := hi
  rw [hT] at hi'
  have hlay := h9 _ (hin _ (u_in_lay hk))
  unfold u_lay at hlay
  rw [if_neg (by rw [hT]; simp)] at hlay
  have hst := (u_facts hfc hkC (u_lays h9 hin hk) hi).1
  have h66 := u_store hfc hkC hkind hlay hi (ty := ty) (by rw [hT]; exact ht) hn hfit
  refine W.putK h1 h2 (f := f) ⟨h7, h9 _ hq, ⟨_, _, _, hs.use h9 _ hi'⟩, hst⟩ (by rw [q2]; exact h66) q1 q3 (by rw [hsl]; exact k2_hasslot (q4 k hk)) rfl rfl hd fun H' e1 e2 e3 => ?_
  rw [hsl] at e1 ⊢
  exact kk (p, l, e, R, s, m, args, below, meth, c) hF hok H' _ ls (bHo_st (e' := .inr (ci, fs.set k v)) hH ha ⟨_, hc, t_OB.to (V := updV (vp_V fs) k v) ⟨_, e1, q2, q3, t_set q4 hap hk v⟩ (fun j _ => vp_updV_set hl v j)⟩ e2 e3) (bLo_st hlo hb0) hL
theorem g_putF {ok : Nat → Bool} {k idx : Nat} {D ref nm ds : String} {v : Value} {ty : FieldType} (hfo : bFok ok k (D, nm, ds, true)) (hs : bSame D ref nm ds) (hd : decode (bcd X) pc = .ok (.putfield idx, 3)) (hp : pc + 3 = pc') (hq : Cond.fieldLink (bown X) idx ref nm ds ∈ lw_all) (hi0 : X.2.1.1.name = "<init>") (hD : D = bown X) (ht : parseFieldDescriptor ds = some ty) (hn : narrow ty v = v) (hfit : fits ty v = true) (hv : hP w ok a k v = some w') (kk : bG X w' pc' L rest) : bG X w pc L (v :: .ref a :: rest) := by
  subst hp
  obtain ⟨g, ⟨y, cc, nL, ret, hh, fr, lo⟩, n0, u0, Q⟩ := X
  rintro ⟨p, l, e, R, s, m, args, below, meth, c⟩ hF hok H locs ls hH hlo hL
  obtain ⟨h1, h2, h3, h4, h5, h6, h7, h8, h9, h10, h11, h12, h13, h14, h15, h16⟩ := id hF
  obtain ⟨ci, fs, ha, hci, hl, rfl⟩ := hP_spec hv
  obtain ⟨C, T, N, ty0, hc, hk, hin, hty, hnm, hT⟩ := hfo ci hci
  obtain ⟨hb0, hat⟩ := hH.2.2 a _ ha
  have hap := va_apart (own := y.cls) h9 hin ty0 hty hnm h10.1 hc
  obtain ⟨r, hr0, cell, q1, q2, q3, q4⟩ := hat
  have hr : r = (C, T, N) := Option.some.inj (hr0.symm.trans hc)
  subst hr
  obtain ⟨hS, hfc, kC, hkC, hkind⟩ := h10.1.1 ci _ hc
  obtain ⟨cf, kf, fi, f, hi, hsl⟩ := hS k hk
  have hi' : s.fieldFound? (T k).1 (T k).2.1 (T k).2.2.1 = some (cf, kf, fi, f) := hi
  rw [hT] at hi'
  have hlay := h9 _ (hin _ (u_in_lay hk))
  unfold u_lay at hlay
  rw [if_pos (by rw [hT])] at hlay
  have hst := (u_facts hfc hkC (u_lays h9 hin hk) hi).1
  have hcf : m.cls = cf := by
    obtain ⟨_, _, c', _, _, _, -, -, hf', -, -, -, hown2, -⟩ := Cond.laysFinal_spec hlay
    have e1 : c' = cf := by have := hi.symm.trans hf'; simp at this; exact this.1.symm
    rw [hT] at hown2
    rw [← e1]; exact Option.some.inj (h7.symm.trans (by rw [show y.cls = D from hD.symm]; exact hown2))
  have h66 := u_fits hfc hkC hkind (Or.inr hlay) hi (ty := ty) (by rw [hT]; exact ht) hn hfit
  refine W.putFinK h1 h2 h7 (h9 _ hq) (hs.use h9 _ hi') hst hcf (h8.trans hi0) (by rw [q2]; exact h66) q1 q3 (by rw [hsl]; exact k2_hasslot (q4 k hk)) rfl rfl hd fun H' e1 e2 e3 => ?_
  rw [hsl] at e1 ⊢
  exact kk (p, l, e, R, s, m, args, below, meth, c) hF hok H' _ ls (bHo_st (e' := .inr (ci, fs.set k v)) hH ha ⟨_, hc, t_OB.to (V := updV (vp_V fs) k v) ⟨_, e1, q2, q3, t_set q4 hap hk v⟩ (fun j _ => vp_updV_set hl v j)⟩ e2 e3) (bLo_st hlo hb0) hL
theorem g_iald {i : Int32} {v : Int32} (hd : decode (bcd X) pc = .ok (.iaload, 1)) (hp : pc + 1 = pc') (hv : aI w 0 a i = some v) (kk : bG X w pc' L (.int v :: rest)) : bG X w pc L (.int i :: .ref a :: rest) := by
  subst hp
  obtain ⟨g, ⟨y, cc, nL, ret, hh, fr, lo⟩, n0, u0, Q⟩ := X
  rintro ⟨p, l, e, R, s, m, args, below, meth, c⟩ hF hok H locs ls hH hlo hL
  obtain ⟨h1, h2, h3, h4, h5, h6, h7, h8, h9, h10, h11, h12, h13, h14, h15, h16⟩ := id hF
  obtain ⟨n, f, ha, hin, rfl⟩ := aI_spec hv
  refine va_iald h1 h2 h10.1 (bP1 hH ha) 0 0 rfl rfl hin hd ?_
  exact kk (p, l, e, R, s, m, args, below, meth, c) hF hok H locs ls hH hlo hL
theorem g_bald {i : Int32} {v : Int32} (hd : decode (bcd X) pc = .ok (.baload, 1)) (hp : pc + 1 = pc') (hv : aI w 1 a i = some v) (kk : bG X w pc' L (.int v :: rest)) : bG X w pc L (.int i :: .ref a :: rest) := by
  subst hp
  obtain ⟨g, ⟨y, cc, nL, ret, hh, fr, lo⟩, n0, u0, Q⟩ := X
  rintro ⟨p, l, e, R, s, m, args, below, meth, c⟩ hF hok H locs ls hH hlo hL
  obtain ⟨h1, h2, h3, h4, h5, h6, h7, h8, h9, h10, h11, h12, h13, h14, h15, h16⟩ := id hF
  obtain ⟨n, f, ha, hin, rfl⟩ := aI_spec hv
  refine va_bald h1 h2 h10.1 (bP1 hH ha) 0 1 rfl rfl hin hd ?_
  exact kk (p, l, e, R, s, m, args, below, meth, c) hF hok H locs ls hH hlo hL
theorem g_sald {i : Int32} {v : Int32} (hd : decode (bcd X) pc = .ok (.saload, 1)) (hp : pc + 1 = pc') (hv : aI w 2 a i = some v) (kk : bG X w pc' L (.int v :: rest)) : bG X w pc L (.int i :: .ref a :: rest) := by
  subst hp
  obtain ⟨g, ⟨y, cc, nL, ret, hh, fr, lo⟩, n0, u0, Q⟩ := X
  rintro ⟨p, l, e, R, s, m, args, below, meth, c⟩ hF hok H locs ls hH hlo hL
  obtain ⟨h1, h2, h3, h4, h5, h6, h7, h8, h9, h10, h11, h12, h13, h14, h15, h16⟩ := id hF
  obtain ⟨n, f, ha, hin, rfl⟩ := aI_spec hv
  refine va_sald h1 h2 h10.1 (bP1 hH ha) 0 2 rfl rfl hin hd ?_
  exact kk (p, l, e, R, s, m, args, below, meth, c) hF hok H locs ls hH hlo hL
theorem g_lald {i : Int32} {v : Int64} (hd : decode (bcd X) pc = .ok (.laload, 1)) (hp : pc + 1 = pc') (hv : aJ w a i = some v) (kk : bG X w pc' L (.long v :: rest)) : bG X w pc L (.int i :: .ref a :: rest) := by
  subst hp
  obtain ⟨g, ⟨y, cc, nL, ret, hh, fr, lo⟩, n0, u0, Q⟩ := X
  rintro ⟨p, l, e, R, s, m, args, below, meth, c⟩ hF hok H locs ls hH hlo hL
  obtain ⟨h1, h2, h3, h4, h5, h6, h7, h8, h9, h10, h11, h12, h13, h14, h15, h16⟩ := id hF
  obtain ⟨n, f, ha, hin, rfl⟩ := aJ_spec hv
  refine va_lald h1 h2 h10.1 (bP1 hH ha) 0 3 rfl rfl hin hd ?_
  exact kk (p, l, e, R, s, m, args, below, meth, c) hF hok H locs ls hH hlo hL
theorem g_aald {i : Int32} {v : Nat} (hd : decode (bcd X) pc = .ok (.aaload, 1)) (hp : pc + 1 = pc') (hv : aR w a i = some v) (kk : bG X w pc' L (.ref v :: rest)) : bG X w pc L (.int i :: .ref a :: rest) := by
  subst hp
  obtain ⟨g, ⟨y, cc, nL, ret, hh, fr, lo⟩, n0, u0, Q⟩ := X
  rintro ⟨p, l, e, R, s, m, args, below, meth, c⟩ hF hok H locs ls hH hlo hL
  obtain ⟨h1, h2, h3, h4, h5, h6, h7, h8, h9, h10, h11, h12, h13, h14, h15, h16⟩ := id hF
  obtain ⟨n, f, ha, hin, hfv⟩ := aR_spec hv
  refine va_aldq h1 h2 h10.1 (bP1 hH ha) 0 4 rfl rfl hin hd ?_
  rw [hfv]
  exact kk (p, l, e, R, s, m, args, below, meth, c) hF hok H locs ls hH hlo hL
theorem g_alen {v : Int32} (hd : decode (bcd X) pc = .ok (.arraylength, 1)) (hp : pc + 1 = pc') (hv : aL w a = some v) (kk : bG X w pc' L (.int v :: rest)) : bG X w pc L (.ref a :: rest) := by
  subst hp
  obtain ⟨g, ⟨y, cc, nL, ret, hh, fr, lo⟩, n0, u0, Q⟩ := X
  rintro ⟨p, l, e, R, s, m, args, below, meth, c⟩ hF hok H locs ls hH hlo hL
  obtain ⟨h1, h2, h3, h4, h5, h6, h7, h8, h9, h10, h11, h12, h13, h14, h15, h16⟩ := id hF
  obtain ⟨t, x, ha, ht, rfl⟩ := aL_spec hv
  have key : ∃ ty, (bTy g)[t]? = some (g.2.1 t, ty) := by
    rcases (show t = 0 ∨ t = 1 ∨ t = 2 ∨ t = 3 ∨ t = 4 by omega) with rfl | rfl | rfl | rfl | rfl <;> exact ⟨_, rfl⟩
  obtain ⟨ty, hty⟩ := key
  refine va_alen h1 h2 h10.1 (bP1 hH ha) 0 t rfl hty rfl hd ?_
  exact kk (p, l, e, R, s, m, args, below, meth, c) hF hok H locs ls hH hlo hL
theorem g_iast {i x : Int32} (hd : decode (bcd X) pc = .ok (.iastore, 1)) (hp : pc + 1 = pc') (hv : sI w 0 a i x = some w') (kk : bG X w' pc' L rest) : bG X w pc L (.int x :: .int i :: .ref a :: rest) := by
  subst hp
  obtain ⟨g, ⟨y, cc, nL, ret, hh, fr, lo⟩, n0, u0, Q⟩ := X
  rintro ⟨p, l, e, R, s, m, args, below, meth, c⟩ hF hok H locs ls hH hlo hL
  obtain ⟨h1, h2, h3, h4, h5, h6, h7, h8, h9, h10, h11, h12, h13, h14, h15, h16⟩ := id hF
  obtain ⟨n, f, ha, hin, rfl⟩ := sI_spec hv
  obtain ⟨hb0, hat⟩ := hH.2.2 a _ ha
  refine W.iast h1 h2 hat ((h10.1.2 0 _ rfl).1 n (fun j => .int (f j))) (fun q => by cases q) (by show ¬ (i < 0 ∨ (arrV _ _ _).slots.size ≤ _); rw [arrV_size]; exact hin) rfl rfl hd fun H' e1 z oq => ?_
  refine kk (p, l, e, R, s, m, args, below, meth, c) hF hok H' _ ls (bHo_st (e' := .inl (0, n, .inl (upd f i.toNatClampNeg x))) hH ha ?_ z oq) (bLo_st hlo hb0) hL
  show H'[a]? = some (vp_cell _ _)
  rw [e1]
  show some ((vp_cell _ _).setSlot _ _) = _
  rw [vp_cell_i, vp_cell_i, arrV_store]
  congr 2
  funext q
  by_cases hq : q = i.toNatClampNeg
  · subst hq
    simp [updV, upd, vp_nar, narrow]
  · simp [updV, upd, hq]
theorem g_bast {i x : Int32} (hd : decode (bcd X) pc = .ok (.bastore, 1)) (hp : pc + 1 = pc') (hv : sI w 1 a i (vp_nar .byte x) = some w') (kk : bG X w' pc' L rest) : bG X w pc L (.int x :: .int i :: .ref a :: rest) := by
  subst hp
  obtain ⟨g, ⟨y, cc, nL, ret, hh, fr, lo⟩, n0, u0, Q⟩ := X
  rintro ⟨p, l, e, R, s, m, args, below, meth, c⟩ hF hok H locs ls hH hlo hL
  obtain ⟨h1, h2, h3, h4, h5, h6, h7, h8, h9, h10, h11, h12, h13, h14, h15, h16⟩ := id hF
  obtain ⟨n, f, ha, hin, rfl⟩ := sI_spec hv
  obtain ⟨hb0, hat⟩ := hH.2.2 a _ ha
  refine W.bast h1 h2 hat ((h10.1.2 1 _ rfl).1 n (fun j => .int (f j))) (fun q => by cases q) (by show ¬ (i < 0 ∨ (arrV _ _ _).slots.size ≤ _); rw [arrV_size]; exact hin) rfl rfl hd fun H' e1 z oq => ?_
  refine kk (p, l, e, R, s, m, args, below, meth, c) hF hok H' _ ls (bHo_st (e' := .inl (1, n, .inl (upd f i.toNatClampNeg (vp_nar .byte x)))) hH ha ?_ z oq) (bLo_st hlo hb0) hL
  show H'[a]? = some (vp_cell _ _)
  rw [e1]
  show some ((vp_cell _ _).setSlot _ _) = _
  rw [vp_cell_i, vp_cell_i, arrV_store]
  congr 2
  funext q
  by_cases hq : q = i.toNatClampNeg
  · subst hq
    simp [updV, upd, vp_nar, narrow]
  · simp [updV, upd, hq]
theorem g_sast {i x : Int32} (hd : decode (bcd X) pc = .ok (.sastore, 1)) (hp : pc + 1 = pc') (hv : sI w 2 a i (vp_nar .short x) = some w') (kk : bG X w' pc' L rest) : bG X w pc L (.int x :: .int i :: .ref a :: rest) := by
  subst hp
  obtain ⟨g, ⟨y, cc, nL, ret, hh, fr, lo⟩, n0, u0, Q⟩ := X
  rintro ⟨p, l, e, R, s, m, args, below, meth, c⟩ hF hok H locs ls hH hlo hL
  obtain ⟨h1, h2, h3, h4, h5, h6, h7, h8, h9, h10, h11, h12, h13, h14, h15, h16⟩ := id hF
  obtain ⟨n, f, ha, hin, rfl⟩ := sI_spec hv
  obtain ⟨hb0, hat⟩ := hH.2.2 a _ ha
  refine W.sast h1 h2 hat ((h10.1.2 2 _ rfl).1 n (fun j => .int (f j))) (fun q => by cases q) (by show ¬ (i < 0 ∨ (arrV _ _ _).slots.size ≤ _); rw [arrV_size]; exact hin) rfl rfl hd fun H' e1 z oq => ?_
  refine kk (p, l, e, R, s, m, args, below, meth, c) hF hok H' _ ls (bHo_st (e' := .inl (2, n, .inl (upd f i.toNatClampNeg (vp_nar .short x)))) hH ha ?_ z oq) (bLo_st hlo hb0) hL
  show H'[a]? = some (vp_cell _ _)
  rw [e1]
  show some ((vp_cell _ _).setSlot _ _) = _
  rw [vp_cell_i, vp_cell_i, arrV_store]
  congr 2
  funext q
  by_cases hq : q = i.toNatClampNeg
  · subst hq
    simp [updV, upd, vp_nar, narrow]
  · simp [updV, upd, hq]
theorem g_last {i : Int32} {x : Int64} (hd : decode (bcd X) pc = .ok (.lastore, 1)) (hp : pc + 1 = pc') (hv : sJ w a i x = some w') (kk : bG X w' pc' L rest) : bG X w pc L (.long x :: .int i :: .ref a :: rest) := by
  subst hp
  obtain ⟨g, ⟨y, cc, nL, ret, hh, fr, lo⟩, n0, u0, Q⟩ := X
  rintro ⟨p, l, e, R, s, m, args, below, meth, c⟩ hF hok H locs ls hH hlo hL
  obtain ⟨h1, h2, h3, h4, h5, h6, h7, h8, h9, h10, h11, h12, h13, h14, h15, h16⟩ := id hF
  obtain ⟨n, f, ha, hin, rfl⟩ := sJ_spec hv
  obtain ⟨hb0, hat⟩ := hH.2.2 a _ ha
  refine W.last h1 h2 hat ((h10.1.2 3 _ rfl).1 n (fun j => .long (f j))) (fun q => by cases q) (by show ¬ (i < 0 ∨ (arrV _ _ _).slots.size ≤ _); rw [arrV_size]; exact hin) rfl rfl hd fun H' e1 z oq => ?_
  refine kk (p, l, e, R, s, m, args, below, meth, c) hF hok H' _ ls (bHo_st (e' := .inl (3, n, .inr (.inl (vp_updL f i.toNatClampNeg x)))) hH ha ?_ z oq) (bLo_st hlo hb0) hL
  show H'[a]? = some (vp_cell _ _)
  rw [e1]
  show some ((vp_cell _ _).setSlot _ _) = _
  rw [vp_cell_l, vp_cell_l, arrV_store]
  congr 2
  funext q
  by_cases hq : q = i.toNatClampNeg
  · subst hq
    simp [updV, vp_updL]
  · simp [updV, vp_updL, hq]
theorem g_aast {i : Int32} {v : Nat} (hd : decode (bcd X) pc = .ok (.aastore, 1)) (hp : pc + 1 = pc') (hv : sR w a i v = some w') (kk : bG X w' pc' L rest) : bG X w pc L (.ref v :: .int i :: .ref a :: rest) := by
  subst hp
  obtain ⟨g, ⟨y, cc, nL, ret, hh, fr, lo⟩, n0, u0, Q⟩ := X
  rintro ⟨p, l, e, R, s, m, args, below, meth, c⟩ hF hok H locs ls hH hlo hL
  obtain ⟨h1, h2, h3, h4, h5, h6, h7, h8, h9, h10, h11, h12, h13, h14, h15, h16⟩ := id hF
  obtain ⟨n, f, ha, hcv, hin, rfl⟩ := sR_spec hv
  obtain ⟨hb0, hat⟩ := hH.2.2 a _ ha
  obtain ⟨fs, hfs⟩ := hC_spec hcv
  have hlt : i.toNatClampNeg < n := Nat.not_le.mp fun q => hin (Or.inr q)
  have h0 : ¬ i < 0 := fun q => hin (Or.inl q)
  obtain ⟨-, r', hr', cellV, g1, g2, g3, -⟩ := hH.2.2 v _ hfs
  have hcls := (h10.1.1 2 (RX2, TX2, 1) rfl).2
  obtain ⟨kA, comp, k1, k2, k3, -⟩ := (h10.1.2 4 _ rfl).2
  have hcomp : comp = g.1.1 2 := Option.some.inj (k3.symm.trans hcls.1)
  subst hcomp
  obtain ⟨kC, hkC, -⟩ := hcls.2
  refine W.aast h1 h2 hat (fun q h => by cases h) (fun h => by cases h) k1 k2 rfl hkC ⟨h0, by show _ < (arrV _ _ _).slots.size; rw [arrV_size]; exact hlt⟩ g1 (fun q h => by rw [g3] at h; cases h) (by rw [g2]; exact hkC) (by rw [g2]; exact va_assign hcls) rfl rfl hd fun H' e1 z oq => ?_
  refine kk (p, l, e, R, s, m, args, below, meth, c) hF hok H' _ ls (bHo_st (e' := .inl (4, n, .inr (.inr (.inr (.inr (va_up f i.toNatClampNeg (some v))))))) hH ha ?_ z oq) (bLo_st hlo hb0) hL
  show H'[a]? = some (vp_cell _ _)
  rw [e1]
  show some ((vp_cell _ _).setSlot _ _) = _
  rw [vp_cell_q, vp_cell_q, arrV_store]
  congr 2
  funext q
  by_cases hq : q = i.toNatClampNeg
  · subst hq
    simp [updV, va_up, va_rf]
  · simp [updV, va_up, hq]
end HROWS
