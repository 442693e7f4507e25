/-! HEAP ROWS: new cells, array copies, casts, statics -/
set_option maxRecDepth 100000
/-- a cell has been made behind the others -/
theorem bHo_nw {g : bGh} {w : bWl} {H H1 : Heap} {k : Nat} {e : bCe} (hH : bHo g w H) (hb : g.2.2.1.size ≤ w.2.1) (he : va_at g.1 bCl (w.2.1, bE g e) H1) (z : H1.size = w.2.1 + 1) (oq : ∀ q : Nat, q < w.2.1 → H1[q]? = H[q]?) : bHo g (va_up w.1 w.2.1 (some e), w.2.1 + 1, w.2.2.1 + k, w.2.2.2) H1 := by
  obtain ⟨h1, h2, h3⟩ := hH
  refine ⟨z, fun x hx => ?_, fun b x hx => ?_⟩
  · rw [oq x (by omega)]; exact h2 x hx
  · by_cases hbq : b = w.2.1
    · subst hbq
      have hx' : va_up w.1 w.2.1 (some e) w.2.1 = some x := hx
      rw [va_up_self] at hx'
      cases hx'
      exact ⟨hb, he⟩
    · have hx' : va_up w.1 w.2.1 (some e) b = some x := hx
      rw [va_up_ne _ _ hbq] at hx'
      obtain ⟨h5, h6⟩ := h3 b x hx'
      have h7 : b < H.size := h6.lt
      exact ⟨h5, h6.kept (oq b (by omega))⟩
theorem bOk_nw {X : bCX} {w : bWl} {k : Nat} {e : bCe} (h : bOk X w) (h1 : w.2.1 + 1 ≤ w.2.2.2.1) (h2 : w.2.2.1 + k ≤ w.2.2.2.2) : bOk X (va_up w.1 w.2.1 (some e), w.2.1 + 1, w.2.2.1 + k, w.2.2.2) := by
  obtain ⟨q1, q2, q3, q4, q5⟩ := h
  rw [q5] at h1 h2
  exact ⟨by show X.2.2.1 ≤ w.2.1 + 1; omega, by show X.2.2.2.1 ≤ w.2.2.1 + k; omega, h1, h2, q5⟩
theorem W_cs {p : Program} {l : Launch} {e : Env} {R : Room} {s : State} {m : MethodId} {args : Array Value} {below : List Frame} {meth : Method} {c : Code} {H : Heap} {locs : List Loc} {cells slots cells' slots' : Nat} {Q : State → Prop} {g : JFrame} (h1 : cells = cells') (h2 : slots = slots') (h : W p l e R s m args below meth c H locs cells' slots' Q g) : W p l e R s m args below meth c H locs cells slots Q g := by
  subst h1; subst h2; exact h
section HROWS2
variable {X : bCX} {w w' : bWl} {pc pc' : Nat} {L L' : List (Option Value)} {rest : List Value} {a : Nat}
theorem g_new {ci N idx q : Nat} {C : String} {T : u_T} {ty : Nat → FieldType} {fs : List Value} (hc : bCl[ci]? = some (C, T, N)) (hin : ∀ w ∈ u_ws C T N, w ∈ lw_all) (hty : ∀ k, k < N → parseFieldDescriptor (T k).2.2.1 = some (ty k)) (hfs : ∀ j, j < N → defaultValue (ty j) = vp_V fs j) (hd : decode (bcd X) pc = .ok (.new idx, 3)) (hp : pc + 3 = pc') (hq1 : Cond.classLink (bown X) idx C ∈ lw_all) (hq2 : Cond.instantiable C N ∈ lw_all) (hq3 : Cond.initialized C ∈ lw_all) (hv : nC w (.inr (ci, fs)) N = some (q, w')) (kk : bG X w' pc' L (.ref q :: rest)) : bG X w pc L rest := by
  subst hp
  obtain ⟨g, ⟨y, cc, nL, ret, hh, fr, lo⟩, n0, u0, Q⟩ := X
  rintro ⟨p, l, e, R, s, m, args, below, meth, c⟩ hF hok H locs ls hH hlo hL
  obtain ⟨h1, h2, h3, h4, h5, h6, h7, h8, h9, h10, h11, h12, h13, h14, h15, h16⟩ := id hF
  obtain ⟨r1, r2, rfl, rfl⟩ := nC_spec hv
  obtain ⟨k1, k2, k3, k4, k5⟩ := id hok
  have k1' : n0 ≤ w.2.1 := k1
  have k2' : u0 ≤ w.2.2.1 := k2
  have k5' : w.2.2.2 = g.2.2.2.1 := k5
  have hKn := h10.1.1 ci _ hc
  have r1' : w.2.1 + 1 ≤ g.2.2.2.1.1 := by rw [k5'] at r1; exact r1
  have r2' : w.2.2.1 + N ≤ g.2.2.2.1.2 := by rw [k5'] at r2; exact r2
  refine W.newcK h1 h2 h7 (h9 _ hq1) (h9 _ hq2) (h9 _ hq3) rfl hd (by show w.2.1 - n0 + 1 ≤ R.cells; omega) (by show w.2.2.1 - u0 + N ≤ R.slots; omega) hKn.2.1 (h := w.2.1) hH.1 fun H1 kC hkC e1 z1 o1 => ?_
  have hk := kk (p, l, e, R, s, m, args, below, meth, c) hF (bOk_nw (e := .inr (ci, fs)) hok r1 r2) H1 locs ls (bHo_nw (e := .inr (ci, fs)) hH (Nat.le_trans h16 k1') ⟨_, hc, (u_born ty h9 hin hKn hkC e1 hty).to hfs⟩ z1 o1) hlo hL
  exact W_cs (by show w.2.1 - n0 + 1 = w.2.1 + 1 - n0; omega) (by show w.2.2.1 - u0 + N = w.2.2.1 + N - u0; omega) hk
theorem bTy_id {g : bGh} {s : State} (hK : va_K g.1 bCl (bTy g) s) {t : Nat} {ty : FieldType} (ht : (bTy g)[t]? = some (g.2.1 t, ty)) {cA : ClassId} (hne : ∀ C, ty ≠ .object C) (h : s.vm.findClass ("[" ++ ty.toString) = some cA) : cA = g.2.1 t := by
  have h1 := (hK.2 t _ ht).2
  cases ty with
  | object C => exact absurd rfl (hne C)
  | _ => exact Option.some.inj (h.symm.trans h1)
theorem g_newarr {t q : Nat} {at_ : ArrayType} {ty : FieldType} {n : Int32} {x : vp_A} (hd : decode (bcd X) pc = .ok (.newarray at_, 2)) (hp : pc + 2 = pc') (hty : newarray.typeOf at_ = ty) (hne : ∀ C, ty ≠ .object C) (hb : componentBytes ty ≤ 8) (htt : ∀ g : bGh, (bTy g)[t]? = some (g.2.1 t, ty)) (hq : Cond.arrayClass ty ∈ lw_all) (ha : ∀ cA : ClassId, vp_cell cA x = arrV cA n.toNatClampNeg (fun _ => defaultValue ty)) (hn : ¬ (n < 0 ∨ 1000 < n.toNatClampNeg)) (hv : nC w (.inl (t, x)) n.toNatClampNeg = some (q, w')) (kk : bG X w' pc' L (.ref q :: rest)) : bG X w pc L (.int n :: rest) := by
  subst hp
  subst hty
  obtain ⟨g, ⟨y, cc, nL, ret, hh, fr, lo⟩, n0, u0, Q⟩ := X
  rintro ⟨p, l, e, R, s, m, args, below, meth, c⟩ hF hok H locs ls hH hlo hL
  obtain ⟨h1, h2, h3, h4, h5, h6, h7, h8, h9, h10, h11, h12, h13, h14, h15, h16⟩ := id hF
  obtain ⟨r1, r2, rfl, rfl⟩ := nC_spec hv
  obtain ⟨k1, k2, k3, k4, k5⟩ := id hok
  have k1' : n0 ≤ w.2.1 := k1
  have k2' : u0 ≤ w.2.2.1 := k2
  have k5' : w.2.2.2 = g.2.2.2.1 := k5
  have r1' : w.2.1 + 1 ≤ g.2.2.2.1.1 := by rw [k5'] at r1; exact r1
  have r2' : w.2.2.1 + n.toNatClampNeg ≤ g.2.2.2.1.2 := by rw [k5'] at r2; exact r2
  have hn0 : ¬ n < 0 := fun h => hn (Or.inl h)
  have hn1 : n.toNatClampNeg ≤ 1000 := Nat.not_lt.mp fun h => hn (Or.inr h)
  refine va_newaK h1 h2 (h9 _ hq) rfl hd (rest := rest) rfl hn0 rfl (Nat.le_trans (Nat.mul_le_mul hn1 hb) (by decide)) (by show w.2.1 - n0 + 1 ≤ R.cells; omega) (by show w.2.2.1 - u0 + n.toNatClampNeg ≤ R.slots; omega) (h := w.2.1) hH.1 fun H1 cA e1 z1 o1 hAr hNm => ?_
  have hcA : cA = g.2.1 t := bTy_id h10.1 (htt g) hne hNm
  subst hcA
  have hk := kk (p, l, e, R, s, m, args, below, meth, c) hF (bOk_nw (e := .inl (t, x)) hok r1 r2) H1 locs ls (bHo_nw (e := .inl (t, x)) hH (Nat.le_trans h16 k1') (show H1[w.2.1]? = some (vp_cell _ _) by rw [ha, e1]) z1 o1) hlo hL
  exact W_cs (by show w.2.1 - n0 + 1 = w.2.1 + 1 - n0; omega) (by show w.2.2.1 - u0 + n.toNatClampNeg = w.2.2.1 + n.toNatClampNeg - u0; omega) hk
theorem g_newI {q : Nat} {n : Int32} (hd : decode (bcd X) pc = .ok (.newarray .int, 2)) (hp : pc + 2 = pc') (hv : nI0 w 0 n = some (q, w')) (hq : Cond.arrayClass .int ∈ lw_all) (kk : bG X w' pc' L (.ref q :: rest)) : bG X w pc L (.int n :: rest) := by
  unfold nI0 at hv
  split at hv
  · cases hv
  · rename_i h; exact g_newarr (t := 0) hd hp rfl (fun C h => by cases h) (by decide) (fun _ => rfl) hq (fun cA => by rw [vp_cell_i]; rfl) h hv kk
theorem g_newB {q : Nat} {n : Int32} (hd : decode (bcd X) pc = .ok (.newarray .byte, 2)) (hp : pc + 2 = pc') (hv : nI0 w 1 n = some (q, w')) (hq : Cond.arrayClass .byte ∈ lw_all) (kk : bG X w' pc' L (.ref q :: rest)) : bG X w pc L (.int n :: rest) := by
  unfold nI0 at hv
  split at hv
  · cases hv
  · rename_i h; exact g_newarr (t := 1) hd hp rfl (fun C h => by cases h) (by decide) (fun _ => rfl) hq (fun cA => by rw [vp_cell_i]; rfl) h hv kk
theorem g_newS {q : Nat} {n : Int32} (hd : decode (bcd X) pc = .ok (.newarray .short, 2)) (hp : pc + 2 = pc') (hv : nI0 w 2 n = some (q, w')) (hq : Cond.arrayClass .short ∈ lw_all) (kk : bG X w' pc' L (.ref q :: rest)) : bG X w pc L (.int n :: rest) := by
  unfold nI0 at hv
  split at hv
  · cases hv
  · rename_i h; exact g_newarr (t := 2) hd hp rfl (fun C h => by cases h) (by decide) (fun _ => rfl) hq (fun cA => by rw [vp_cell_i]; rfl) h hv kk
theorem g_newJ {q : Nat} {n : Int32} (hd : decode (bcd X) pc = .ok (.newarray .long, 2)) (hp : pc + 2 = pc') (hv : nJ0 w n = some (q, w')) (hq : Cond.arrayClass .long ∈ lw_all) (kk : bG X w' pc' L (.ref q :: rest)) : bG X w pc L (.int n :: rest) := by
  unfold nJ0 at hv
  split at hv
  · cases hv
  · rename_i h; exact g_newarr (t := 3) hd hp rfl (fun C h => by cases h) (by decide) (fun _ => rfl) hq (fun cA => by rw [vp_cell_l]; rfl) h hv kk
theorem g_anew {idx q : Nat} {n : Int32} (hd : decode (bcd X) pc = .ok (.anewarray idx, 3)) (hp : pc + 3 = pc') (hq : Cond.classLink (bown X) idx "RumourBeds$Slot" ∈ lw_all) (hv : nR0 w n = some (q, w')) (kk : bG X w' pc' L (.ref q :: rest)) : bG X w pc L (.int n :: rest) := by
  unfold nR0 at hv
  split at hv
  · cases hv
  rename_i hn
  subst hp
  obtain ⟨g, ⟨y, cc, nL, ret, hh, fr, lo⟩, n0, u0, Q⟩ := X
  rintro ⟨p, l, e, R, s, m, args, below, meth, c⟩ hF hok H locs ls hH hlo hL
  obtain ⟨h1, h2, h3, h4, h5, h6, h7, h8, h9, h10, h11, h12, h13, h14, h15, h16⟩ := id hF
  obtain ⟨r1, r2, rfl, rfl⟩ := nC_spec hv
  obtain ⟨k1, k2, k3, k4, k5⟩ := id hok
  have k1' : n0 ≤ w.2.1 := k1
  have k2' : u0 ≤ w.2.2.1 := k2
  have k5' : w.2.2.2 = g.2.2.2.1 := k5
  have r1' : w.2.1 + 1 ≤ g.2.2.2.1.1 := by rw [k5'] at r1; exact r1
  have r2' : w.2.2.1 + n.toNatClampNeg ≤ g.2.2.2.1.2 := by rw [k5'] at r2; exact r2
  have hn0 : ¬ n < 0 := fun h => hn (Or.inl h)
  have hn1 : n.toNatClampNeg ≤ 1000 := Nat.not_lt.mp fun h => hn (Or.inr h)
  refine W.anew h1 h2 (C := "RumourBeds$Slot") h7 (h9 _ hq) h10.2.2.1.use rfl hd (rest := rest) rfl hn0 (by omega) (by show w.2.1 - n0 + 1 ≤ R.cells; omega) (by show w.2.2.1 - u0 + n.toNatClampNeg ≤ R.slots; omega) fun cA kA comp f1 f2 f3 f4 => ?_
  obtain ⟨kA', comp', k1, k2, k3, k6⟩ := (h10.1.2 4 _ rfl).2
  have hcA : cA = g.2.1 4 := Option.some.inj (f1.symm.trans k6)
  subst hcA
  have hsz : H.size = w.2.1 := hH.1
  have hk := kk (p, l, e, R, s, m, args, below, meth, c) hF (bOk_nw (e := .inl (4, n.toNatClampNeg, .inr (.inr (.inr (.inr fun _ => none))))) hok r1 r2) (H.push { cls := g.2.1 4, slots := Array.replicate n.toNatClampNeg .null, vm := .none }) locs ls (bHo_nw (e := .inl (4, n.toNatClampNeg, .inr (.inr (.inr (.inr fun _ => none))))) hH (Nat.le_trans h16 k1') ?_ (by simp [hsz]) (fun q hq => by rw [Array.getElem?_push_lt (by omega)]; simp [show q < H.size by omega])) hlo hL
  · rw [hsz]
    exact W_cs (by show w.2.1 - n0 + 1 = w.2.1 + 1 - n0; omega) (by show w.2.2.1 - u0 + n.toNatClampNeg = w.2.2.1 + n.toNatClampNeg - u0; omega) hk
  · show (H.push _)[w.2.1]? = some (vp_cell _ _)
    rw [vp_cell_q, ← hsz, Array.getElem?_push_size]
    congr 1
    simp [arrV, va_rf]
    apply Array.ext
    · simp
    · intro i h1 h2; simp
end HROWS2
