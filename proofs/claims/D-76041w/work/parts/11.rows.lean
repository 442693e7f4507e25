/-! ROWS: one an opcode that touches neither heap nor calls; printed by tools/rows.py -/
set_option maxRecDepth 100000
section ROWS
variable {X : bCX} {w : bWl} {pc pc' : Nat} {L L' : List (Option Value)} {rest : List Value}
theorem g_iconst {n : Int} {v : Int32} (hd : decode (bcd X) pc = .ok (.iconst n, 1)) (hp : pc + 1 = pc') (hv : Int32.ofInt n = v) (k : bG X w pc' L (.int v :: rest)) : bG X w pc L (rest) := by
  subst hp
  obtain ⟨g, ⟨y, cc, nL, ret, hh, fr, lo⟩, n0, u0, Q⟩ := X
  rintro ⟨p, l, e, R, s, m, args, below, meth, c⟩ hF hok H locs ls hH hlo hL
  obtain ⟨h1, h2, h3, h4, h5, h6, h7, h8, h9, h10, h11, h12, h13, h14, h15, h16⟩ := id hF
  exact lv_iconst h1 h2 hd hv (k (p, l, e, R, s, m, args, below, meth, c) hF hok H locs ls hH hlo hL)
theorem g_bipush {n : Int} {v : Int32} (hd : decode (bcd X) pc = .ok (.bipush n, 2)) (hp : pc + 2 = pc') (hv : (Int8.ofInt n).toInt32 = v) (k : bG X w pc' L (.int v :: rest)) : bG X w pc L (rest) := by
  subst hp
  obtain ⟨g, ⟨y, cc, nL, ret, hh, fr, lo⟩, n0, u0, Q⟩ := X
  rintro ⟨p, l, e, R, s, m, args, below, meth, c⟩ hF hok H locs ls hH hlo hL
  obtain ⟨h1, h2, h3, h4, h5, h6, h7, h8, h9, h10, h11, h12, h13, h14, h15, h16⟩ := id hF
  exact lv_bipush h1 h2 hd hv (k (p, l, e, R, s, m, args, below, meth, c) hF hok H locs ls hH hlo hL)
theorem g_sipush {n : Int} {v : Int32} (hd : decode (bcd X) pc = .ok (.sipush n, 3)) (hp : pc + 3 = pc') (hv : (Int16.ofInt n).toInt32 = v) (k : bG X w pc' L (.int v :: rest)) : bG X w pc L (rest) := by
  subst hp
  obtain ⟨g, ⟨y, cc, nL, ret, hh, fr, lo⟩, n0, u0, Q⟩ := X
  rintro ⟨p, l, e, R, s, m, args, below, meth, c⟩ hF hok H locs ls hH hlo hL
  obtain ⟨h1, h2, h3, h4, h5, h6, h7, h8, h9, h10, h11, h12, h13, h14, h15, h16⟩ := id hF
  exact lv_sipush h1 h2 hd hv (k (p, l, e, R, s, m, args, below, meth, c) hF hok H locs ls hH hlo hL)
theorem g_lconst {n : Fin 2} {v : Int64} (hd : decode (bcd X) pc = .ok (.lconst n, 1)) (hp : pc + 1 = pc') (hv : Int64.ofNat (n : Nat) = v) (k : bG X w pc' L (.long v :: rest)) : bG X w pc L (rest) := by
  subst hp
  obtain ⟨g, ⟨y, cc, nL, ret, hh, fr, lo⟩, n0, u0, Q⟩ := X
  rintro ⟨p, l, e, R, s, m, args, below, meth, c⟩ hF hok H locs ls hH hlo hL
  obtain ⟨h1, h2, h3, h4, h5, h6, h7, h8, h9, h10, h11, h12, h13, h14, h15, h16⟩ := id hF
  exact lv_lconst h1 h2 hd hv (k (p, l, e, R, s, m, args, below, meth, c) hF hok H locs ls hH hlo hL)
theorem g_null  (hd : decode (bcd X) pc = .ok (.aconst_null, 1)) (hp : pc + 1 = pc') (k : bG X w pc' L (.null :: rest)) : bG X w pc L (rest) := by
  subst hp
  obtain ⟨g, ⟨y, cc, nL, ret, hh, fr, lo⟩, n0, u0, Q⟩ := X
  rintro ⟨p, l, e, R, s, m, args, below, meth, c⟩ hF hok H locs ls hH hlo hL
  obtain ⟨h1, h2, h3, h4, h5, h6, h7, h8, h9, h10, h11, h12, h13, h14, h15, h16⟩ := id hF
  exact lv_null h1 h2 hd (k (p, l, e, R, s, m, args, below, meth, c) hF hok H locs ls hH hlo hL)
theorem g_ldc {i : Nat} {v : Int32} (hd : decode (bcd X) pc = .ok (.ldc i, 2)) (hp : pc + 2 = pc') (hq : Cond.constant (bown X) i v ∈ lw_all) (k : bG X w pc' L (.int v :: rest)) : bG X w pc L (rest) := by
  subst hp
  obtain ⟨g, ⟨y, cc, nL, ret, hh, fr, lo⟩, n0, u0, Q⟩ := X
  rintro ⟨p, l, e, R, s, m, args, below, meth, c⟩ hF hok H locs ls hH hlo hL
  obtain ⟨h1, h2, h3, h4, h5, h6, h7, h8, h9, h10, h11, h12, h13, h14, h15, h16⟩ := id hF
  exact lv_ldc h1 h2 h7 (h9 _ hq) hd (k (p, l, e, R, s, m, args, below, meth, c) hF hok H locs ls hH hlo hL)
theorem g_ldcw {i : Nat} {v : Int32} (hd : decode (bcd X) pc = .ok (.ldc_w i, 3)) (hp : pc + 3 = pc') (hq : Cond.constant (bown X) i v ∈ lw_all) (k : bG X w pc' L (.int v :: rest)) : bG X w pc L (rest) := by
  subst hp
  obtain ⟨g, ⟨y, cc, nL, ret, hh, fr, lo⟩, n0, u0, Q⟩ := X
  rintro ⟨p, l, e, R, s, m, args, below, meth, c⟩ hF hok H locs ls hH hlo hL
  obtain ⟨h1, h2, h3, h4, h5, h6, h7, h8, h9, h10, h11, h12, h13, h14, h15, h16⟩ := id hF
  exact lv_ldcw h1 h2 h7 (h9 _ hq) hd (k (p, l, e, R, s, m, args, below, meth, c) hF hok H locs ls hH hlo hL)
theorem g_ldc2 {i : Nat} {v : Int64} (hd : decode (bcd X) pc = .ok (.ldc2_w i, 3)) (hp : pc + 3 = pc') (hq : Cond.constantLong (bown X) i v ∈ lw_all) (k : bG X w pc' L (.long v :: rest)) : bG X w pc L (rest) := by
  subst hp
  obtain ⟨g, ⟨y, cc, nL, ret, hh, fr, lo⟩, n0, u0, Q⟩ := X
  rintro ⟨p, l, e, R, s, m, args, below, meth, c⟩ hF hok H locs ls hH hlo hL
  obtain ⟨h1, h2, h3, h4, h5, h6, h7, h8, h9, h10, h11, h12, h13, h14, h15, h16⟩ := id hF
  exact lv_ldc2 h1 h2 h7 (h9 _ hq) hd (k (p, l, e, R, s, m, args, below, meth, c) hF hok H locs ls hH hlo hL)
theorem g_iload_n {j : Fin 4} {i : Nat} {x : Int32} (hd : decode (bcd X) pc = .ok (.iload_n j, 1)) (hp : pc + 1 = pc') (hj : (j : Nat) = i) (hi : L[i]? = some (some (.int x))) (k : bG X w pc' L (.int x :: rest)) : bG X w pc L (rest) := by
  subst hp
  obtain ⟨g, ⟨y, cc, nL, ret, hh, fr, lo⟩, n0, u0, Q⟩ := X
  rintro ⟨p, l, e, R, s, m, args, below, meth, c⟩ hF hok H locs ls hH hlo hL
  obtain ⟨h1, h2, h3, h4, h5, h6, h7, h8, h9, h10, h11, h12, h13, h14, h15, h16⟩ := id hF
  exact lv_iload_n h1 h2 hd hj (hL.at hi) (k (p, l, e, R, s, m, args, below, meth, c) hF hok H locs ls hH hlo hL)
theorem g_iload {i : Nat} {x : Int32} (hd : decode (bcd X) pc = .ok (.iload i, 2)) (hp : pc + 2 = pc') (hi : L[i]? = some (some (.int x))) (k : bG X w pc' L (.int x :: rest)) : bG X w pc L (rest) := by
  subst hp
  obtain ⟨g, ⟨y, cc, nL, ret, hh, fr, lo⟩, n0, u0, Q⟩ := X
  rintro ⟨p, l, e, R, s, m, args, below, meth, c⟩ hF hok H locs ls hH hlo hL
  obtain ⟨h1, h2, h3, h4, h5, h6, h7, h8, h9, h10, h11, h12, h13, h14, h15, h16⟩ := id hF
  exact lv_iload h1 h2 hd (hL.at hi) (k (p, l, e, R, s, m, args, below, meth, c) hF hok H locs ls hH hlo hL)
theorem g_lload_n {j : Fin 4} {i : Nat} {x : Int64} (hd : decode (bcd X) pc = .ok (.lload_n j, 1)) (hp : pc + 1 = pc') (hj : (j : Nat) = i) (hi : L[i]? = some (some (.long x))) (k : bG X w pc' L (.long x :: rest)) : bG X w pc L (rest) := by
  subst hp
  obtain ⟨g, ⟨y, cc, nL, ret, hh, fr, lo⟩, n0, u0, Q⟩ := X
  rintro ⟨p, l, e, R, s, m, args, below, meth, c⟩ hF hok H locs ls hH hlo hL
  obtain ⟨h1, h2, h3, h4, h5, h6, h7, h8, h9, h10, h11, h12, h13, h14, h15, h16⟩ := id hF
  exact lv_lload_n h1 h2 hd hj (hL.at hi) (k (p, l, e, R, s, m, args, below, meth, c) hF hok H locs ls hH hlo hL)
theorem g_lload {i : Nat} {x : Int64} (hd : decode (bcd X) pc = .ok (.lload i, 2)) (hp : pc + 2 = pc') (hi : L[i]? = some (some (.long x))) (k : bG X w pc' L (.long x :: rest)) : bG X w pc L (rest) := by
  subst hp
  obtain ⟨g, ⟨y, cc, nL, ret, hh, fr, lo⟩, n0, u0, Q⟩ := X
  rintro ⟨p, l, e, R, s, m, args, below, meth, c⟩ hF hok H locs ls hH hlo hL
  obtain ⟨h1, h2, h3, h4, h5, h6, h7, h8, h9, h10, h11, h12, h13, h14, h15, h16⟩ := id hF
  exact lv_lload h1 h2 hd (hL.at hi) (k (p, l, e, R, s, m, args, below, meth, c) hF hok H locs ls hH hlo hL)
theorem g_aload_n {j : Fin 4} {i : Nat} {x : Nat} (hd : decode (bcd X) pc = .ok (.aload_n j, 1)) (hp : pc + 1 = pc') (hj : (j : Nat) = i) (hi : L[i]? = some (some (.ref x))) (k : bG X w pc' L (.ref x :: rest)) : bG X w pc L (rest) := by
  subst hp
  obtain ⟨g, ⟨y, cc, nL, ret, hh, fr, lo⟩, n0, u0, Q⟩ := X
  rintro ⟨p, l, e, R, s, m, args, below, meth, c⟩ hF hok H locs ls hH hlo hL
  obtain ⟨h1, h2, h3, h4, h5, h6, h7, h8, h9, h10, h11, h12, h13, h14, h15, h16⟩ := id hF
  exact lv_aload_n h1 h2 hd hj (hL.at hi) (k (p, l, e, R, s, m, args, below, meth, c) hF hok H locs ls hH hlo hL)
theorem g_aload {i : Nat} {x : Nat} (hd : decode (bcd X) pc = .ok (.aload i, 2)) (hp : pc + 2 = pc') (hi : L[i]? = some (some (.ref x))) (k : bG X w pc' L (.ref x :: rest)) : bG X w pc L (rest) := by
  subst hp
  obtain ⟨g, ⟨y, cc, nL, ret, hh, fr, lo⟩, n0, u0, Q⟩ := X
  rintro ⟨p, l, e, R, s, m, args, below, meth, c⟩ hF hok H locs ls hH hlo hL
  obtain ⟨h1, h2, h3, h4, h5, h6, h7, h8, h9, h10, h11, h12, h13, h14, h15, h16⟩ := id hF
  exact lv_aload h1 h2 hd (hL.at hi) (k (p, l, e, R, s, m, args, below, meth, c) hF hok H locs ls hH hlo hL)
theorem g_aload_nN {j : Fin 4} {i : Nat} (hd : decode (bcd X) pc = .ok (.aload_n j, 1)) (hp : pc + 1 = pc') (hj : (j : Nat) = i) (hi : L[i]? = some (some .null)) (k : bG X w pc' L (.null :: rest)) : bG X w pc L (rest) := by
  subst hp
  obtain ⟨g, ⟨y, cc, nL, ret, hh, fr, lo⟩, n0, u0, Q⟩ := X
  rintro ⟨p, l, e, R, s, m, args, below, meth, c⟩ hF hok H locs ls hH hlo hL
  obtain ⟨h1, h2, h3, h4, h5, h6, h7, h8, h9, h10, h11, h12, h13, h14, h15, h16⟩ := id hF
  exact lv_aload_nN h1 h2 hd hj (hL.at hi) (k (p, l, e, R, s, m, args, below, meth, c) hF hok H locs ls hH hlo hL)
theorem g_istore_n {j : Fin 4} {i : Nat} {x : Int32} (hd : decode (bcd X) pc = .ok (.istore_n j, 1)) (hp : pc + 1 = pc') (hj : (j : Nat) = i) (hn : i < X.2.1.2.2.1) (h2L : b2 L i = true) (hL2 : bs1 L i (.int x) = L') (k : bG X w pc' L' rest) : bG X w pc L (.int x :: rest) := by
  subst hp
  obtain ⟨g, ⟨y, cc, nL, ret, hh, fr, lo⟩, n0, u0, Q⟩ := X
  rintro ⟨p, l, e, R, s, m, args, below, meth, c⟩ hF hok H locs ls hH hlo hL
  obtain ⟨h1, h2, h3, h4, h5, h6, h7, h8, h9, h10, h11, h12, h13, h14, h15, h16⟩ := id hF
  exact lv_istore_n h1 h2 hd hj (bLH_pr hL) hn rfl (fun ls' h' => k (p, l, e, R, s, m, args, below, meth, c) hF hok H locs ls' hH hlo (by rw [← hL2]; exact bLH_s1 h2L h'))
theorem g_istore {i : Nat} {x : Int32} (hd : decode (bcd X) pc = .ok (.istore i, 2)) (hp : pc + 2 = pc') (hn : i < X.2.1.2.2.1) (h2L : b2 L i = true) (hL2 : bs1 L i (.int x) = L') (k : bG X w pc' L' rest) : bG X w pc L (.int x :: rest) := by
  subst hp
  obtain ⟨g, ⟨y, cc, nL, ret, hh, fr, lo⟩, n0, u0, Q⟩ := X
  rintro ⟨p, l, e, R, s, m, args, below, meth, c⟩ hF hok H locs ls hH hlo hL
  obtain ⟨h1, h2, h3, h4, h5, h6, h7, h8, h9, h10, h11, h12, h13, h14, h15, h16⟩ := id hF
  exact lv_istore h1 h2 hd (bLH_pr hL) hn rfl (fun ls' h' => k (p, l, e, R, s, m, args, below, meth, c) hF hok H locs ls' hH hlo (by rw [← hL2]; exact bLH_s1 h2L h'))
theorem g_astore_n {j : Fin 4} {i : Nat} {x : Nat} (hd : decode (bcd X) pc = .ok (.astore_n j, 1)) (hp : pc + 1 = pc') (hj : (j : Nat) = i) (hn : i < X.2.1.2.2.1) (h2L : b2 L i = true) (hL2 : bs1 L i (.ref x) = L') (k : bG X w pc' L' rest) : bG X w pc L (.ref x :: rest) := by
  subst hp
  obtain ⟨g, ⟨y, cc, nL, ret, hh, fr, lo⟩, n0, u0, Q⟩ := X
  rintro ⟨p, l, e, R, s, m, args, below, meth, c⟩ hF hok H locs ls hH hlo hL
  obtain ⟨h1, h2, h3, h4, h5, h6, h7, h8, h9, h10, h11, h12, h13, h14, h15, h16⟩ := id hF
  exact lv_astore_n h1 h2 hd hj (bLH_pr hL) hn rfl (fun ls' h' => k (p, l, e, R, s, m, args, below, meth, c) hF hok H locs ls' hH hlo (by rw [← hL2]; exact bLH_s1 h2L h'))
theorem g_astore {i : Nat} {x : Nat} (hd : decode (bcd X) pc = .ok (.astore i, 2)) (hp : pc + 2 = pc') (hn : i < X.2.1.2.2.1) (h2L : b2 L i = true) (hL2 : bs1 L i (.ref x) = L') (k : bG X w pc' L' rest) : bG X w pc L (.ref x :: rest) := by
  subst hp
  obtain ⟨g, ⟨y, cc, nL, ret, hh, fr, lo⟩, n0, u0, Q⟩ := X
  rintro ⟨p, l, e, R, s, m, args, below, meth, c⟩ hF hok H locs ls hH hlo hL
  obtain ⟨h1, h2, h3, h4, h5, h6, h7, h8, h9, h10, h11, h12, h13, h14, h15, h16⟩ := id hF
  exact lv_astore h1 h2 hd (bLH_pr hL) hn rfl (fun ls' h' => k (p, l, e, R, s, m, args, below, meth, c) hF hok H locs ls' hH hlo (by rw [← hL2]; exact bLH_s1 h2L h'))
theorem g_lstore_n {j : Fin 4} {i : Nat} {x : Int64} (hd : decode (bcd X) pc = .ok (.lstore_n j, 1)) (hp : pc + 1 = pc') (hj : (j : Nat) = i) (hn : i + 1 < X.2.1.2.2.1) (h2L : b2 L i = true) (hL2 : bs2 L i (.long x) = L') (k : bG X w pc' L' rest) : bG X w pc L (.long x :: rest) := by
  subst hp
  obtain ⟨g, ⟨y, cc, nL, ret, hh, fr, lo⟩, n0, u0, Q⟩ := X
  rintro ⟨p, l, e, R, s, m, args, below, meth, c⟩ hF hok H locs ls hH hlo hL
  obtain ⟨h1, h2, h3, h4, h5, h6, h7, h8, h9, h10, h11, h12, h13, h14, h15, h16⟩ := id hF
  exact lv_lstore_n h1 h2 hd hj (bLH_pr hL) hn rfl (fun ls' h' => k (p, l, e, R, s, m, args, below, meth, c) hF hok H locs ls' hH hlo (by rw [← hL2]; exact bLH_s2 h2L h'))
theorem g_lstore {i : Nat} {x : Int64} (hd : decode (bcd X) pc = .ok (.lstore i, 2)) (hp : pc + 2 = pc') (hn : i + 1 < X.2.1.2.2.1) (h2L : b2 L i = true) (hL2 : bs2 L i (.long x) = L') (k : bG X w pc' L' rest) : bG X w pc L (.long x :: rest) := by
  subst hp
  obtain ⟨g, ⟨y, cc, nL, ret, hh, fr, lo⟩, n0, u0, Q⟩ := X
  rintro ⟨p, l, e, R, s, m, args, below, meth, c⟩ hF hok H locs ls hH hlo hL
  obtain ⟨h1, h2, h3, h4, h5, h6, h7, h8, h9, h10, h11, h12, h13, h14, h15, h16⟩ := id hF
  exact lv_lstore h1 h2 hd (bLH_pr hL) hn rfl (fun ls' h' => k (p, l, e, R, s, m, args, below, meth, c) hF hok H locs ls' hH hlo (by rw [← hL2]; exact bLH_s2 h2L h'))
theorem g_astore_nN {j : Fin 4} {i : Nat} (hd : decode (bcd X) pc = .ok (.astore_n j, 1)) (hp : pc + 1 = pc') (hj : (j : Nat) = i) (hn : i < X.2.1.2.2.1) (h2L : b2 L i = true) (hL2 : bs1 L i (.null) = L') (k : bG X w pc' L' rest) : bG X w pc L (.null :: rest) := by
  subst hp
  obtain ⟨g, ⟨y, cc, nL, ret, hh, fr, lo⟩, n0, u0, Q⟩ := X
  rintro ⟨p, l, e, R, s, m, args, below, meth, c⟩ hF hok H locs ls hH hlo hL
  obtain ⟨h1, h2, h3, h4, h5, h6, h7, h8, h9, h10, h11, h12, h13, h14, h15, h16⟩ := id hF
  exact lv_astore_nN h1 h2 hd hj (bLH_pr hL) hn rfl (fun ls' h' => k (p, l, e, R, s, m, args, below, meth, c) hF hok H locs ls' hH hlo (by rw [← hL2]; exact bLH_s1 h2L h'))
theorem g_iinc {i : Nat} {n : Int} {x v : Int32} (hd : decode (bcd X) pc = .ok (.iinc i n, 3)) (hp : pc + 3 = pc') (hi : L[i]? = some (some (.int x))) (hv : x + Int32.ofInt n = v) (hn : i < X.2.1.2.2.1) (h2L : b2 L i = true) (hL2 : bs1 L i (.int v) = L') (k : bG X w pc' L' rest) : bG X w pc L rest := by
  subst hp
  obtain ⟨g, ⟨y, cc, nL, ret, hh, fr, lo⟩, n0, u0, Q⟩ := X
  rintro ⟨p, l, e, R, s, m, args, below, meth, c⟩ hF hok H locs ls hH hlo hL
  obtain ⟨h1, h2, h3, h4, h5, h6, h7, h8, h9, h10, h11, h12, h13, h14, h15, h16⟩ := id hF
  obtain ⟨kk, hkk⟩ := List.getElem?_of_mem (bPr_mem.mpr hi)
  exact lv_iinc (k := kk) h1 h2 hd (bLH_pr hL) hkk hv hn rfl (fun ls' h' => k (p, l, e, R, s, m, args, below, meth, c) hF hok H locs ls' hH hlo (by rw [← hL2]; exact bLH_s1 h2L h'))
theorem g_iadd {x y : Int32} (hd : decode (bcd X) pc = .ok (.iadd, 1)) (hp : pc + 1 = pc') (k : bG X w pc' L (.int (x + y) :: rest)) : bG X w pc L (.int y :: .int x :: rest) := by
  subst hp
  obtain ⟨g, ⟨y, cc, nL, ret, hh, fr, lo⟩, n0, u0, Q⟩ := X
  rintro ⟨p, l, e, R, s, m, args, below, meth, c⟩ hF hok H locs ls hH hlo hL
  obtain ⟨h1, h2, h3, h4, h5, h6, h7, h8, h9, h10, h11, h12, h13, h14, h15, h16⟩ := id hF
  exact lv_iadd h1 h2 hd (k (p, l, e, R, s, m, args, below, meth, c) hF hok H locs ls hH hlo hL)
theorem g_isub {x y : Int32} (hd : decode (bcd X) pc = .ok (.isub, 1)) (hp : pc + 1 = pc') (k : bG X w pc' L (.int (x - y) :: rest)) : bG X w pc L (.int y :: .int x :: rest) := by
  subst hp
  obtain ⟨g, ⟨y, cc, nL, ret, hh, fr, lo⟩, n0, u0, Q⟩ := X
  rintro ⟨p, l, e, R, s, m, args, below, meth, c⟩ hF hok H locs ls hH hlo hL
  obtain ⟨h1, h2, h3, h4, h5, h6, h7, h8, h9, h10, h11, h12, h13, h14, h15, h16⟩ := id hF
  exact lv_isub h1 h2 hd (k (p, l, e, R, s, m, args, below, meth, c) hF hok H locs ls hH hlo hL)
theorem g_imul {x y : Int32} (hd : decode (bcd X) pc = .ok (.imul, 1)) (hp : pc + 1 = pc') (k : bG X w pc' L (.int (x * y) :: rest)) : bG X w pc L (.int y :: .int x :: rest) := by
  subst hp
  obtain ⟨g, ⟨y, cc, nL, ret, hh, fr, lo⟩, n0, u0, Q⟩ := X
  rintro ⟨p, l, e, R, s, m, args, below, meth, c⟩ hF hok H locs ls hH hlo hL
  obtain ⟨h1, h2, h3, h4, h5, h6, h7, h8, h9, h10, h11, h12, h13, h14, h15, h16⟩ := id hF
  exact lv_imul h1 h2 hd (k (p, l, e, R, s, m, args, below, meth, c) hF hok H locs ls hH hlo hL)
theorem g_iand {x y : Int32} (hd : decode (bcd X) pc = .ok (.iand, 1)) (hp : pc + 1 = pc') (k : bG X w pc' L (.int (x &&& y) :: rest)) : bG X w pc L (.int y :: .int x :: rest) := by
  subst hp
  obtain ⟨g, ⟨y, cc, nL, ret, hh, fr, lo⟩, n0, u0, Q⟩ := X
  rintro ⟨p, l, e, R, s, m, args, below, meth, c⟩ hF hok H locs ls hH hlo hL
  obtain ⟨h1, h2, h3, h4, h5, h6, h7, h8, h9, h10, h11, h12, h13, h14, h15, h16⟩ := id hF
  exact lv_iand h1 h2 hd (k (p, l, e, R, s, m, args, below, meth, c) hF hok H locs ls hH hlo hL)
theorem g_ior {x y : Int32} (hd : decode (bcd X) pc = .ok (.ior, 1)) (hp : pc + 1 = pc') (k : bG X w pc' L (.int (x ||| y) :: rest)) : bG X w pc L (.int y :: .int x :: rest) := by
  subst hp
  obtain ⟨g, ⟨y, cc, nL, ret, hh, fr, lo⟩, n0, u0, Q⟩ := X
  rintro ⟨p, l, e, R, s, m, args, below, meth, c⟩ hF hok H locs ls hH hlo hL
  obtain ⟨h1, h2, h3, h4, h5, h6, h7, h8, h9, h10, h11, h12, h13, h14, h15, h16⟩ := id hF
  exact lv_ior h1 h2 hd (k (p, l, e, R, s, m, args, below, meth, c) hF hok H locs ls hH hlo hL)
theorem g_ixor {x y : Int32} (hd : decode (bcd X) pc = .ok (.ixor, 1)) (hp : pc + 1 = pc') (k : bG X w pc' L (.int (x ^^^ y) :: rest)) : bG X w pc L (.int y :: .int x :: rest) := by
  subst hp
  obtain ⟨g, ⟨y, cc, nL, ret, hh, fr, lo⟩, n0, u0, Q⟩ := X
  rintro ⟨p, l, e, R, s, m, args, below, meth, c⟩ hF hok H locs ls hH hlo hL
  obtain ⟨h1, h2, h3, h4, h5, h6, h7, h8, h9, h10, h11, h12, h13, h14, h15, h16⟩ := id hF
  exact lv_ixor h1 h2 hd (k (p, l, e, R, s, m, args, below, meth, c) hF hok H locs ls hH hlo hL)
theorem g_ishl {x y : Int32} (hd : decode (bcd X) pc = .ok (.ishl, 1)) (hp : pc + 1 = pc') (k : bG X w pc' L (.int (x <<< (y &&& 31)) :: rest)) : bG X w pc L (.int y :: .int x :: rest) := by
  subst hp
  obtain ⟨g, ⟨y, cc, nL, ret, hh, fr, lo⟩, n0, u0, Q⟩ := X
  rintro ⟨p, l, e, R, s, m, args, below, meth, c⟩ hF hok H locs ls hH hlo hL
  obtain ⟨h1, h2, h3, h4, h5, h6, h7, h8, h9, h10, h11, h12, h13, h14, h15, h16⟩ := id hF
  exact lv_ishl h1 h2 hd (k (p, l, e, R, s, m, args, below, meth, c) hF hok H locs ls hH hlo hL)
theorem g_ishr {x y : Int32} (hd : decode (bcd X) pc = .ok (.ishr, 1)) (hp : pc + 1 = pc') (k : bG X w pc' L (.int (x >>> (y &&& 31)) :: rest)) : bG X w pc L (.int y :: .int x :: rest) := by
  subst hp
  obtain ⟨g, ⟨y, cc, nL, ret, hh, fr, lo⟩, n0, u0, Q⟩ := X
  rintro ⟨p, l, e, R, s, m, args, below, meth, c⟩ hF hok H locs ls hH hlo hL
  obtain ⟨h1, h2, h3, h4, h5, h6, h7, h8, h9, h10, h11, h12, h13, h14, h15, h16⟩ := id hF
  exact lv_ishr h1 h2 hd (k (p, l, e, R, s, m, args, below, meth, c) hF hok H locs ls hH hlo hL)
theorem g_iushr {x y : Int32} (hd : decode (bcd X) pc = .ok (.iushr, 1)) (hp : pc + 1 = pc') (k : bG X w pc' L (.int ((x.toUInt32 >>> (y.toUInt32 &&& Int32.toUInt32 31)).toInt32) :: rest)) : bG X w pc L (.int y :: .int x :: rest) := by
  subst hp
  obtain ⟨g, ⟨y, cc, nL, ret, hh, fr, lo⟩, n0, u0, Q⟩ := X
  rintro ⟨p, l, e, R, s, m, args, below, meth, c⟩ hF hok H locs ls hH hlo hL
  obtain ⟨h1, h2, h3, h4, h5, h6, h7, h8, h9, h10, h11, h12, h13, h14, h15, h16⟩ := id hF
  exact lv_iushr h1 h2 hd rfl (k (p, l, e, R, s, m, args, below, meth, c) hF hok H locs ls hH hlo hL)
theorem g_idiv {x y : Int32} (hd : decode (bcd X) pc = .ok (.idiv, 1)) (hp : pc + 1 = pc') (hy : ¬ y = 0) (k : bG X w pc' L (.int (x / y) :: rest)) : bG X w pc L (.int y :: .int x :: rest) := by
  subst hp
  obtain ⟨g, ⟨y, cc, nL, ret, hh, fr, lo⟩, n0, u0, Q⟩ := X
  rintro ⟨p, l, e, R, s, m, args, below, meth, c⟩ hF hok H locs ls hH hlo hL
  obtain ⟨h1, h2, h3, h4, h5, h6, h7, h8, h9, h10, h11, h12, h13, h14, h15, h16⟩ := id hF
  exact lv_idiv h1 h2 hd hy (k (p, l, e, R, s, m, args, below, meth, c) hF hok H locs ls hH hlo hL)
theorem g_irem {x y : Int32} (hd : decode (bcd X) pc = .ok (.irem, 1)) (hp : pc + 1 = pc') (hy : ¬ y = 0) (k : bG X w pc' L (.int (x - x / y * y) :: rest)) : bG X w pc L (.int y :: .int x :: rest) := by
  subst hp
  obtain ⟨g, ⟨y, cc, nL, ret, hh, fr, lo⟩, n0, u0, Q⟩ := X
  rintro ⟨p, l, e, R, s, m, args, below, meth, c⟩ hF hok H locs ls hH hlo hL
  obtain ⟨h1, h2, h3, h4, h5, h6, h7, h8, h9, h10, h11, h12, h13, h14, h15, h16⟩ := id hF
  exact lv_irem h1 h2 hd hy (k (p, l, e, R, s, m, args, below, meth, c) hF hok H locs ls hH hlo hL)
theorem g_ladd {x y : Int64} (hd : decode (bcd X) pc = .ok (.ladd, 1)) (hp : pc + 1 = pc') (k : bG X w pc' L (.long (x + y) :: rest)) : bG X w pc L (.long y :: .long x :: rest) := by
  subst hp
  obtain ⟨g, ⟨y, cc, nL, ret, hh, fr, lo⟩, n0, u0, Q⟩ := X
  rintro ⟨p, l, e, R, s, m, args, below, meth, c⟩ hF hok H locs ls hH hlo hL
  obtain ⟨h1, h2, h3, h4, h5, h6, h7, h8, h9, h10, h11, h12, h13, h14, h15, h16⟩ := id hF
  exact lv_ladd h1 h2 hd (k (p, l, e, R, s, m, args, below, meth, c) hF hok H locs ls hH hlo hL)
theorem g_lsub {x y : Int64} (hd : decode (bcd X) pc = .ok (.lsub, 1)) (hp : pc + 1 = pc') (k : bG X w pc' L (.long (x - y) :: rest)) : bG X w pc L (.long y :: .long x :: rest) := by
  subst hp
  obtain ⟨g, ⟨y, cc, nL, ret, hh, fr, lo⟩, n0, u0, Q⟩ := X
  rintro ⟨p, l, e, R, s, m, args, below, meth, c⟩ hF hok H locs ls hH hlo hL
  obtain ⟨h1, h2, h3, h4, h5, h6, h7, h8, h9, h10, h11, h12, h13, h14, h15, h16⟩ := id hF
  exact lv_lsub h1 h2 hd (k (p, l, e, R, s, m, args, below, meth, c) hF hok H locs ls hH hlo hL)
theorem g_lmul {x y : Int64} (hd : decode (bcd X) pc = .ok (.lmul, 1)) (hp : pc + 1 = pc') (k : bG X w pc' L (.long (x * y) :: rest)) : bG X w pc L (.long y :: .long x :: rest) := by
  subst hp
  obtain ⟨g, ⟨y, cc, nL, ret, hh, fr, lo⟩, n0, u0, Q⟩ := X
  rintro ⟨p, l, e, R, s, m, args, below, meth, c⟩ hF hok H locs ls hH hlo hL
  obtain ⟨h1, h2, h3, h4, h5, h6, h7, h8, h9, h10, h11, h12, h13, h14, h15, h16⟩ := id hF
  exact lv_lmul h1 h2 hd (k (p, l, e, R, s, m, args, below, meth, c) hF hok H locs ls hH hlo hL)
theorem g_land {x y : Int64} (hd : decode (bcd X) pc = .ok (.land, 1)) (hp : pc + 1 = pc') (k : bG X w pc' L (.long (x &&& y) :: rest)) : bG X w pc L (.long y :: .long x :: rest) := by
  subst hp
  obtain ⟨g, ⟨y, cc, nL, ret, hh, fr, lo⟩, n0, u0, Q⟩ := X
  rintro ⟨p, l, e, R, s, m, args, below, meth, c⟩ hF hok H locs ls hH hlo hL
  obtain ⟨h1, h2, h3, h4, h5, h6, h7, h8, h9, h10, h11, h12, h13, h14, h15, h16⟩ := id hF
  exact lv_land h1 h2 hd (k (p, l, e, R, s, m, args, below, meth, c) hF hok H locs ls hH hlo hL)
theorem g_lor {x y : Int64} (hd : decode (bcd X) pc = .ok (.lor, 1)) (hp : pc + 1 = pc') (k : bG X w pc' L (.long (x ||| y) :: rest)) : bG X w pc L (.long y :: .long x :: rest) := by
  subst hp
  obtain ⟨g, ⟨y, cc, nL, ret, hh, fr, lo⟩, n0, u0, Q⟩ := X
  rintro ⟨p, l, e, R, s, m, args, below, meth, c⟩ hF hok H locs ls hH hlo hL
  obtain ⟨h1, h2, h3, h4, h5, h6, h7, h8, h9, h10, h11, h12, h13, h14, h15, h16⟩ := id hF
  exact lv_lor h1 h2 hd (k (p, l, e, R, s, m, args, below, meth, c) hF hok H locs ls hH hlo hL)
theorem g_lxor {x y : Int64} (hd : decode (bcd X) pc = .ok (.lxor, 1)) (hp : pc + 1 = pc') (k : bG X w pc' L (.long (x ^^^ y) :: rest)) : bG X w pc L (.long y :: .long x :: rest) := by
  subst hp
  obtain ⟨g, ⟨y, cc, nL, ret, hh, fr, lo⟩, n0, u0, Q⟩ := X
  rintro ⟨p, l, e, R, s, m, args, below, meth, c⟩ hF hok H locs ls hH hlo hL
  obtain ⟨h1, h2, h3, h4, h5, h6, h7, h8, h9, h10, h11, h12, h13, h14, h15, h16⟩ := id hF
  exact lv_lxor h1 h2 hd (k (p, l, e, R, s, m, args, below, meth, c) hF hok H locs ls hH hlo hL)
theorem g_lshl {x : Int64} {y : Int32} (hd : decode (bcd X) pc = .ok (.lshl, 1)) (hp : pc + 1 = pc') (k : bG X w pc' L (.long (x <<< (y.toInt64 &&& 63)) :: rest)) : bG X w pc L (.int y :: .long x :: rest) := by
  subst hp
  obtain ⟨g, ⟨y, cc, nL, ret, hh, fr, lo⟩, n0, u0, Q⟩ := X
  rintro ⟨p, l, e, R, s, m, args, below, meth, c⟩ hF hok H locs ls hH hlo hL
  obtain ⟨h1, h2, h3, h4, h5, h6, h7, h8, h9, h10, h11, h12, h13, h14, h15, h16⟩ := id hF
  exact lv_lshl h1 h2 hd rfl (k (p, l, e, R, s, m, args, below, meth, c) hF hok H locs ls hH hlo hL)
theorem g_i2l {x : Int32} (hd : decode (bcd X) pc = .ok (.i2l, 1)) (hp : pc + 1 = pc') (k : bG X w pc' L (.long x.toInt64 :: rest)) : bG X w pc L (.int x :: rest) := by
  subst hp
  obtain ⟨g, ⟨y, cc, nL, ret, hh, fr, lo⟩, n0, u0, Q⟩ := X
  rintro ⟨p, l, e, R, s, m, args, below, meth, c⟩ hF hok H locs ls hH hlo hL
  obtain ⟨h1, h2, h3, h4, h5, h6, h7, h8, h9, h10, h11, h12, h13, h14, h15, h16⟩ := id hF
  exact lv_i2l h1 h2 hd rfl (k (p, l, e, R, s, m, args, below, meth, c) hF hok H locs ls hH hlo hL)
theorem g_l2i {x : Int64} (hd : decode (bcd X) pc = .ok (.l2i, 1)) (hp : pc + 1 = pc') (k : bG X w pc' L (.int x.toInt32 :: rest)) : bG X w pc L (.long x :: rest) := by
  subst hp
  obtain ⟨g, ⟨y, cc, nL, ret, hh, fr, lo⟩, n0, u0, Q⟩ := X
  rintro ⟨p, l, e, R, s, m, args, below, meth, c⟩ hF hok H locs ls hH hlo hL
  obtain ⟨h1, h2, h3, h4, h5, h6, h7, h8, h9, h10, h11, h12, h13, h14, h15, h16⟩ := id hF
  exact lv_l2i h1 h2 hd rfl (k (p, l, e, R, s, m, args, below, meth, c) hF hok H locs ls hH hlo hL)
theorem g_i2b {x : Int32} (hd : decode (bcd X) pc = .ok (.i2b, 1)) (hp : pc + 1 = pc') (k : bG X w pc' L (.int x.toInt8.toInt32 :: rest)) : bG X w pc L (.int x :: rest) := by
  subst hp
  obtain ⟨g, ⟨y, cc, nL, ret, hh, fr, lo⟩, n0, u0, Q⟩ := X
  rintro ⟨p, l, e, R, s, m, args, below, meth, c⟩ hF hok H locs ls hH hlo hL
  obtain ⟨h1, h2, h3, h4, h5, h6, h7, h8, h9, h10, h11, h12, h13, h14, h15, h16⟩ := id hF
  exact lv_i2b h1 h2 hd rfl (k (p, l, e, R, s, m, args, below, meth, c) hF hok H locs ls hH hlo hL)
theorem g_i2s {x : Int32} (hd : decode (bcd X) pc = .ok (.i2s, 1)) (hp : pc + 1 = pc') (k : bG X w pc' L (.int x.toInt16.toInt32 :: rest)) : bG X w pc L (.int x :: rest) := by
  subst hp
  obtain ⟨g, ⟨y, cc, nL, ret, hh, fr, lo⟩, n0, u0, Q⟩ := X
  rintro ⟨p, l, e, R, s, m, args, below, meth, c⟩ hF hok H locs ls hH hlo hL
  obtain ⟨h1, h2, h3, h4, h5, h6, h7, h8, h9, h10, h11, h12, h13, h14, h15, h16⟩ := id hF
  exact lv_i2s h1 h2 hd rfl (k (p, l, e, R, s, m, args, below, meth, c) hF hok H locs ls hH hlo hL)
theorem g_i2c {x : Int32} (hd : decode (bcd X) pc = .ok (.i2c, 1)) (hp : pc + 1 = pc') (k : bG X w pc' L (.int (x.toUInt32 % 65536).toInt32 :: rest)) : bG X w pc L (.int x :: rest) := by
  subst hp
  obtain ⟨g, ⟨y, cc, nL, ret, hh, fr, lo⟩, n0, u0, Q⟩ := X
  rintro ⟨p, l, e, R, s, m, args, below, meth, c⟩ hF hok H locs ls hH hlo hL
  obtain ⟨h1, h2, h3, h4, h5, h6, h7, h8, h9, h10, h11, h12, h13, h14, h15, h16⟩ := id hF
  exact lv_i2c h1 h2 hd rfl (k (p, l, e, R, s, m, args, below, meth, c) hF hok H locs ls hH hlo hL)
theorem g_lcmp {x y : Int64} (hd : decode (bcd X) pc = .ok (.lcmp, 1)) (hp : pc + 1 = pc') (k : bG X w pc' L (.int (lg_cmp x y) :: rest)) : bG X w pc L (.long y :: .long x :: rest) := by
  subst hp
  obtain ⟨g, ⟨y, cc, nL, ret, hh, fr, lo⟩, n0, u0, Q⟩ := X
  rintro ⟨p, l, e, R, s, m, args, below, meth, c⟩ hF hok H locs ls hH hlo hL
  obtain ⟨h1, h2, h3, h4, h5, h6, h7, h8, h9, h10, h11, h12, h13, h14, h15, h16⟩ := id hF
  exact W.lcmp h1 h2 hd (k (p, l, e, R, s, m, args, below, meth, c) hF hok H locs ls hH hlo hL)
theorem g_dup {v : Value} (hd : decode (bcd X) pc = .ok (.dup, 1)) (hp : pc + 1 = pc') (hv : v.category = 1) (k : bG X w pc' L (v :: v :: rest)) : bG X w pc L (v :: rest) := by
  subst hp
  obtain ⟨g, ⟨y, cc, nL, ret, hh, fr, lo⟩, n0, u0, Q⟩ := X
  rintro ⟨p, l, e, R, s, m, args, below, meth, c⟩ hF hok H locs ls hH hlo hL
  obtain ⟨h1, h2, h3, h4, h5, h6, h7, h8, h9, h10, h11, h12, h13, h14, h15, h16⟩ := id hF
  exact lv_dup h1 h2 hd hv (k (p, l, e, R, s, m, args, below, meth, c) hF hok H locs ls hH hlo hL)
theorem g_pop {v : Value} (hd : decode (bcd X) pc = .ok (.pop, 1)) (hp : pc + 1 = pc') (hv : v.category = 1) (k : bG X w pc' L (rest)) : bG X w pc L (v :: rest) := by
  subst hp
  obtain ⟨g, ⟨y, cc, nL, ret, hh, fr, lo⟩, n0, u0, Q⟩ := X
  rintro ⟨p, l, e, R, s, m, args, below, meth, c⟩ hF hok H locs ls hH hlo hL
  obtain ⟨h1, h2, h3, h4, h5, h6, h7, h8, h9, h10, h11, h12, h13, h14, h15, h16⟩ := id hF
  exact lv_pop h1 h2 hd hv (k (p, l, e, R, s, m, args, below, meth, c) hF hok H locs ls hH hlo hL)
theorem g_dup2 {v v2 : Value} (hd : decode (bcd X) pc = .ok (.dup2, 1)) (hp : pc + 1 = pc') (hv : v.category = 1) (hv2 : v2.category = 1) (k : bG X w pc' L (v :: v2 :: v :: v2 :: rest)) : bG X w pc L (v :: v2 :: rest) := by
  subst hp
  obtain ⟨g, ⟨y, cc, nL, ret, hh, fr, lo⟩, n0, u0, Q⟩ := X
  rintro ⟨p, l, e, R, s, m, args, below, meth, c⟩ hF hok H locs ls hH hlo hL
  obtain ⟨h1, h2, h3, h4, h5, h6, h7, h8, h9, h10, h11, h12, h13, h14, h15, h16⟩ := id hF
  exact lv_dup2_11 h1 h2 hd hv hv2 (k (p, l, e, R, s, m, args, below, meth, c) hF hok H locs ls hH hlo hL)
theorem g_if_ne {x : Int32} {off : Int} {tgt : Nat} (hd : decode (bcd X) pc = .ok (.ifCond .ne off, 3)) (ht : (pc : Int) + off = (tgt : Int)) (hp : pc + 3 = pc') (kt : ¬ (x = 0) → bG X w tgt L rest) (kf : x = 0 → bG X w pc' L rest) : bG X w pc L (.int x :: rest) := by
  subst hp
  obtain ⟨g, ⟨y, cc, nL, ret, hh, fr, lo⟩, n0, u0, Q⟩ := X
  rintro ⟨p, l, e, R, s, m, args, below, meth, c⟩ hF hok H locs ls hH hlo hL
  obtain ⟨h1, h2, h3, h4, h5, h6, h7, h8, h9, h10, h11, h12, h13, h14, h15, h16⟩ := id hF
  exact lv_if_ne h1 h2 hd ht (fun h => kt h (p, l, e, R, s, m, args, below, meth, c) hF hok H locs ls hH hlo hL) (fun h => kf h (p, l, e, R, s, m, args, below, meth, c) hF hok H locs ls hH hlo hL)
theorem g_icmp_ne {x y : Int32} {off : Int} {tgt : Nat} (hd : decode (bcd X) pc = .ok (.if_icmp .ne off, 3)) (ht : (pc : Int) + off = (tgt : Int)) (hp : pc + 3 = pc') (kt : ¬ (x = y) → bG X w tgt L rest) (kf : x = y → bG X w pc' L rest) : bG X w pc L (.int y :: .int x :: rest) := by
  subst hp
  obtain ⟨g, ⟨y, cc, nL, ret, hh, fr, lo⟩, n0, u0, Q⟩ := X
  rintro ⟨p, l, e, R, s, m, args, below, meth, c⟩ hF hok H locs ls hH hlo hL
  obtain ⟨h1, h2, h3, h4, h5, h6, h7, h8, h9, h10, h11, h12, h13, h14, h15, h16⟩ := id hF
  exact lv_icmp_ne h1 h2 hd ht (fun h => kt h (p, l, e, R, s, m, args, below, meth, c) hF hok H locs ls hH hlo hL) (fun h => kf h (p, l, e, R, s, m, args, below, meth, c) hF hok H locs ls hH hlo hL)
theorem g_if_eq {x : Int32} {off : Int} {tgt : Nat} (hd : decode (bcd X) pc = .ok (.ifCond .eq off, 3)) (ht : (pc : Int) + off = (tgt : Int)) (hp : pc + 3 = pc') (kt : x = 0 → bG X w tgt L rest) (kf : ¬ (x = 0) → bG X w pc' L rest) : bG X w pc L (.int x :: rest) := by
  subst hp
  obtain ⟨g, ⟨y, cc, nL, ret, hh, fr, lo⟩, n0, u0, Q⟩ := X
  rintro ⟨p, l, e, R, s, m, args, below, meth, c⟩ hF hok H locs ls hH hlo hL
  obtain ⟨h1, h2, h3, h4, h5, h6, h7, h8, h9, h10, h11, h12, h13, h14, h15, h16⟩ := id hF
  exact lv_if_eq h1 h2 hd ht (fun h => kt h (p, l, e, R, s, m, args, below, meth, c) hF hok H locs ls hH hlo hL) (fun h => kf h (p, l, e, R, s, m, args, below, meth, c) hF hok H locs ls hH hlo hL)
theorem g_icmp_eq {x y : Int32} {off : Int} {tgt : Nat} (hd : decode (bcd X) pc = .ok (.if_icmp .eq off, 3)) (ht : (pc : Int) + off = (tgt : Int)) (hp : pc + 3 = pc') (kt : x = y → bG X w tgt L rest) (kf : ¬ (x = y) → bG X w pc' L rest) : bG X w pc L (.int y :: .int x :: rest) := by
  subst hp
  obtain ⟨g, ⟨y, cc, nL, ret, hh, fr, lo⟩, n0, u0, Q⟩ := X
  rintro ⟨p, l, e, R, s, m, args, below, meth, c⟩ hF hok H locs ls hH hlo hL
  obtain ⟨h1, h2, h3, h4, h5, h6, h7, h8, h9, h10, h11, h12, h13, h14, h15, h16⟩ := id hF
  exact lv_icmp_eq h1 h2 hd ht (fun h => kt h (p, l, e, R, s, m, args, below, meth, c) hF hok H locs ls hH hlo hL) (fun h => kf h (p, l, e, R, s, m, args, below, meth, c) hF hok H locs ls hH hlo hL)
theorem g_if_lt {x : Int32} {off : Int} {tgt : Nat} (hd : decode (bcd X) pc = .ok (.ifCond .lt off, 3)) (ht : (pc : Int) + off = (tgt : Int)) (hp : pc + 3 = pc') (kt : x < 0 → bG X w tgt L rest) (kf : ¬ (x < 0) → bG X w pc' L rest) : bG X w pc L (.int x :: rest) := by
  subst hp
  obtain ⟨g, ⟨y, cc, nL, ret, hh, fr, lo⟩, n0, u0, Q⟩ := X
  rintro ⟨p, l, e, R, s, m, args, below, meth, c⟩ hF hok H locs ls hH hlo hL
  obtain ⟨h1, h2, h3, h4, h5, h6, h7, h8, h9, h10, h11, h12, h13, h14, h15, h16⟩ := id hF
  exact lv_if_lt h1 h2 hd ht (fun h => kt h (p, l, e, R, s, m, args, below, meth, c) hF hok H locs ls hH hlo hL) (fun h => kf h (p, l, e, R, s, m, args, below, meth, c) hF hok H locs ls hH hlo hL)
theorem g_icmp_lt {x y : Int32} {off : Int} {tgt : Nat} (hd : decode (bcd X) pc = .ok (.if_icmp .lt off, 3)) (ht : (pc : Int) + off = (tgt : Int)) (hp : pc + 3 = pc') (kt : x < y → bG X w tgt L rest) (kf : ¬ (x < y) → bG X w pc' L rest) : bG X w pc L (.int y :: .int x :: rest) := by
  subst hp
  obtain ⟨g, ⟨y, cc, nL, ret, hh, fr, lo⟩, n0, u0, Q⟩ := X
  rintro ⟨p, l, e, R, s, m, args, below, meth, c⟩ hF hok H locs ls hH hlo hL
  obtain ⟨h1, h2, h3, h4, h5, h6, h7, h8, h9, h10, h11, h12, h13, h14, h15, h16⟩ := id hF
  exact lv_icmp_lt h1 h2 hd ht (fun h => kt h (p, l, e, R, s, m, args, below, meth, c) hF hok H locs ls hH hlo hL) (fun h => kf h (p, l, e, R, s, m, args, below, meth, c) hF hok H locs ls hH hlo hL)
theorem g_if_ge {x : Int32} {off : Int} {tgt : Nat} (hd : decode (bcd X) pc = .ok (.ifCond .ge off, 3)) (ht : (pc : Int) + off = (tgt : Int)) (hp : pc + 3 = pc') (kt : 0 ≤ x → bG X w tgt L rest) (kf : ¬ (0 ≤ x) → bG X w pc' L rest) : bG X w pc L (.int x :: rest) := by
  subst hp
  obtain ⟨g, ⟨y, cc, nL, ret, hh, fr, lo⟩, n0, u0, Q⟩ := X
  rintro ⟨p, l, e, R, s, m, args, below, meth, c⟩ hF hok H locs ls hH hlo hL
  obtain ⟨h1, h2, h3, h4, h5, h6, h7, h8, h9, h10, h11, h12, h13, h14, h15, h16⟩ := id hF
  exact lv_if_ge h1 h2 hd ht (fun h => kt h (p, l, e, R, s, m, args, below, meth, c) hF hok H locs ls hH hlo hL) (fun h => kf h (p, l, e, R, s, m, args, below, meth, c) hF hok H locs ls hH hlo hL)
theorem g_icmp_ge {x y : Int32} {off : Int} {tgt : Nat} (hd : decode (bcd X) pc = .ok (.if_icmp .ge off, 3)) (ht : (pc : Int) + off = (tgt : Int)) (hp : pc + 3 = pc') (kt : y ≤ x → bG X w tgt L rest) (kf : ¬ (y ≤ x) → bG X w pc' L rest) : bG X w pc L (.int y :: .int x :: rest) := by
  subst hp
  obtain ⟨g, ⟨y, cc, nL, ret, hh, fr, lo⟩, n0, u0, Q⟩ := X
  rintro ⟨p, l, e, R, s, m, args, below, meth, c⟩ hF hok H locs ls hH hlo hL
  obtain ⟨h1, h2, h3, h4, h5, h6, h7, h8, h9, h10, h11, h12, h13, h14, h15, h16⟩ := id hF
  exact lv_icmp_ge h1 h2 hd ht (fun h => kt h (p, l, e, R, s, m, args, below, meth, c) hF hok H locs ls hH hlo hL) (fun h => kf h (p, l, e, R, s, m, args, below, meth, c) hF hok H locs ls hH hlo hL)
theorem g_if_gt {x : Int32} {off : Int} {tgt : Nat} (hd : decode (bcd X) pc = .ok (.ifCond .gt off, 3)) (ht : (pc : Int) + off = (tgt : Int)) (hp : pc + 3 = pc') (kt : 0 < x → bG X w tgt L rest) (kf : ¬ (0 < x) → bG X w pc' L rest) : bG X w pc L (.int x :: rest) := by
  subst hp
  obtain ⟨g, ⟨y, cc, nL, ret, hh, fr, lo⟩, n0, u0, Q⟩ := X
  rintro ⟨p, l, e, R, s, m, args, below, meth, c⟩ hF hok H locs ls hH hlo hL
  obtain ⟨h1, h2, h3, h4, h5, h6, h7, h8, h9, h10, h11, h12, h13, h14, h15, h16⟩ := id hF
  exact lv_if_gt h1 h2 hd ht (fun h => kt h (p, l, e, R, s, m, args, below, meth, c) hF hok H locs ls hH hlo hL) (fun h => kf h (p, l, e, R, s, m, args, below, meth, c) hF hok H locs ls hH hlo hL)
theorem g_icmp_gt {x y : Int32} {off : Int} {tgt : Nat} (hd : decode (bcd X) pc = .ok (.if_icmp .gt off, 3)) (ht : (pc : Int) + off = (tgt : Int)) (hp : pc + 3 = pc') (kt : y < x → bG X w tgt L rest) (kf : ¬ (y < x) → bG X w pc' L rest) : bG X w pc L (.int y :: .int x :: rest) := by
  subst hp
  obtain ⟨g, ⟨y, cc, nL, ret, hh, fr, lo⟩, n0, u0, Q⟩ := X
  rintro ⟨p, l, e, R, s, m, args, below, meth, c⟩ hF hok H locs ls hH hlo hL
  obtain ⟨h1, h2, h3, h4, h5, h6, h7, h8, h9, h10, h11, h12, h13, h14, h15, h16⟩ := id hF
  exact lv_icmp_gt h1 h2 hd ht (fun h => kt h (p, l, e, R, s, m, args, below, meth, c) hF hok H locs ls hH hlo hL) (fun h => kf h (p, l, e, R, s, m, args, below, meth, c) hF hok H locs ls hH hlo hL)
theorem g_if_le {x : Int32} {off : Int} {tgt : Nat} (hd : decode (bcd X) pc = .ok (.ifCond .le off, 3)) (ht : (pc : Int) + off = (tgt : Int)) (hp : pc + 3 = pc') (kt : x ≤ 0 → bG X w tgt L rest) (kf : ¬ (x ≤ 0) → bG X w pc' L rest) : bG X w pc L (.int x :: rest) := by
  subst hp
  obtain ⟨g, ⟨y, cc, nL, ret, hh, fr, lo⟩, n0, u0, Q⟩ := X
  rintro ⟨p, l, e, R, s, m, args, below, meth, c⟩ hF hok H locs ls hH hlo hL
  obtain ⟨h1, h2, h3, h4, h5, h6, h7, h8, h9, h10, h11, h12, h13, h14, h15, h16⟩ := id hF
  exact lv_if_le h1 h2 hd ht (fun h => kt h (p, l, e, R, s, m, args, below, meth, c) hF hok H locs ls hH hlo hL) (fun h => kf h (p, l, e, R, s, m, args, below, meth, c) hF hok H locs ls hH hlo hL)
theorem g_icmp_le {x y : Int32} {off : Int} {tgt : Nat} (hd : decode (bcd X) pc = .ok (.if_icmp .le off, 3)) (ht : (pc : Int) + off = (tgt : Int)) (hp : pc + 3 = pc') (kt : x ≤ y → bG X w tgt L rest) (kf : ¬ (x ≤ y) → bG X w pc' L rest) : bG X w pc L (.int y :: .int x :: rest) := by
  subst hp
  obtain ⟨g, ⟨y, cc, nL, ret, hh, fr, lo⟩, n0, u0, Q⟩ := X
  rintro ⟨p, l, e, R, s, m, args, below, meth, c⟩ hF hok H locs ls hH hlo hL
  obtain ⟨h1, h2, h3, h4, h5, h6, h7, h8, h9, h10, h11, h12, h13, h14, h15, h16⟩ := id hF
  exact lv_icmp_le h1 h2 hd ht (fun h => kt h (p, l, e, R, s, m, args, below, meth, c) hF hok H locs ls hH hlo hL) (fun h => kf h (p, l, e, R, s, m, args, below, meth, c) hF hok H locs ls hH hlo hL)
theorem g_goto {off : Int} {tgt : Nat} (hd : decode (bcd X) pc = .ok (.goto off, 3)) (ht : (pc : Int) + off = (tgt : Int)) (k : bG X w tgt L rest) : bG X w pc L rest := by
  obtain ⟨g, ⟨y, cc, nL, ret, hh, fr, lo⟩, n0, u0, Q⟩ := X
  rintro ⟨p, l, e, R, s, m, args, below, meth, c⟩ hF hok H locs ls hH hlo hL
  obtain ⟨h1, h2, h3, h4, h5, h6, h7, h8, h9, h10, h11, h12, h13, h14, h15, h16⟩ := id hF
  exact lv_goto h1 h2 hd ht (k (p, l, e, R, s, m, args, below, meth, c) hF hok H locs ls hH hlo hL)
theorem g_ifnonnull {x : Nat} {off : Int} {tgt : Nat} (hd : decode (bcd X) pc = .ok (.ifnonnull off, 3)) (ht : (pc : Int) + off = (tgt : Int)) (k : bG X w tgt L rest) : bG X w pc L (.ref x :: rest) := by
  obtain ⟨g, ⟨y, cc, nL, ret, hh, fr, lo⟩, n0, u0, Q⟩ := X
  rintro ⟨p, l, e, R, s, m, args, below, meth, c⟩ hF hok H locs ls hH hlo hL
  obtain ⟨h1, h2, h3, h4, h5, h6, h7, h8, h9, h10, h11, h12, h13, h14, h15, h16⟩ := id hF
  exact lv_ifnonnull h1 h2 hd ht (k (p, l, e, R, s, m, args, below, meth, c) hF hok H locs ls hH hlo hL)
theorem g_ifnonnullN {off : Int} (hd : decode (bcd X) pc = .ok (.ifnonnull off, 3)) (hp : pc + 3 = pc') (k : bG X w pc' L rest) : bG X w pc L (.null :: rest) := by
  subst hp
  obtain ⟨g, ⟨y, cc, nL, ret, hh, fr, lo⟩, n0, u0, Q⟩ := X
  rintro ⟨p, l, e, R, s, m, args, below, meth, c⟩ hF hok H locs ls hH hlo hL
  obtain ⟨h1, h2, h3, h4, h5, h6, h7, h8, h9, h10, h11, h12, h13, h14, h15, h16⟩ := id hF
  exact lv_ifnonnullN h1 h2 hd (k (p, l, e, R, s, m, args, below, meth, c) hF hok H locs ls hH hlo hL)
theorem g_ifnull {x : Nat} {off : Int} (hd : decode (bcd X) pc = .ok (.ifnull off, 3)) (hp : pc + 3 = pc') (k : bG X w pc' L rest) : bG X w pc L (.ref x :: rest) := by
  subst hp
  obtain ⟨g, ⟨y, cc, nL, ret, hh, fr, lo⟩, n0, u0, Q⟩ := X
  rintro ⟨p, l, e, R, s, m, args, below, meth, c⟩ hF hok H locs ls hH hlo hL
  obtain ⟨h1, h2, h3, h4, h5, h6, h7, h8, h9, h10, h11, h12, h13, h14, h15, h16⟩ := id hF
  exact lv_ifnull h1 h2 hd (k (p, l, e, R, s, m, args, below, meth, c) hF hok H locs ls hH hlo hL)
theorem g_ifnullN {off : Int} {tgt : Nat} (hd : decode (bcd X) pc = .ok (.ifnull off, 3)) (ht : (pc : Int) + off = (tgt : Int)) (k : bG X w tgt L rest) : bG X w pc L (.null :: rest) := by
  obtain ⟨g, ⟨y, cc, nL, ret, hh, fr, lo⟩, n0, u0, Q⟩ := X
  rintro ⟨p, l, e, R, s, m, args, below, meth, c⟩ hF hok H locs ls hH hlo hL
  obtain ⟨h1, h2, h3, h4, h5, h6, h7, h8, h9, h10, h11, h12, h13, h14, h15, h16⟩ := id hF
  exact lv_ifnullN h1 h2 hd ht (k (p, l, e, R, s, m, args, below, meth, c) hF hok H locs ls hH hlo hL)
theorem g_tableIn {dflt lo hi : Int} {offs : Array Int} {len : Nat} {x : Int32} {off : Int} {tgt : Nat} (hd : decode (bcd X) pc = .ok (.tableswitch dflt lo hi offs, len)) (hx : ¬ x.toInt < lo) (hx2 : ¬ hi < x.toInt) (ho : offs[(x.toInt - lo).toNat]? = some off) (ht : (pc : Int) + off = (tgt : Int)) (k : bG X w tgt L rest) : bG X w pc L (.int x :: rest) := by
  obtain ⟨g, ⟨y, cc, nL, ret, hh, fr, lo⟩, n0, u0, Q⟩ := X
  rintro ⟨p, l, e, R, s, m, args, below, meth, c⟩ hF hok H locs ls hH hlo hL
  obtain ⟨h1, h2, h3, h4, h5, h6, h7, h8, h9, h10, h11, h12, h13, h14, h15, h16⟩ := id hF
  exact lv_tableIn h1 h2 hd hx hx2 ho ht (k (p, l, e, R, s, m, args, below, meth, c) hF hok H locs ls hH hlo hL)
theorem g_tableOut {dflt lo hi : Int} {offs : Array Int} {len : Nat} {x : Int32} {tgt : Nat} (hd : decode (bcd X) pc = .ok (.tableswitch dflt lo hi offs, len)) (hx : x.toInt < lo ∨ hi < x.toInt) (ht : (pc : Int) + dflt = (tgt : Int)) (k : bG X w tgt L rest) : bG X w pc L (.int x :: rest) := by
  obtain ⟨g, ⟨y, cc, nL, ret, hh, fr, lo⟩, n0, u0, Q⟩ := X
  rintro ⟨p, l, e, R, s, m, args, below, meth, c⟩ hF hok H locs ls hH hlo hL
  obtain ⟨h1, h2, h3, h4, h5, h6, h7, h8, h9, h10, h11, h12, h13, h14, h15, h16⟩ := id hF
  exact lv_tableOut h1 h2 hd hx ht (k (p, l, e, R, s, m, args, below, meth, c) hF hok H locs ls hH hlo hL)
theorem g_lookup {dflt : Int} {ps : Array (Int × Int)} {len : Nat} {x : Int32} {off : Int} {tgt : Nat} (hd : decode (bcd X) pc = .ok (.lookupswitch dflt ps, len)) (hps : (ps.toList.zip (ps.toList.drop 1)).all (fun (a, next) => a.1 < next.1) = true) (ho : Op.lookupswitch.offset ps.toList dflt x.toInt = off) (ht : (pc : Int) + off = (tgt : Int)) (k : bG X w tgt L rest) : bG X w pc L (.int x :: rest) := by
  obtain ⟨g, ⟨y, cc, nL, ret, hh, fr, lo⟩, n0, u0, Q⟩ := X
  rintro ⟨p, l, e, R, s, m, args, below, meth, c⟩ hF hok H locs ls hH hlo hL
  obtain ⟨h1, h2, h3, h4, h5, h6, h7, h8, h9, h10, h11, h12, h13, h14, h15, h16⟩ := id hF
  exact lv_lookup h1 h2 hd hps ho ht (k (p, l, e, R, s, m, args, below, meth, c) hF hok H locs ls hH hlo hL)
end ROWS
