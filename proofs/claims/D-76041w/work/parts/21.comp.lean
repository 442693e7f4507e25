/-! THE CLASS's ROWS: fields, casts, copies, statics (printed by tools/comp.py) -/
set_option maxRecDepth 100000
theorem fok_0 (k : Nat) (hk : k < 9) : bFok (okc 0) k (TX0 k) := fun c hc => by
  have := okc_eq hc
  subst this
  exact ⟨RX0, TX0, 9, tyX0, rfl, hk, in_X0, tyX0_ok, nmX0, rfl⟩
theorem fok_1 (k : Nat) (hk : k < 8) : bFok (okc 1) k (TX1 k) := fun c hc => by
  have := okc_eq hc
  subst this
  exact ⟨RX1, TX1, 8, tyX1, rfl, hk, in_X1, tyX1_ok, nmX1, rfl⟩
theorem fok_2 (k : Nat) (hk : k < 1) : bFok (okc 2) k (TX2 k) := fun c hc => by
  have := okc_eq hc
  subst this
  exact ⟨RX2, TX2, 1, tyX2, rfl, hk, in_X2, tyX2_ok, nmX2, rfl⟩
theorem fok_4 (k : Nat) (hk : k < 7) : bFok (okc 4) k (TX4 k) := fun c hc => by
  have := okc_eq hc
  subst this
  exact ⟨RX4, TX4, 7, tyX4, rfl, hk, in_X4, tyX4_ok, nmX4, rfl⟩
theorem fok_11 (k : Nat) (hk : k < 6) : bFok (okc 11) k (TX11 k) := fun c hc => by
  have := okc_eq hc
  subst this
  exact ⟨RX11, TX11, 6, tyX11, rfl, hk, in_X11, tyX11_ok, nmX11, rfl⟩
theorem fok_12 (k : Nat) (hk : k < 7) : bFok (okc 12) k (TX12 k) := fun c hc => by
  have := okc_eq hc
  subst this
  exact ⟨RX12, TX12, 7, tyX12, rfl, hk, in_X12, tyX12_ok, nmX12, rfl⟩
theorem fok_Ru : bFok okRu 0 ("RumourBeds$Rumour", "part", "[I", true) := fun c hc => by
  rcases okRu_eq hc with rfl | rfl | rfl | rfl | rfl | rfl
  · exact ⟨RX5, TX5, 1, tyX5, rfl, by decide, in_X5, tyX5_ok, nmX5, rfl⟩
  · exact ⟨RX6, TX6, 1, tyX6, rfl, by decide, in_X6, tyX6_ok, nmX6, rfl⟩
  · exact ⟨RX7, TX7, 1, tyX7, rfl, by decide, in_X7, tyX7_ok, nmX7, rfl⟩
  · exact ⟨RX8, TX8, 1, tyX8, rfl, by decide, in_X8, tyX8_ok, nmX8, rfl⟩
  · exact ⟨RX9, TX9, 1, tyX9, rfl, by decide, in_X9, tyX9_ok, nmX9, rfl⟩
  · exact ⟨RX10, TX10, 1, tyX10, rfl, by decide, in_X10, tyX10_ok, nmX10, rfl⟩
theorem fok_Th (k : Nat) (hk : k < 6) : bFok okTh k (TX4 k) := fun c hc => by
  rcases okTh_eq hc with rfl | rfl
  · exact ⟨RX4, TX4, 7, tyX4, rfl, by omega, in_X4, tyX4_ok, nmX4, rfl⟩
  · refine ⟨RX12, TX12, 7, tyX12, rfl, by omega, in_X12, tyX12_ok, nmX12, ?_⟩
    rcases (show k = 0 ∨ k = 1 ∨ k = 2 ∨ k = 3 ∨ k = 4 ∨ k = 5 by omega) with rfl | rfl | rfl | rfl | rfl | rfl <;> rfl
def dX0 : List Value := [.null, .null, .null, .null, .int 0, .null, .int 0, .null, .null]
theorem dX0_ok : ∀ j, j < 9 → defaultValue (tyX0 j) = vp_V dX0 j := by
  intro j hj
  rcases (show j = 0 ∨ j = 1 ∨ j = 2 ∨ j = 3 ∨ j = 4 ∨ j = 5 ∨ j = 6 ∨ j = 7 ∨ j = 8 by omega) with rfl | rfl | rfl | rfl | rfl | rfl | rfl | rfl | rfl <;> rfl
def dX1 : List Value := [.int 0, .int 0, .int 0, .null, .null, .null, .null, .null]
theorem dX1_ok : ∀ j, j < 8 → defaultValue (tyX1 j) = vp_V dX1 j := by
  intro j hj
  rcases (show j = 0 ∨ j = 1 ∨ j = 2 ∨ j = 3 ∨ j = 4 ∨ j = 5 ∨ j = 6 ∨ j = 7 by omega) with rfl | rfl | rfl | rfl | rfl | rfl | rfl | rfl <;> rfl
def dX2 : List Value := [.null]
theorem dX2_ok : ∀ j, j < 1 → defaultValue (tyX2 j) = vp_V dX2 j := by
  intro j hj
  rcases (show j = 0 by omega) with rfl <;> rfl
def dX3 : List Value := [.null, .null, .null, .null, .null, .int 0, .null, .int 0, .int 0, .int 0, .int 0, .int 0, .null, .null, .null, .null]
theorem dX3_ok : ∀ j, j < 16 → defaultValue (tyX3 j) = vp_V dX3 j := by
  intro j hj
  rcases (show j = 0 ∨ j = 1 ∨ j = 2 ∨ j = 3 ∨ j = 4 ∨ j = 5 ∨ j = 6 ∨ j = 7 ∨ j = 8 ∨ j = 9 ∨ j = 10 ∨ j = 11 ∨ j = 12 ∨ j = 13 ∨ j = 14 ∨ j = 15 by omega) with rfl | rfl | rfl | rfl | rfl | rfl | rfl | rfl | rfl | rfl | rfl | rfl | rfl | rfl | rfl | rfl <;> rfl
def dX4 : List Value := [.null, .null, .null, .null, .null, .int 0, .int 0]
theorem dX4_ok : ∀ j, j < 7 → defaultValue (tyX4 j) = vp_V dX4 j := by
  intro j hj
  rcases (show j = 0 ∨ j = 1 ∨ j = 2 ∨ j = 3 ∨ j = 4 ∨ j = 5 ∨ j = 6 by omega) with rfl | rfl | rfl | rfl | rfl | rfl | rfl <;> rfl
def dX5 : List Value := [.null]
theorem dX5_ok : ∀ j, j < 1 → defaultValue (tyX5 j) = vp_V dX5 j := by
  intro j hj
  rcases (show j = 0 by omega) with rfl <;> rfl
def dX6 : List Value := [.null]
theorem dX6_ok : ∀ j, j < 1 → defaultValue (tyX6 j) = vp_V dX6 j := by
  intro j hj
  rcases (show j = 0 by omega) with rfl <;> rfl
def dX7 : List Value := [.null]
theorem dX7_ok : ∀ j, j < 1 → defaultValue (tyX7 j) = vp_V dX7 j := by
  intro j hj
  rcases (show j = 0 by omega) with rfl <;> rfl
def dX8 : List Value := [.null]
theorem dX8_ok : ∀ j, j < 1 → defaultValue (tyX8 j) = vp_V dX8 j := by
  intro j hj
  rcases (show j = 0 by omega) with rfl <;> rfl
def dX9 : List Value := [.null]
theorem dX9_ok : ∀ j, j < 1 → defaultValue (tyX9 j) = vp_V dX9 j := by
  intro j hj
  rcases (show j = 0 by omega) with rfl <;> rfl
def dX10 : List Value := [.null]
theorem dX10_ok : ∀ j, j < 1 → defaultValue (tyX10 j) = vp_V dX10 j := by
  intro j hj
  rcases (show j = 0 by omega) with rfl <;> rfl
def dX11 : List Value := [.null, .int 0, .null, .int 0, .int 0, .int 0]
theorem dX11_ok : ∀ j, j < 6 → defaultValue (tyX11 j) = vp_V dX11 j := by
  intro j hj
  rcases (show j = 0 ∨ j = 1 ∨ j = 2 ∨ j = 3 ∨ j = 4 ∨ j = 5 by omega) with rfl | rfl | rfl | rfl | rfl | rfl <;> rfl
def dX12 : List Value := [.null, .null, .null, .null, .null, .int 0, .int 0]
theorem dX12_ok : ∀ j, j < 7 → defaultValue (tyX12 j) = vp_V dX12 j := by
  intro j hj
  rcases (show j = 0 ∨ j = 1 ∨ j = 2 ∨ j = 3 ∨ j = 4 ∨ j = 5 ∨ j = 6 by omega) with rfl | rfl | rfl | rfl | rfl | rfl | rfl <;> rfl
/-- the class of an array -/
def vT {α : Type} (t : Nat) (w : bWl) (a : Nat) (k : Option α) : Option α := match w.1 a with
  | some (.inl x) => if x.1 = t then k else none
  | _ => none
theorem vT_spec {α : Type} {t : Nat} {w : bWl} {a : Nat} {k : Option α} {r : α} (h : vT t w a k = some r) : (∃ x : vp_A, w.1 a = some (.inl (t, x))) ∧ k = some r := by
  unfold vT at h
  split at h
  · rename_i x hx
    split at h
    · rename_i h2; exact ⟨⟨x.2, by rw [hx, ← h2]⟩, h⟩
    · cases h
  · cases h
def iT (t : Nat) (w : bWl) (a : Nat) : Option Int32 := match w.1 a with
  | some (.inl x) => if x.1 = 1 ∨ x.1 = 2 ∨ x.1 = 3 then some (if x.1 = t then 1 else 0) else none
  | _ => none
theorem iT_spec {t : Nat} {w : bWl} {a : Nat} {v : Int32} (h : iT t w a = some v) : ∃ (t' : Nat) (x : vp_A), w.1 a = some (.inl (t', x)) ∧ (t' = 1 ∨ t' = 2 ∨ t' = 3) ∧ v = if t' = t then 1 else 0 := by
  unfold iT at h
  split at h
  · rename_i x hx
    split at h
    · rename_i h2; cases h; exact ⟨x.1, x.2, hx, h2, rfl⟩
    · cases h
  · cases h
/-- System.arraycopy -/
def tyT (t : Nat) : FieldType := match t with
  | 0 => .int | 1 => .byte | _ => .short
def cpy (w : bWl) (a0 : Nat) (sp : Int32) (a : Nat) (dp n : Int32) : Option bWl := match w.1 a0, w.1 a with
  | some (.inl (t0, n0, .inl f)), some (.inl (t1, n1, .inl g)) => if t0 = t1 ∧ t0 < 3 ∧ ¬ sp < 0 ∧ ¬ dp < 0 ∧ ¬ n < 0 ∧ sp.toNatClampNeg + n.toNatClampNeg ≤ n0 ∧ dp.toNatClampNeg + n.toNatClampNeg ≤ n1 ∧ (List.range n.toNatClampNeg).all (fun i => fits (tyT t0) (.int (f (sp.toNatClampNeg + i)))) = true then some (va_up w.1 a (some (.inl (t1, n1, .inl (va_cpy f g sp.toNatClampNeg dp.toNatClampNeg n.toNatClampNeg)))), w.2) else none
  | some (.inl (t0, n0, .inr (.inl f))), some (.inl (t1, n1, .inr (.inl g))) => if t0 = 3 ∧ t1 = 3 ∧ ¬ sp < 0 ∧ ¬ dp < 0 ∧ ¬ n < 0 ∧ sp.toNatClampNeg + n.toNatClampNeg ≤ n0 ∧ dp.toNatClampNeg + n.toNatClampNeg ≤ n1 then some (va_up w.1 a (some (.inl (t1, n1, .inr (.inl (va_cpy f g sp.toNatClampNeg dp.toNatClampNeg n.toNatClampNeg))))), w.2) else none
  | _, _ => none
/-- the world as one list of cells -/
def bWs (g : bGh) (w : bWl) : va_W := (List.range w.2.1).filterMap fun a => (w.1 a).map fun e => (a, bE g e)
theorem bWs_mem {g : bGh} {w : bWl} {H : Heap} (hH : bHo g w H) {a : Nat} {e : bCe} (ha : w.1 a = some e) : (a, bE g e) ∈ bWs g w := by
  have hl : a < H.size := (hH.2.2 a e ha).2.lt
  refine List.mem_filterMap.mpr ⟨a, List.mem_range.mpr (by rw [← hH.1]; exact hl), ?_⟩
  rw [ha]; rfl
theorem bWs_of {g : bGh} {w : bWl} {q : Nat × va_E} (h : q ∈ bWs g w) : ∃ e : bCe, w.1 q.1 = some e ∧ q.2 = bE g e := by
  obtain ⟨a, -, h2⟩ := List.mem_filterMap.mp h
  cases hw : w.1 a with
  | none => rw [hw] at h2; cases h2
  | some e =>
    rw [hw] at h2
    cases h2
    exact ⟨e, hw, rfl⟩
theorem bWs_P {g : bGh} {w : bWl} {H : Heap} (hH : bHo g w H) : va_P g.1 bCl (bWs g w) H := by
  intro k q hk
  obtain ⟨e, h1, h2⟩ := bWs_of (List.mem_of_getElem? hk)
  obtain ⟨a, x⟩ := q
  cases h2
  exact (hH.2.2 a e h1).2
theorem bWs_nd {g : bGh} {w : bWl} : ((bWs g w).map (·.1)).Nodup := by
  unfold bWs
  have h : (List.map (·.1) ((List.range w.2.1).filterMap fun a => (w.1 a).map fun e => ((a, bE g e) : Nat × va_E))).Sublist (List.range w.2.1) := by
    generalize List.range w.2.1 = l
    induction l with
    | nil => exact List.Sublist.slnil
    | cons x t ih =>
      rw [List.filterMap_cons]
      cases hx : w.1 x with
      | none => simp only [Option.map_none]; exact List.Sublist.cons _ ih
      | some e => simp only [Option.map_some, List.map_cons]; exact List.Sublist.cons₂ _ ih
  exact h.nodup List.nodup_range
theorem bWs_D {g : bGh} {w : bWl} {H : Heap} (hH : bHo g w H) : va_D (bAw g) (bWs g w) := by
  refine ⟨fun i j p q hi hj he => ?_, fun k q hk => ?_⟩
  · have hnd := bWs_nd (g := g) (w := w)
    have h1 : ((bWs g w).map (·.1))[i]? = some p.1 := by rw [List.getElem?_map, hi]; rfl
    have h2 : ((bWs g w).map (·.1))[j]? = some p.1 := by rw [List.getElem?_map, hj, he]; rfl
    obtain ⟨l1, e1⟩ := List.getElem?_eq_some_iff.mp h1
    obtain ⟨l2, e2⟩ := List.getElem?_eq_some_iff.mp h2
    exact (List.getElem_inj hnd).mp (e1.trans e2.symm)
  · obtain ⟨e, h1, -⟩ := bWs_of (List.mem_of_getElem? hk)
    exact (hH.2.2 q.1 e h1).1
theorem bWs_S {g : bGh} {H : Heap} {locs : List Loc} (hlo : ∀ q ∈ locs, g.2.2.1.size ≤ q.base) : va_S (bAw g) H H locs := ⟨Nat.le_refl _, fun _ _ _ => rfl, hlo⟩
/-- one place of the list has been written -/
theorem bWs_set {g : bGh} {w : bWl} {H H1 : Heap} {locs1 : List Loc} {a q1 : Nat} {e e' : bCe} (hH : bHo g w H) (ha : w.1 a = some e) (hq : (bWs g w)[q1]? = some (a, bE g e)) (hP : va_P g.1 bCl ((bWs g w).set q1 (a, bE g e')) H1) (hS : va_S (bAw g) H H1 locs1) (hz : H1.size ≤ w.2.1) : bHo g (va_up w.1 a (some e'), w.2) H1 := by
  obtain ⟨h1, h2, h3⟩ := id hH
  have hb := (h3 a e ha).1
  have hl : a < H.size := (h3 a e ha).2.lt
  have hlt : q1 < (bWs g w).length := (List.getElem?_eq_some_iff.mp hq).1
  refine ⟨Nat.le_antisymm hz (by rw [← h1]; exact hS.1), fun q hq' => ?_, fun b x hb' => ?_⟩
  · rw [hS.2.1 q (by omega) (by show ¬ _ ≤ q; omega)]; exact h2 q hq'
  · by_cases hba : b = a
    · subst hba
      have hx : va_up w.1 b (some e') b = some x := hb'
      rw [va_up_self] at hx
      cases hx
      exact ⟨hb, hP q1 _ (by rw [List.getElem?_set_self hlt])⟩
    · have hx : va_up w.1 a (some e') b = some x := hb'
      rw [va_up_ne _ _ hba] at hx
      obtain ⟨i, hi⟩ := List.getElem?_of_mem (bWs_mem hH hx)
      have hne : q1 ≠ i := fun h => by
        subst h
        rw [hq] at hi
        exact hba (congrArg Prod.fst (Option.some.inj hi)).symm
      exact ⟨(h3 b x hx).1, hP i _ (by rw [List.getElem?_set_ne hne]; exact hi)⟩
section CROWS
variable {X : bCX} {w w' : bWl} {pc pc' : Nat} {L L' : List (Option Value)} {rest : List Value} {a : Nat}
theorem g_copy {a0 idx : Nat} {sp dp n : Int32} (hd : decode (bcd X) pc = .ok (.invokestatic idx, 3)) (hp : pc + 3 = pc') (hq1 : Cond.methodLink (bown X) idx arraycopyName ∈ lw_all) (hq2 : Cond.native arraycopyName ∈ lw_all) (hq3 : Cond.static arraycopyName ∈ lw_all) (hq4 : Cond.initialized "java/lang/System" ∈ lw_all) (hr : 1 ≤ X.2.1.2.2.2.2.2.1 ∧ 30 ≤ X.2.1.2.2.2.2.2.2) (hrs : (rest.map fun v => v.category).sum ≤ 8) (hv : cpy w a0 sp a dp n = some w') (kk : bG X w' pc' L rest) : bG X w pc L (.int n :: .int dp :: .ref a :: .int sp :: .ref a0 :: rest) := by
  subst hp
  obtain ⟨g, ⟨y, cc, nL, ret, hh, fr, lo⟩, n0, u0, Q⟩ := X
  rintro ⟨p, l, e, R, s, m, args, below, meth, c⟩ hF hok H locs ls hH hlo hL
  obtain ⟨h1, h2, h3, h4, h5, h6, h7, h8, h9, h10, h11, h12, h13, h14, h15, h16⟩ := id hF
  have k1' : n0 ≤ w.2.1 := hok.1
  have hr1 : 1 ≤ fr := hr.1
  have hr2 : 30 ≤ lo := hr.2
  have hnw : nativeFrameWords "java/lang/System" "arraycopy" 5 = 7 := by decide +kernel
  have hroom : (rest.map fun v => v.category).sum + (nativeFrameWords "java/lang/System" "arraycopy" 5 + 11) ≤ R.locals := by rw [hnw]; omega
  unfold cpy at hv
  split at hv
  · rename_i t0 n0' f t1 n1 f2 ha0 ha1
    split at hv
    · rename_i hc
      obtain ⟨rfl, ht, c1, c2, c3, c4, c5, c6⟩ := hc
      cases hv
      obtain ⟨q0, hq0⟩ := List.getElem?_of_mem (bWs_mem hH ha0)
      obtain ⟨q1, hq1'⟩ := List.getElem?_of_mem (bWs_mem hH ha1)
      have hty : (bTy g)[t0]? = some (g.2.1 t0, tyT t0) := by
        rcases (show t0 = 0 ∨ t0 = 1 ∨ t0 = 2 by omega) with rfl | rfl | rfl <;> rfl
      have hpr : refKind (tyT t0) = false := by
        rcases (show t0 = 0 ∨ t0 = 1 ∨ t0 = 2 by omega) with rfl | rfl | rfl <;> rfl
      refine va_copyi h1 h2 (h3.trans hL.1.symm) h7 (h9 _ hq1) (h9 _ hq2) (h9 _ hq3) (h9 _ hq4) h10.1 (bWs_P hH) (bWs_D hH) (bWs_S hlo) q0 q1 t0 t0 hq0 hq1' hty hty hpr c1 c2 c3 c4 c5 (fun i hi => ?_) (by omega) hroom hd fun H1 locs1 hP1 hD1 hS1 => W_size fun hz => ?_
      · exact List.all_eq_true.mp c6 i (List.mem_range.mpr hi)
      · have hz' : H1.size ≤ w.2.1 := by rw [h15] at hz; have : H1.size ≤ n0 + (w.2.1 - n0) := hz; omega
        exact kk (p, l, e, R, s, m, args, below, meth, c) hF hok H1 locs1 ls (bWs_set (e' := .inl (t0, n1, .inl (va_cpy f f2 sp.toNatClampNeg dp.toNatClampNeg n.toNatClampNeg))) hH ha1 hq1' hP1 hS1 hz') hS1.2.2 hL
    · cases hv
  · rename_i t0 n0' f t1 n1 f2 ha0 ha1
    split at hv
    · rename_i hc
      obtain ⟨rfl, rfl, c1, c2, c3, c4, c5⟩ := hc
      cases hv
      obtain ⟨q0, hq0⟩ := List.getElem?_of_mem (bWs_mem hH ha0)
      obtain ⟨q1, hq1'⟩ := List.getElem?_of_mem (bWs_mem hH ha1)
      refine va_copyl h1 h2 (h3.trans hL.1.symm) h7 (h9 _ hq1) (h9 _ hq2) (h9 _ hq3) (h9 _ hq4) h10.1 (bWs_P hH) (bWs_D hH) (bWs_S hlo) q0 q1 3 3 hq0 hq1' (ty := .long) rfl rfl rfl c1 c2 c3 c4 c5 (fun i hi => rfl) (by omega) hroom hd fun H1 locs1 hP1 hD1 hS1 => W_size fun hz => ?_
      have hz' : H1.size ≤ w.2.1 := by rw [h15] at hz; have : H1.size ≤ n0 + (w.2.1 - n0) := hz; omega
      exact kk (p, l, e, R, s, m, args, below, meth, c) hF hok H1 locs1 ls (bWs_set (e' := .inl (3, n1, .inr (.inl (va_cpy f f2 sp.toNatClampNeg dp.toNatClampNeg n.toNatClampNeg)))) hH ha1 hq1' hP1 hS1 hz') hS1.2.2 hL
    · cases hv
  · cases hv
theorem g_castN {idx : Nat} (hd : decode (bcd X) pc = .ok (.checkcast idx, 3)) (hp : pc + 3 = pc') (k : bG X w pc' L (.null :: rest)) : bG X w pc L (.null :: rest) := by
  subst hp
  obtain ⟨g, ⟨y, cc, nL, ret, hh, fr, lo⟩, n0, u0, Q⟩ := X
  rintro ⟨p, l, e, R, s, m, args, below, meth, c⟩ hF hok H locs ls hH hlo hL
  obtain ⟨h1, h2, -⟩ := id hF
  exact lv_castN h1 h2 hd (k (p, l, e, R, s, m, args, below, meth, c) hF hok H locs ls hH hlo hL)
theorem b_recv {g : bGh} {w : bWl} {H : Heap} {s : State} {ci N : Nat} {C : String} {T : u_T} (hH : bHo g w H) (hK : va_K g.1 bCl (bTy g) s) (hc : bCl[ci]? = some (C, T, N)) {a : Nat} (h : hC w a = some ci) : ∃ cell : Cell, H[a]? = some cell ∧ cell.vm.isStatics = false ∧ s.vm.findClass C = some cell.cls := by
  obtain ⟨fs, hfs⟩ := hC_spec h
  exact va_recv hK (bP1 hH hfs) hc (q0 := 0) rfl
theorem g_castR {idx : Nat} (hd : decode (bcd X) pc = .ok (.checkcast idx, 3)) (hp : pc + 3 = pc') (hq : Cond.classLink (bown X) idx "RumourBeds$Rumour" ∈ lw_all) (h : ∃ c, hC w a = some c ∧ (c = 5 ∨ c = 6 ∨ c = 7 ∨ c = 8 ∨ c = 9 ∨ c = 10)) (k : bG X w pc' L (.ref a :: rest)) : bG X w pc L (.ref a :: rest) := by
  subst hp
  obtain ⟨g, ⟨y, cc, nL, ret, hh, fr, lo⟩, n0, u0, Q⟩ := X
  rintro ⟨p, l, e, R, s, m, args, below, meth, c⟩ hF hok H locs ls hH hlo hL
  obtain ⟨h1, h2, h3, h4, h5, h6, h7, h8, h9, h10, h11, h12, h13, h14, h15, h16⟩ := id hF
  have kk := k (p, l, e, R, s, m, args, below, meth, c) hF hok H locs ls hH hlo hL
  obtain ⟨ci, hci, hc⟩ := h
  rcases hc with rfl | rfl | rfl | rfl | rfl | rfl
  · exact va_castS (nm := "RumourBeds$Rumour") h1 h2 h7 (h9 _ hq) (h10.1.1 5 (RX5, TX5, 1) rfl).2 (b_recv hH h10.1 (ci := 5) (C := RX5) rfl hci) hd kk
  · exact va_castY (C := "RumourBeds$Big") (nm := "RumourBeds$Rumour") h1 h2 h7 (h9 _ hq) (h10.2.1 _ (by decide)) (b_recv hH h10.1 (ci := 6) (C := RX6) rfl hci) hd kk
  · exact va_castY (C := "RumourBeds$Dull") (nm := "RumourBeds$Rumour") h1 h2 h7 (h9 _ hq) (h10.2.1 _ (by decide)) (b_recv hH h10.1 (ci := 7) (C := RX7) rfl hci) hd kk
  · exact va_castY (C := "RumourBeds$Shy") (nm := "RumourBeds$Rumour") h1 h2 h7 (h9 _ hq) (h10.2.1 _ (by decide)) (b_recv hH h10.1 (ci := 8) (C := RX8) rfl hci) hd kk
  · exact va_castY (C := "RumourBeds$Royal") (nm := "RumourBeds$Rumour") h1 h2 h7 (h9 _ hq) (h10.2.1 _ (by decide)) (b_recv hH h10.1 (ci := 9) (C := RX9) rfl hci) hd kk
  · exact va_castY (C := "RumourBeds$Wells") (nm := "RumourBeds$Rumour") h1 h2 h7 (h9 _ hq) (h10.2.1 _ (by decide)) (b_recv hH h10.1 (ci := 10) (C := RX10) rfl hci) hd kk
/-- the name of an array's class -/
def nmT (t : Nat) : String := match t with
  | 1 => "[B" | 2 => "[S" | _ => "[J"
theorem b_arrc {g : bGh} {s : State} (hK : va_K g.1 bCl (bTy g) s) {t : Nat} (ht : t = 1 ∨ t = 2 ∨ t = 3) : s.vm.findClass (nmT t) = some (g.2.1 t) := by
  rcases ht with rfl | rfl | rfl
  · exact (hK.2 1 _ rfl).2
  · exact (hK.2 2 _ rfl).2
  · exact (hK.2 3 _ rfl).2
theorem g_castA {idx t : Nat} (hd : decode (bcd X) pc = .ok (.checkcast idx, 3)) (hp : pc + 3 = pc') (hq : Cond.classLink (bown X) idx (nmT t) ∈ lw_all) (ht : t = 1 ∨ t = 2 ∨ t = 3) (h : ∃ x : vp_A, w.1 a = some (.inl (t, x))) (k : bG X w pc' L (.ref a :: rest)) : bG X w pc L (.ref a :: rest) := by
  subst hp
  obtain ⟨g, ⟨y, cc, nL, ret, hh, fr, lo⟩, n0, u0, Q⟩ := X
  rintro ⟨p, l, e, R, s, m, args, below, meth, c⟩ hF hok H locs ls hH hlo hL
  obtain ⟨h1, h2, h3, h4, h5, h6, h7, h8, h9, h10, h11, h12, h13, h14, h15, h16⟩ := id hF
  obtain ⟨x, hx⟩ := h
  exact va_castA h1 h2 h7 (h9 _ hq) (bP1 hH hx) 0 rfl (b_arrc h10.1 ht) hd (k (p, l, e, R, s, m, args, below, meth, c) hF hok H locs ls hH hlo hL)
theorem b_arrv {g : bGh} {w : bWl} {H : Heap} {s : State} (hH : bHo g w H) (hK : va_K g.1 bCl (bTy g) s) {t : Nat} (ht : t = 1 ∨ t = 2 ∨ t = 3) {a : Nat} {x : vp_A} (ha : w.1 a = some (.inl (t, x))) : ∃ cell : Cell, H[a]? = some cell ∧ cell.vm.isStatics = false ∧ s.vm.findClass (nmT t) = some cell.cls := by
  have h := (hH.2.2 a _ ha).2
  refine ⟨vp_cell (g.2.1 t) x, h, ?_, ?_⟩
  · obtain ⟨n, f | f | f | f | f⟩ := x <;> rfl
  · rw [b_arrc hK ht]
    obtain ⟨n, f | f | f | f | f⟩ := x <;> rfl
theorem g_inst1 {idx : Nat} {v : Int32} (hd : decode (bcd X) pc = .ok (.instanceof idx, 3)) (hp : pc + 3 = pc') (hq : Cond.classLink (bown X) idx "[B" ∈ lw_all) (h : iT 1 w a = some v) (k : bG X w pc' L (.int v :: rest)) : bG X w pc L (.ref a :: rest) := by
  subst hp
  obtain ⟨g, ⟨y, cc, nL, ret, hh, fr, lo⟩, n0, u0, Q⟩ := X
  rintro ⟨p, l, e, R, s, m, args, below, meth, c⟩ hF hok H locs ls hH hlo hL
  obtain ⟨h1, h2, h3, h4, h5, h6, h7, h8, h9, h10, h11, h12, h13, h14, h15, h16⟩ := id hF
  have kk := k (p, l, e, R, s, m, args, below, meth, c) hF hok H locs ls hH hlo hL
  obtain ⟨t, x, hx, ht, rfl⟩ := iT_spec h
  have hr := b_arrv hH h10.1 ht hx
  rcases ht with rfl | rfl | rfl
  · exact va_instE (nm := "[B") h1 h2 h7 (h9 _ hq) hr hd kk
  · exact va_instNo (C := "[S") (nm := "[B") h1 h2 h7 (h9 _ hq) h10.2.2.2.2.1.1 hr hd kk
  · exact va_instNo (C := "[J") (nm := "[B") h1 h2 h7 (h9 _ hq) h10.2.2.2.2.1.2.1 hr hd kk
theorem g_inst2 {idx : Nat} {v : Int32} (hd : decode (bcd X) pc = .ok (.instanceof idx, 3)) (hp : pc + 3 = pc') (hq : Cond.classLink (bown X) idx "[S" ∈ lw_all) (h : iT 2 w a = some v) (k : bG X w pc' L (.int v :: rest)) : bG X w pc L (.ref a :: rest) := by
  subst hp
  obtain ⟨g, ⟨y, cc, nL, ret, hh, fr, lo⟩, n0, u0, Q⟩ := X
  rintro ⟨p, l, e, R, s, m, args, below, meth, c⟩ hF hok H locs ls hH hlo hL
  obtain ⟨h1, h2, h3, h4, h5, h6, h7, h8, h9, h10, h11, h12, h13, h14, h15, h16⟩ := id hF
  have kk := k (p, l, e, R, s, m, args, below, meth, c) hF hok H locs ls hH hlo hL
  obtain ⟨t, x, hx, ht, rfl⟩ := iT_spec h
  have hr := b_arrv hH h10.1 ht hx
  rcases ht with rfl | rfl | rfl
  · exact va_instNo (C := "[B") (nm := "[S") h1 h2 h7 (h9 _ hq) h10.2.2.2.2.1.2.2.2 hr hd kk
  · exact va_instE (nm := "[S") h1 h2 h7 (h9 _ hq) hr hd kk
  · exact va_instNo (C := "[J") (nm := "[S") h1 h2 h7 (h9 _ hq) h10.2.2.2.2.1.2.2.1 hr hd kk
/-- a static whose value is a reference or null -/
theorem g_gets {idx : Nat} {C n d : String} (hd : decode (bcd X) pc = .ok (.getstatic idx, 3)) (hp : pc + 3 = pc') (hq : Cond.fieldLink (bown X) idx C n d ∈ lw_all) (hZ : ∀ U, bSt X.1 U → va_Zq C n d (bAw X.1) U X.1.2.2.1) (k : ∀ r : Option Nat, bG X w pc' L (va_rf r :: rest)) : bG X w pc L rest := by
  subst hp
  obtain ⟨g, ⟨y, cc, nL, ret, hh, fr, lo⟩, n0, u0, Q⟩ := X
  rintro ⟨p, l, e, R, s, m, args, below, meth, c⟩ hF hok H locs ls hH hlo hL
  obtain ⟨h1, h2, h3, h4, h5, h6, h7, h8, h9, h10, h11, h12, h13, h14, h15, h16⟩ := id hF
  have key : ∀ v : Option Nat, va_Z C n d (va_rf v) (bAw g) s g.2.2.1 → bWk (p, l, e, R, s, m, args, below, meth, c) H locs (w.2.1 - n0) (w.2.2.1 - u0) (bEnd (g, (y, cc, nL, ret, hh, fr, lo), n0, u0, Q) (p, l, e, R, s, m, args, below, meth, c)) pc ls rest := by
    rintro v ⟨cf, kf, fi, f, b, cell, z1, z2, z3, z4, z5, z6, z7, z8⟩
    have hb : b < g.2.2.1.size := (Array.getElem?_eq_some_iff.mp z5).1
    exact W.gets h1 h2 h7 (h9 _ hq) z1 z2 z3 z4 (by rw [hH.2.1 b hb]; exact z5) (fun e => by rw [e] at z6; cases z6) z7 rfl hd (k v (p, l, e, R, s, m, args, below, meth, c) hF hok H locs ls hH hlo hL)
  rcases hZ s h10 with z | ⟨t, z⟩
  · exact key none z
  · exact key (some t) z
end CROWS

