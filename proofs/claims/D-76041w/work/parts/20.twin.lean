/-! THE TWIN's ROWS -/
set_option maxRecDepth 100000
def rA (M : tM) (k : Nat) (i : Int32) : Option Int32 := if i < 0 ∨ tN k ≤ i.toNatClampNeg then none else some (M.2.1 k i.toNatClampNeg)
def rL (M : tM) (k : Nat) (i : Int32) : Option Int64 := if i < 0 ∨ tN k ≤ i.toNatClampNeg then none else some (M.2.2 k i.toNatClampNeg)
def wA (M : tM) (k : Nat) (i x : Int32) : Option tM := if i < 0 ∨ tN k ≤ i.toNatClampNeg then none else some (M.1, va_up M.2.1 k (upd (M.2.1 k) i.toNatClampNeg x), M.2.2)
def wL (M : tM) (k : Nat) (i : Int32) (x : Int64) : Option tM := if i < 0 ∨ tN k ≤ i.toNatClampNeg then none else some (M.1, M.2.1, va_up M.2.2 k (vp_updL (M.2.2 k) i.toNatClampNeg x))
def wI (M : tM) (k : Nat) (x : Int32) : tM := (va_up M.1 k x, M.2)
theorem fok_3 (k : Nat) (hk : k < 16) : bFok (okc 3) k (TX3 k) := fun c hc => by
  have := okc_eq hc
  subst this
  exact ⟨RX3, TX3, 16, tyX3, rfl, hk, in_X3, tyX3_ok, nmX3, rfl⟩
section TWIN
variable {A : tA} {M M' : tM} {c : bHp}
theorem tH_obj : tH A M c A.1 = some (.inr (3, tFs A M)) := by simp [tH]
theorem tH_find (hA : tO A) {k : Nat} {l : List Nat} (hl : ∀ j ∈ l, j ∈ tI ++ tJ) (hk : k ∈ l) : l.find? (fun j => A.2 k == A.2 j) = some k := by
  cases h : l.find? (fun j => A.2 k == A.2 j) with
  | none => exact absurd (List.find?_eq_none.mp h k hk) (by simp)
  | some j =>
    have h1 := List.find?_some h
    have h2 := List.mem_of_find?_eq_some h
    have : k = j := hA.2 k (hl k hk) j (hl j h2) (by simpa using h1)
    rw [this]
theorem tH_nofind (hA : tO A) {k : Nat} (hk : k ∈ tJ) : tI.find? (fun j => A.2 k == A.2 j) = none := by
  refine List.find?_eq_none.mpr fun j hj h => ?_
  have : k = j := hA.2 k (List.mem_append_right _ hk) j (List.mem_append_left _ hj) (by simpa using h)
  subst this
  revert hk hj
  simp [tI, tJ]
  omega
theorem tH_int (hA : tO A) {k : Nat} (hk : k ∈ tI) : tH A M c (A.2 k) = some (.inl (0, tN k, .inl (M.2.1 k))) := by
  unfold tH
  rw [if_neg (hA.1 k (List.mem_append_left _ hk)), tH_find hA (fun j hj => List.mem_append_left _ hj) hk]
theorem tH_long (hA : tO A) {k : Nat} (hk : k ∈ tJ) : tH A M c (A.2 k) = some (.inl (3, tN k, .inr (.inl (M.2.2 k)))) := by
  unfold tH
  rw [if_neg (hA.1 k (List.mem_append_right _ hk)), tH_nofind hA hk, tH_find hA (fun j hj => List.mem_append_right _ hj) hk]
theorem tH_setI (hA : tO A) {k : Nat} (hk : k ∈ tI) (f : Nat → Int32) : va_up (tH A M c) (A.2 k) (some (.inl (0, tN k, .inl f))) = tH A (M.1, va_up M.2.1 k f, M.2.2) c := by
  funext a
  by_cases ha : a = A.2 k
  · subst ha
    rw [va_up_self, tH_int hA hk]
    simp [va_up]
  · rw [va_up_ne _ _ ha]
    unfold tH
    by_cases h1 : a = A.1
    · rw [if_pos h1, if_pos h1]; rfl
    · rw [if_neg h1, if_neg h1]
      cases h : tI.find? (fun j => a == A.2 j) with
      | none => rfl
      | some j =>
        have hj : j ≠ k := fun e => by
          have := List.find?_some h
          simp at this
          exact ha (by rw [this, e])
        simp [va_up, hj]
theorem tH_setL (hA : tO A) {k : Nat} (hk : k ∈ tJ) (f : Nat → Int64) : va_up (tH A M c) (A.2 k) (some (.inl (3, tN k, .inr (.inl f)))) = tH A (M.1, M.2.1, va_up M.2.2 k f) c := by
  funext a
  by_cases ha : a = A.2 k
  · subst ha
    rw [va_up_self, tH_long hA hk]
    simp [va_up]
  · rw [va_up_ne _ _ ha]
    unfold tH
    by_cases h1 : a = A.1
    · rw [if_pos h1, if_pos h1]; rfl
    · rw [if_neg h1, if_neg h1]
      cases h : tI.find? (fun j => a == A.2 j) with
      | some j => rfl
      | none =>
        cases h2 : tJ.find? (fun j => a == A.2 j) with
        | none => rfl
        | some j =>
          have hj : j ≠ k := fun e => by
            have := List.find?_some h2
            simp at this
            exact ha (by rw [this, e])
          simp [va_up, hj]
theorem tH_setF {k : Nat} (x : Int32) (hf : (tFs A M).set k (.int x) = tFs A (wI M k x)) : va_up (tH A M c) A.1 (some (.inr (3, (tFs A M).set k (.int x)))) = tH A (wI M k x) c := by
  funext a
  by_cases ha : a = A.1
  · subst ha
    rw [va_up_self, tH_obj, hf]
  · rw [va_up_ne _ _ ha]
    unfold tH
    rw [if_neg ha, if_neg ha]
    rfl
theorem tC {w : bWl} : hC (tW A M w) A.1 = some 3 := by simp [hC, tW, tH_obj]
end TWIN
section TROWS
variable {X : bCX} {w : bWl} {pc pc' : Nat} {L L' : List (Option Value)} {rest : List Value} {A : tA} {M M' : tM}
theorem gt_get {k idx : Nat} {v : Value} (hk : k < 16) (hd : decode (bcd X) pc = .ok (.getfield idx, 3)) (hp : pc + 3 = pc') (hq : Cond.fieldLink (bown X) idx (TX3 k).1 (TX3 k).2.1 (TX3 k).2.2.1 ∈ lw_all) (hv : (tFs A M)[k]? = some v) (kk : bG X (tW A M w) pc' L (v :: rest)) : bG X (tW A M w) pc L (.ref A.1 :: rest) :=
  g_get (fok_3 k hk) (Or.inl rfl) hd hp hq (by unfold hF; show (match tH A M w.1 A.1 with | some (.inr o) => if okc 3 o.1 = true then o.2[k]? else none | _ => none) = some v; rw [tH_obj]; exact hv) kk
theorem gt_put {k idx : Nat} {x : Int32} {ty : FieldType} (hk : k < 16) (hfin : (TX3 k).2.2.2 = false) (hd : decode (bcd X) pc = .ok (.putfield idx, 3)) (hp : pc + 3 = pc') (hq : Cond.fieldLink (bown X) idx (TX3 k).1 (TX3 k).2.1 (TX3 k).2.2.1 ∈ lw_all) (ht : parseFieldDescriptor (TX3 k).2.2.1 = some ty) (hn : narrow ty (.int x) = .int x) (hfit : fits ty (.int x) = true) (hf : (tFs A M).set k (.int x) = tFs A (wI M k x)) (kk : bG X (tW A (wI M k x) w) pc' L rest) : bG X (tW A M w) pc L (.int x :: .ref A.1 :: rest) := by
  have hfo := fok_3 k hk
  rw [show TX3 k = ((TX3 k).1, (TX3 k).2.1, (TX3 k).2.2.1, false) by rw [← hfin]] at hfo
  refine g_put (w' := tW A (wI M k x) w) hfo (Or.inl rfl) hd hp hq ht hn hfit ?_ kk
  unfold hP
  show (match tH A M w.1 A.1 with | some (.inr o) => if okc 3 o.1 = true ∧ k < o.2.length then some (va_up (tH A M w.1) A.1 (some (.inr (o.1, o.2.set k (.int x)))), w.2) else none | _ => none) = some (tW A (wI M k x) w)
  rw [tH_obj]
  show (if okc 3 3 = true ∧ k < (tFs A M).length then some (va_up (tH A M w.1) A.1 (some (.inr (3, (tFs A M).set k (.int x)))), w.2) else none) = _
  rw [if_pos ⟨rfl, hk⟩, tH_setF x hf]
  rfl
theorem gt_iald {k : Nat} {i v : Int32} (hA : tO A) (hk : k ∈ tI) (hd : decode (bcd X) pc = .ok (.iaload, 1)) (hp : pc + 1 = pc') (hv : rA M k i = some v) (kk : bG X (tW A M w) pc' L (.int v :: rest)) : bG X (tW A M w) pc L (.int i :: .ref (A.2 k) :: rest) := by
  unfold rA at hv
  split at hv
  · cases hv
  rename_i hin
  cases hv
  refine g_iald hd hp ?_ kk
  unfold aI
  show (match tH A M w.1 (A.2 k) with | some (.inl (t', n, .inl f)) => if t' = 0 ∧ ¬ (i < 0 ∨ n ≤ i.toNatClampNeg) then some (f i.toNatClampNeg) else none | _ => none) = _
  rw [tH_int hA hk]
  exact if_pos ⟨rfl, hin⟩
theorem gt_lald {k : Nat} {i : Int32} {v : Int64} (hA : tO A) (hk : k ∈ tJ) (hd : decode (bcd X) pc = .ok (.laload, 1)) (hp : pc + 1 = pc') (hv : rL M k i = some v) (kk : bG X (tW A M w) pc' L (.long v :: rest)) : bG X (tW A M w) pc L (.int i :: .ref (A.2 k) :: rest) := by
  unfold rL at hv
  split at hv
  · cases hv
  rename_i hin
  cases hv
  refine g_lald hd hp ?_ kk
  unfold aJ
  show (match tH A M w.1 (A.2 k) with | some (.inl (t', n, .inr (.inl f))) => if t' = 3 ∧ ¬ (i < 0 ∨ n ≤ i.toNatClampNeg) then some (f i.toNatClampNeg) else none | _ => none) = _
  rw [tH_long hA hk]
  exact if_pos ⟨rfl, hin⟩
theorem gt_iast {k : Nat} {i x : Int32} (hA : tO A) (hk : k ∈ tI) (hd : decode (bcd X) pc = .ok (.iastore, 1)) (hp : pc + 1 = pc') (hv : wA M k i x = some M') (kk : bG X (tW A M' w) pc' L rest) : bG X (tW A M w) pc L (.int x :: .int i :: .ref (A.2 k) :: rest) := by
  unfold wA at hv
  split at hv
  · cases hv
  rename_i hin
  cases hv
  refine g_iast hd hp ?_ kk
  unfold sI
  show (match tH A M w.1 (A.2 k) with | some (.inl (t', n, .inl f)) => if t' = 0 ∧ ¬ (i < 0 ∨ n ≤ i.toNatClampNeg) then some (va_up (tH A M w.1) (A.2 k) (some (.inl (t', n, .inl (upd f i.toNatClampNeg x)))), w.2) else none | _ => none) = _
  rw [tH_int hA hk]
  refine (if_pos ⟨rfl, hin⟩).trans ?_
  rw [tH_setI hA hk]
  rfl
theorem gt_last {k : Nat} {i : Int32} {x : Int64} (hA : tO A) (hk : k ∈ tJ) (hd : decode (bcd X) pc = .ok (.lastore, 1)) (hp : pc + 1 = pc') (hv : wL M k i x = some M') (kk : bG X (tW A M' w) pc' L rest) : bG X (tW A M w) pc L (.long x :: .int i :: .ref (A.2 k) :: rest) := by
  unfold wL at hv
  split at hv
  · cases hv
  rename_i hin
  cases hv
  refine g_last hd hp ?_ kk
  unfold sJ
  show (match tH A M w.1 (A.2 k) with | some (.inl (t', n, .inr (.inl f))) => if t' = 3 ∧ ¬ (i < 0 ∨ n ≤ i.toNatClampNeg) then some (va_up (tH A M w.1) (A.2 k) (some (.inl (t', n, .inr (.inl (vp_updL f i.toNatClampNeg x))))), w.2) else none | _ => none) = _
  rw [tH_long hA hk]
  refine (if_pos ⟨rfl, hin⟩).trans ?_
  rw [tH_setL hA hk]
  rfl
end TROWS
