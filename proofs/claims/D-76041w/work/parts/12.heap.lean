/-! HEAP: cells read and written; the world's own functions, and their rows -/
set_option maxRecDepth 100000
/-- a field of an object whose class 'ok' allows -/
def hF (w : bWl) (ok : Nat → Bool) (a k : Nat) : Option Value := match w.1 a with
  | some (.inr o) => if ok o.1 then o.2[k]? else none
  | _ => none
def hI (w : bWl) (ok : Nat → Bool) (a k : Nat) : Option Int32 := match hF w ok a k with
  | some (.int v) => some v
  | _ => none
def hR (w : bWl) (ok : Nat → Bool) (a k : Nat) : Option Nat := match hF w ok a k with
  | some (.ref v) => some v
  | _ => none
def hN (w : bWl) (ok : Nat → Bool) (a k : Nat) : Option (Option Nat) := match hF w ok a k with
  | some (.ref v) => some (some v)
  | some .null => some none
  | _ => none
def hP (w : bWl) (ok : Nat → Bool) (a k : Nat) (v : Value) : Option bWl := match w.1 a with
  | some (.inr o) => if ok o.1 ∧ k < o.2.length then some (va_up w.1 a (some (.inr (o.1, o.2.set k v))), w.2) else none
  | _ => none
/-- the class of an object -/
def hC (w : bWl) (a : Nat) : Option Nat := match w.1 a with
  | some (.inr o) => some o.1
  | _ => none
/-- arrays of ints, bytes, shorts (t: 0, 1, 2); of longs; of Slots -/
def aI (w : bWl) (t : Nat) (a : Nat) (i : Int32) : Option Int32 := match w.1 a with
  | some (.inl (t', n, .inl f)) => if t' = t ∧ ¬ (i < 0 ∨ n ≤ i.toNatClampNeg) then some (f i.toNatClampNeg) else none
  | _ => none
def aJ (w : bWl) (a : Nat) (i : Int32) : Option Int64 := match w.1 a with
  | some (.inl (t', n, .inr (.inl f))) => if t' = 3 ∧ ¬ (i < 0 ∨ n ≤ i.toNatClampNeg) then some (f i.toNatClampNeg) else none
  | _ => none
def aR (w : bWl) (a : Nat) (i : Int32) : Option Nat := match w.1 a with
  | some (.inl (t', n, .inr (.inr (.inr (.inr f))))) => if t' = 4 ∧ ¬ (i < 0 ∨ n ≤ i.toNatClampNeg) then f i.toNatClampNeg else none
  | _ => none
def aL (w : bWl) (a : Nat) : Option Int32 := match w.1 a with
  | some (.inl (t', x)) => if t' < 5 then some (Int32.ofNat x.1) else none
  | _ => none
def sI (w : bWl) (t : Nat) (a : Nat) (i x : Int32) : Option bWl := match w.1 a with
  | some (.inl (t', n, .inl f)) => if t' = t ∧ ¬ (i < 0 ∨ n ≤ i.toNatClampNeg) then some (va_up w.1 a (some (.inl (t', n, .inl (upd f i.toNatClampNeg x)))), w.2) else none
  | _ => none
def sJ (w : bWl) (a : Nat) (i : Int32) (x : Int64) : Option bWl := match w.1 a with
  | some (.inl (t', n, .inr (.inl f))) => if t' = 3 ∧ ¬ (i < 0 ∨ n ≤ i.toNatClampNeg) then some (va_up w.1 a (some (.inl (t', n, .inr (.inl (vp_updL f i.toNatClampNeg x))))), w.2) else none
  | _ => none
/-- a Slot into an array of Slots -/
def sR (w : bWl) (a : Nat) (i : Int32) (v : Nat) : Option bWl := match w.1 a with
  | some (.inl (t', n, .inr (.inr (.inr (.inr f))))) => if t' = 4 ∧ hC w v = some 2 ∧ ¬ (i < 0 ∨ n ≤ i.toNatClampNeg) then some (va_up w.1 a (some (.inl (t', n, .inr (.inr (.inr (.inr (va_up f i.toNatClampNeg (some v)))))))), w.2) else none
  | _ => none
/-- a new cell -/
def nC (w : bWl) (e : bCe) (k : Nat) : Option (Nat × bWl) := if w.2.1 + 1 ≤ w.2.2.2.1 ∧ w.2.2.1 + k ≤ w.2.2.2.2 then some (w.2.1, va_up w.1 w.2.1 (some e), w.2.1 + 1, w.2.2.1 + k, w.2.2.2) else none
def nI0 (w : bWl) (t : Nat) (n : Int32) : Option (Nat × bWl) := if n < 0 ∨ 1000 < n.toNatClampNeg then none else nC w (.inl (t, n.toNatClampNeg, .inl fun _ => 0)) n.toNatClampNeg
def nJ0 (w : bWl) (n : Int32) : Option (Nat × bWl) := if n < 0 ∨ 1000 < n.toNatClampNeg then none else nC w (.inl (3, n.toNatClampNeg, .inr (.inl fun _ => 0))) n.toNatClampNeg
def nR0 (w : bWl) (n : Int32) : Option (Nat × bWl) := if n < 0 ∨ 1000 < n.toNatClampNeg then none else nC w (.inl (4, n.toNatClampNeg, .inr (.inr (.inr (.inr fun _ => none))))) n.toNatClampNeg
/-- what the row of a read gives -/
theorem hF_spec {w : bWl} {ok : Nat → Bool} {a k : Nat} {v : Value} (h : hF w ok a k = some v) : ∃ (c : Nat) (fs : List Value), w.1 a = some (.inr (c, fs)) ∧ ok c = true ∧ fs[k]? = some v := by
  unfold hF at h
  split at h
  · rename_i o ho
    split at h
    · exact ⟨o.1, o.2, ho, by assumption, h⟩
    · cases h
  · cases h
theorem hI_spec {w : bWl} {ok : Nat → Bool} {a k : Nat} {v : Int32} (h : hI w ok a k = some v) : hF w ok a k = some (.int v) := by
  unfold hI at h
  split at h
  · cases h; assumption
  · cases h
theorem hR_spec {w : bWl} {ok : Nat → Bool} {a k : Nat} {v : Nat} (h : hR w ok a k = some v) : hF w ok a k = some (.ref v) := by
  unfold hR at h
  split at h
  · cases h; assumption
  · cases h
theorem hN_spec {w : bWl} {ok : Nat → Bool} {a k : Nat} {v : Option Nat} (h : hN w ok a k = some v) : hF w ok a k = some (va_rf v) := by
  unfold hN at h
  split at h
  · cases h; assumption
  · cases h; assumption
  · cases h
theorem hP_spec {w w' : bWl} {ok : Nat → Bool} {a k : Nat} {v : Value} (h : hP w ok a k v = some w') : ∃ (c : Nat) (fs : List Value), w.1 a = some (.inr (c, fs)) ∧ ok c = true ∧ k < fs.length ∧ w' = (va_up w.1 a (some (.inr (c, fs.set k v))), w.2) := by
  unfold hP at h
  split at h
  · rename_i o ho
    split at h
    · rename_i h2
      cases h
      exact ⟨o.1, o.2, ho, h2.1, h2.2, rfl⟩
    · cases h
  · cases h
theorem hC_spec {w : bWl} {a c : Nat} (h : hC w a = some c) : ∃ fs : List Value, w.1 a = some (.inr (c, fs)) := by
  unfold hC at h
  split at h
  · rename_i o ho
    cases h
    exact ⟨o.2, ho⟩
  · cases h
theorem aI_spec {w : bWl} {t a : Nat} {i v : Int32} (h : aI w t a i = some v) : ∃ (n : Nat) (f : Nat → Int32), w.1 a = some (.inl (t, n, .inl f)) ∧ vp_in i n ∧ v = f i.toNatClampNeg := by
  unfold aI at h
  split at h
  · rename_i t' n f ho
    split at h
    · rename_i h2
      cases h
      obtain ⟨rfl, h3⟩ := h2
      exact ⟨n, f, ho, h3, rfl⟩
    · cases h
  · cases h
theorem aJ_spec {w : bWl} {a : Nat} {i : Int32} {v : Int64} (h : aJ w a i = some v) : ∃ (n : Nat) (f : Nat → Int64), w.1 a = some (.inl (3, n, .inr (.inl f))) ∧ vp_in i n ∧ v = f i.toNatClampNeg := by
  unfold aJ at h
  split at h
  · rename_i t' n f ho
    split at h
    · rename_i h2
      cases h
      obtain ⟨rfl, h3⟩ := h2
      exact ⟨n, f, ho, h3, rfl⟩
    · cases h
  · cases h
theorem aR_spec {w : bWl} {a v : Nat} {i : Int32} (h : aR w a i = some v) : ∃ (n : Nat) (f : Nat → Option Nat), w.1 a = some (.inl (4, n, .inr (.inr (.inr (.inr f))))) ∧ vp_in i n ∧ f i.toNatClampNeg = some v := by
  unfold aR at h
  split at h
  · rename_i t' n f ho
    split at h
    · rename_i h2
      obtain ⟨rfl, h3⟩ := h2
      exact ⟨n, f, ho, h3, h⟩
    · cases h
  · cases h
theorem aL_spec {w : bWl} {a : Nat} {v : Int32} (h : aL w a = some v) : ∃ (t : Nat) (x : vp_A), w.1 a = some (.inl (t, x)) ∧ t < 5 ∧ v = Int32.ofNat x.1 := by
  unfold aL at h
  split at h
  · rename_i t x ho
    split at h
    · rename_i h2
      cases h
      exact ⟨t, x, ho, h2, rfl⟩
    · cases h
  · cases h
theorem sI_spec {w w' : bWl} {t a : Nat} {i x : Int32} (h : sI w t a i x = some w') : ∃ (n : Nat) (f : Nat → Int32), w.1 a = some (.inl (t, n, .inl f)) ∧ vp_in i n ∧ w' = (va_up w.1 a (some (.inl (t, n, .inl (upd f i.toNatClampNeg x)))), w.2) := by
  unfold sI at h
  split at h
  · rename_i t' n f ho
    split at h
    · rename_i h2
      cases h
      obtain ⟨rfl, h3⟩ := h2
      exact ⟨n, f, ho, h3, rfl⟩
    · cases h
  · cases h
theorem sJ_spec {w w' : bWl} {a : Nat} {i : Int32} {x : Int64} (h : sJ w a i x = some w') : ∃ (n : Nat) (f : Nat → Int64), w.1 a = some (.inl (3, n, .inr (.inl f))) ∧ vp_in i n ∧ w' = (va_up w.1 a (some (.inl (3, n, .inr (.inl (vp_updL f i.toNatClampNeg x))))), w.2) := by
  unfold sJ at h
  split at h
  · rename_i t' n f ho
    split at h
    · rename_i h2
      cases h
      obtain ⟨rfl, h3⟩ := h2
      exact ⟨n, f, ho, h3, rfl⟩
    · cases h
  · cases h
theorem sR_spec {w w' : bWl} {a v : Nat} {i : Int32} (h : sR w a i v = some w') : ∃ (n : Nat) (f : Nat → Option Nat), w.1 a = some (.inl (4, n, .inr (.inr (.inr (.inr f))))) ∧ hC w v = some 2 ∧ vp_in i n ∧ w' = (va_up w.1 a (some (.inl (4, n, .inr (.inr (.inr (.inr (va_up f i.toNatClampNeg (some v)))))))), w.2) := by
  unfold sR at h
  split at h
  · rename_i t' n f ho
    split at h
    · rename_i h2
      cases h
      obtain ⟨rfl, h3, h4⟩ := h2
      exact ⟨n, f, ho, h3, h4, rfl⟩
    · cases h
  · cases h
theorem nC_spec {w w' : bWl} {e : bCe} {k q : Nat} (h : nC w e k = some (q, w')) : w.2.1 + 1 ≤ w.2.2.2.1 ∧ w.2.2.1 + k ≤ w.2.2.2.2 ∧ q = w.2.1 ∧ w' = (va_up w.1 w.2.1 (some e), w.2.1 + 1, w.2.2.1 + k, w.2.2.2) := by
  unfold nC at h
  split at h
  · rename_i h2
    cases h
    exact ⟨h2.1, h2.2, rfl, rfl⟩
  · cases h
/-- the size of the heap, known inside a walk -/
theorem W_size {p : Program} {l : Launch} {e : Env} {R : Room} {s : State} {m : MethodId} {args : Array Value} {below : List Frame} {meth : Method} {c : Code} {H : Heap} {locs : List Loc} {cells slots : Nat} {Q : State → Prop} {g : JFrame} (h : H.size ≤ s.heap.size + cells → W p l e R s m args below meth c H locs cells slots Q g) : W p l e R s m args below meth c H locs cells slots Q g :=
  fun T hT X => h (by rw [← hT]; exact X.heapSize) T hT X
theorem bP1 {g : bGh} {w : bWl} {H : Heap} (hH : bHo g w H) {a : Nat} {e : bCe} (ha : w.1 a = some e) : va_P g.1 bCl [(a, bE g e)] H := by
  intro k q hk
  cases k with
  | zero => cases hk; exact (hH.2.2 a e ha).2
  | succ k => simp at hk
theorem bD1 {a : Nat} {e : va_E} : va_D (fun q => q = a) [(a, e)] := by
  refine ⟨fun i j p q hi hj _ => ?_, fun k q hk => ?_⟩
  · cases i with
    | zero => cases j with
      | zero => rfl
      | succ j => simp at hj
    | succ i => simp at hi
  · cases k with
    | zero => cases hk; rfl
    | succ k => simp at hk
/-- one cell has been written -/
theorem bHo_set {g : bGh} {w : bWl} {H H1 : Heap} {locs locs1 : List Loc} {a : Nat} {e e' : bCe} (hH : bHo g w H) (ha : w.1 a = some e) (hP : va_P g.1 bCl [(a, bE g e')] H1) (hS : va_S (fun q => q = a) H H1 locs1) (hz : H1.size ≤ w.2.1) : bHo g (va_up w.1 a (some e'), w.2) H1 := by
  obtain ⟨h1, h2, h3⟩ := hH
  have hz1 : H.size ≤ H1.size := hS.1
  have hsz := (h3 a e ha).1
  refine ⟨Nat.le_antisymm hz (by rw [← h1]; exact hz1), fun q hq => ?_, fun b x hb => ?_⟩
  · by_cases hl : q < H.size
    · rw [hS.2.1 q hl (by intro h; omega)]; exact h2 q hq
    · have h4 := (h3 a e ha).2.lt
      exfalso
      have : a < H.size := h4
      omega
  · by_cases hba : b = a
    · subst hba
      have hb' : va_up w.1 b (some e') b = some x := hb
      rw [va_up_self] at hb'
      cases hb'
      exact ⟨hsz, hP 0 _ rfl⟩
    · have hb' : va_up w.1 a (some e') b = some x := hb
      rw [va_up_ne _ _ hba] at hb'
      obtain ⟨h5, h6⟩ := h3 b x hb'
      exact ⟨h5, h6.kept (hS.2.1 b h6.lt hba)⟩
theorem bLo_set {g : bGh} {H H1 : Heap} {locs1 : List Loc} {a : Nat} (hs : g.2.2.1.size ≤ a) (hS : va_S (fun q => q = a) H H1 locs1) : ∀ q ∈ locs1, g.2.2.1.size ≤ q.base := fun q hq => by
  have h : q.base = a := hS.2.2 q hq
  rw [h]; exact hs
/-- a cell has been made -/
theorem bHo_new {g : bGh} {w : bWl} {H H1 : Heap} {locs1 : List Loc} {q k : Nat} {e : bCe} (hH : bHo g w H) (hb : g.2.2.1.size ≤ w.2.1) (hP : va_P g.1 bCl [(q, bE g e)] H1) (hD : va_D (fun x => H.size ≤ x) [(q, bE g e)]) (hS : va_S (fun x => H.size ≤ x) H H1 locs1) (hz : H1.size ≤ w.2.1 + 1) : q = w.2.1 ∧ bHo g (va_up w.1 w.2.1 (some e), w.2.1 + 1, w.2.2.1 + k, w.2.2.2) H1 := by
  obtain ⟨h1, h2, h3⟩ := hH
  have hq1 : q < H1.size := (hP 0 _ rfl).lt
  have hq2 : H.size ≤ q := hD.2 0 _ rfl
  have hq : q = w.2.1 := by omega
  subst hq
  refine ⟨rfl, by show H1.size = w.2.1 + 1; omega, fun x hx => ?_, fun b x hx => ?_⟩
  · rw [hS.2.1 x (by omega) (by omega)]; exact h2 x hx
  · by_cases hbq : b = w.2.1
    · subst hbq
      have hx' : va_up w.1 w.2.1 (some e) w.2.1 = some x := hx
      rw [va_up_self] at hx'
      cases hx'
      exact ⟨hb, hP 0 _ rfl⟩
    · have hx' : va_up w.1 w.2.1 (some e) b = some x := hx
      rw [va_up_ne _ _ hbq] at hx'
      obtain ⟨h5, h6⟩ := h3 b x hx'
      have h7 : b < H.size := h6.lt
      exact ⟨h5, h6.kept (hS.2.1 b h7 (by omega))⟩
theorem bD0 {A : Nat → Prop} : va_D A [] := ⟨fun i j p q h => by simp at h, fun k q h => by simp at h⟩
theorem bP0 {D : va_G} {cl : List vw_C} {H : Heap} : va_P D cl [] H := fun k q h => by simp at h
