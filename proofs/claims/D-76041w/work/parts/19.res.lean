/-! RESULTS; VIRTUAL CALLS; LOOPS -/
set_option maxRecDepth 100000
/-- it returned v, the world is w -/
def q_ (v : Option Value) (w : bWl) : Outcome → bWl → Prop := fun o w' => o = .returned v ∧ w' = w
/-- it returned, or it threw -/
def qX {α : Type} (enc : α → Option Value) (r : α ⊕ Nat) (w : bWl) : Outcome → bWl → Prop := match r with
  | .inl v => q_ (enc v) w
  | .inr a => fun o w' => o = .threw a ∧ w' = w
abbrev eI (v : Int32) : Option Value := some (.int v)
abbrev eJ (v : Int64) : Option Value := some (.long v)
abbrev eA (v : Nat) : Option Value := some (.ref v)
abbrev eN (v : Option Nat) : Option Value := some (va_rf v)
abbrev eV (_ : Unit) : Option Value := none
section RES
variable {X : bCX} {w w1 : bWl} {pc pc' : Nat} {L : List (Option Value)} {rest : List Value} {a : Nat}
theorem g_rI {v : Int32} (k : bG X w1 pc' L (.int v :: rest)) : ∀ (v' : Option Value) (w' : bWl), q_ (some (.int v)) w1 (.returned v') w' → bG X w' pc' L (v'.toList ++ rest) := by
  rintro v' w' ⟨h, rfl⟩; cases h; exact k
theorem g_rJ {v : Int64} (k : bG X w1 pc' L (.long v :: rest)) : ∀ (v' : Option Value) (w' : bWl), q_ (some (.long v)) w1 (.returned v') w' → bG X w' pc' L (v'.toList ++ rest) := by
  rintro v' w' ⟨h, rfl⟩; cases h; exact k
theorem g_rA {v : Nat} (k : bG X w1 pc' L (.ref v :: rest)) : ∀ (v' : Option Value) (w' : bWl), q_ (some (.ref v)) w1 (.returned v') w' → bG X w' pc' L (v'.toList ++ rest) := by
  rintro v' w' ⟨h, rfl⟩; cases h; exact k
theorem g_rN (k : bG X w1 pc' L (.null :: rest)) : ∀ (v' : Option Value) (w' : bWl), q_ (some .null) w1 (.returned v') w' → bG X w' pc' L (v'.toList ++ rest) := by
  rintro v' w' ⟨h, rfl⟩; cases h; exact k
theorem g_rV (k : bG X w1 pc' L rest) : ∀ (v' : Option Value) (w' : bWl), q_ none w1 (.returned v') w' → bG X w' pc' L (v'.toList ++ rest) := by
  rintro v' w' ⟨h, rfl⟩; cases h; exact k
/-- it cannot throw; it cannot return -/
theorem g_nt {v : Option Value} : ∀ (a : Nat) (w' : bWl), q_ v w1 (.threw a) w' → bT X w' pc L a := by
  rintro a w' ⟨h, -⟩; cases h
theorem g_nr {α : Type} {enc : α → Option Value} {a : Nat} : ∀ (v' : Option Value) (w' : bWl), qX enc (.inr a) w1 (.returned v') w' → bG X w' pc' L (v'.toList ++ rest) := by
  rintro v' w' ⟨h, -⟩; cases h
theorem g_tt {α : Type} {enc : α → Option Value} {a : Nat} (k : bT X w1 pc L a) : ∀ (a' : Nat) (w' : bWl), qX enc (.inr a) w1 (.threw a') w' → bT X w' pc L a' := by
  rintro a' w' ⟨h, rfl⟩; cases h; exact k
end RES
/-- the receiver's class -/
def vK {α : Type} (n : Nat) (w : bWl) (a : Nat) (k : Option α) : Option α := if hC w a = some n then k else none
theorem vK_spec {α : Type} {n : Nat} {w : bWl} {a : Nat} {k : Option α} {r : α} (h : vK n w a k = some r) : hC w a = some n ∧ k = some r := by
  unfold vK at h
  split at h
  · exact ⟨by assumption, h⟩
  · cases h
def vR {α : Type} (w : bWl) (a : Nat) (k : Option α) : Option α := match hC w a with
  | some c => if okRu c then k else none
  | none => none
theorem vR_spec {α : Type} {w : bWl} {a : Nat} {k : Option α} {r : α} (h : vR w a k = some r) : (∃ c, hC w a = some c ∧ (c = 5 ∨ c = 6 ∨ c = 7 ∨ c = 8 ∨ c = 9 ∨ c = 10)) ∧ k = some r := by
  unfold vR at h
  split at h
  · rename_i c hc
    split at h
    · rename_i h2; exact ⟨⟨c, hc, okRu_eq h2⟩, h⟩
    · cases h
  · cases h
/-- dispatch on the class of a rumour -/
def vD {α : Type} (w : bWl) (a : Nat) (k5 k6 k7 k8 k9 k10 : Option α) : Option α := match hC w a with
  | some 5 => k5
  | some 6 => k6
  | some 7 => k7
  | some 8 => k8
  | some 9 => k9
  | some 10 => k10
  | _ => none
theorem vD_spec {α : Type} {w : bWl} {a : Nat} {k5 k6 k7 k8 k9 k10 : Option α} {r : α} (h : vD w a k5 k6 k7 k8 k9 k10 = some r) : (hC w a = some 5 ∧ k5 = some r) ∨ (hC w a = some 6 ∧ k6 = some r) ∨ (hC w a = some 7 ∧ k7 = some r) ∨ (hC w a = some 8 ∧ k8 = some r) ∨ (hC w a = some 9 ∧ k9 = some r) ∨ (hC w a = some 10 ∧ k10 = some r) := by
  unfold vD at h
  split at h
  · left; exact ⟨by assumption, h⟩
  · right; left; exact ⟨by assumption, h⟩
  · right; right; left; exact ⟨by assumption, h⟩
  · right; right; right; left; exact ⟨by assumption, h⟩
  · right; right; right; right; left; exact ⟨by assumption, h⟩
  · right; right; right; right; right; exact ⟨by assumption, h⟩
  · cases h
/-- a branch on null; on an outcome; a boolean -/
def nz {α : Type} (o : Option Nat) (f : Nat → Option α) (b : Option α) : Option α := match o with
  | some a => f a
  | none => b
def sm {α β : Type} (o : β ⊕ Nat) (f : β → Option α) (b : Nat → Option α) : Option α := match o with
  | .inl v => f v
  | .inr a => b a
def sx {α β γ : Type} (o : β ⊕ γ) (f : β → Option α) (b : γ → Option α) : Option α := match o with
  | .inl v => f v
  | .inr a => b a
def bz {α : Type} (v : Int32) (k : Option α) : Option α := if v = 0 ∨ v = 1 then k else none
theorem bz_spec {α : Type} {v : Int32} {k : Option α} {r : α} (h : bz v k = some r) : (v = 0 ∨ v = 1) ∧ k = some r := by
  unfold bz at h
  split at h
  · exact ⟨by assumption, h⟩
  · cases h
theorem bz_nar {v : Int32} (h : v = 0 ∨ v = 1) : narrow .boolean (.int v) = .int v := by
  rcases h with rfl | rfl <;> decide +kernel
theorem bz_fit {v : Int32} (h : v = 0 ∨ v = 1) : fits .boolean (.int v) = true := by
  rcases h with rfl | rfl <;> decide +kernel
/-- a loop -/
def lpF {σ ρ : Type} (body : (σ → Option ρ) → σ → Option ρ) : Nat → σ → Option ρ
  | 0, _ => none
  | n + 1, s => body (lpF body n) s
def FU : Nat := 100000
theorem lpF_z {σ ρ : Type} {body : (σ → Option ρ) → σ → Option ρ} {s : σ} : lpF body 0 s = none := rfl
theorem lpF_s {σ ρ : Type} {body : (σ → Option ρ) → σ → Option ρ} {n : Nat} {s : σ} : lpF body (n + 1) s = body (lpF body n) s := rfl
/-! THE TWIN: its object, its arrays -/
/-- ints, int arrays, long arrays, by the number of the field -/
abbrev tM : Type := (Nat → Int32) × (Nat → Nat → Int32) × (Nat → Nat → Int64)
abbrev tA : Type := Nat × (Nat → Nat)
def tFs (A : tA) (M : tM) : List Value := [.ref (A.2 0), .ref (A.2 1), .ref (A.2 2), .ref (A.2 3), .ref (A.2 4), .int (M.1 5), .ref (A.2 6), .int (M.1 7), .int (M.1 8), .int (M.1 9), .int (M.1 10), .int (M.1 11), .ref (A.2 12), .ref (A.2 13), .ref (A.2 14), .ref (A.2 15)]
/-- lengths -/
def tN (k : Nat) : Nat := match k with
  | 0 => 77 | 1 => 77 | 2 => 77 | 3 => 77 | 4 => 7 | 6 => 120 | 12 => 4 | 13 => 4 | 14 => 160 | 15 => 40 | _ => 0
def tI : List Nat := [0, 1, 2, 3, 4, 6, 12, 13]
def tJ : List Nat := [14, 15]
def tH (A : tA) (M : tM) (c : bHp) : bHp := fun a => if a = A.1 then some (.inr (3, tFs A M)) else match tI.find? (fun k => a == A.2 k) with
  | some k => some (.inl (0, tN k, .inl (M.2.1 k)))
  | none => match tJ.find? (fun k => a == A.2 k) with
    | some k => some (.inl (3, tN k, .inr (.inl (M.2.2 k))))
    | none => c a
def tW (A : tA) (M : tM) (w : bWl) : bWl := (tH A M w.1, w.2)
/-- the addresses are apart -/
def tO (A : tA) : Prop := (∀ k ∈ tI ++ tJ, A.2 k ≠ A.1) ∧ ∀ k ∈ tI ++ tJ, ∀ j ∈ tI ++ tJ, A.2 k = A.2 j → k = j
/-- locals that are no longer asked for -/
def bDr (L : List (Option Value)) (ks : List Nat) : List (Option Value) := ks.foldl (fun L k => L.set k none) L
theorem bDr_at {i : Nat} {v : Value} : ∀ (ks : List Nat) (L : List (Option Value)), (bDr L ks)[i]? = some (some v) → L[i]? = some (some v) := by
  intro ks
  induction ks with
  | nil => intro L h; exact h
  | cons k ks ih =>
    intro L h
    have h1 := ih (L.set k none) h
    rw [List.getElem?_set] at h1
    split at h1
    · split at h1 <;> simp at h1
    · exact h1
theorem g_drop {X : bCX} {w : bWl} {pc : Nat} {L L' : List (Option Value)} {st : List Value} (ks : List Nat) (h : bDr L ks = L') (k : bG X w pc L' st) : bG X w pc L st := by
  intro K hF hok H locs ls hH hlo hL
  subst h
  exact k K hF hok H locs ls hH hlo ⟨hL.1, hL.2.1, fun i v hi => hL.2.2 i v (bDr_at ks L hi)⟩
theorem g_pad {X : bCX} {w : bWl} {pc : Nat} {L : List (Option Value)} {st : List Value} (n : Nat) (k : bG X w pc (L ++ List.replicate n none) st) : bG X w pc L st := by
  intro K hF hok H locs ls hH hlo hL
  exact k K hF hok H locs ls hH hlo ⟨hL.1, hL.2.1, fun i v hi => hL.2.2 i v (b_pad hi)⟩
theorem g_cut {X : bCX} {w : bWl} {pc : Nat} {L L2 : List (Option Value)} {st : List Value} (n : Nat) (h : L ++ List.replicate n none = L2) (k : bG X w pc L st) : bG X w pc L2 st := by
  intro K hF hok H locs ls hH hlo hL
  subst h
  exact k K hF hok H locs ls hH hlo ⟨hL.1, hL.2.1, fun i v hi => hL.2.2 i v (by rw [List.getElem?_append_left (List.getElem?_eq_some_iff.mp hi).1]; exact hi)⟩
