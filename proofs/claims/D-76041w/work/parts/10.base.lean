/-! BASE: a functional heap; one judgement for the walk of a method; one row an opcode -/
set_option maxRecDepth 100000
/-- an abstract cell: an array (number of its class, length and contents) or an object (number of its class, fields) -/
abbrev bCe : Type := (Nat × vp_A) ⊕ (Nat × List Value)
abbrev bHp : Type := Nat → Option bCe
/-- class ids and slots; array class ids; the heap at the law's start; limits on cells and on slots; the Strings' addresses and their arrays' -/
abbrev bGh : Type := va_G × (Nat → ClassId) × Heap × (Nat × Nat) × (Nat → Nat) × (Nat → Nat)
/-- heap, its size, slots made so far, limits -/
abbrev bWl : Type := bHp × Nat × Nat × (Nat × Nat)
/-- a method: name, code, locals, answer, handlers; frames and words of room -/
abbrev bMD : Type := MethodName × ByteArray × Nat × Option FieldType × List (Nat × Nat × Nat × Nat) × Nat × Nat
abbrev bCX : Type := bGh × bMD × Nat × Nat × (Outcome → bWl → Prop)
abbrev bKX : Type := Program × Launch × Env × Room × State × MethodId × Array Value × List Frame × Method × Code
/-- the claim's classes, by the number of their names -/
def bCl : List vw_C := [(RX0, TX0, 9), (RX1, TX1, 8), (RX2, TX2, 1), (RX3, TX3, 16), (RX4, TX4, 7), (RX5, TX5, 1), (RX6, TX6, 1), (RX7, TX7, 1), (RX8, TX8, 1), (RX9, TX9, 1), (RX10, TX10, 1), (RX11, TX11, 6), (RX12, TX12, 7)]
def bTy (g : bGh) : List (ClassId × FieldType) := [(g.2.1 0, .int), (g.2.1 1, .byte), (g.2.1 2, .short), (g.2.1 3, .long), (g.2.1 4, .object "RumourBeds$Slot")]
def bE (g : bGh) (e : bCe) : va_E := match e with
  | .inl x => .inl (g.2.1 x.1, x.2)
  | .inr o => .inr o
/-- the concrete heap holds the abstract one; below the base nothing has changed -/
def bHo (g : bGh) (w : bWl) (H : Heap) : Prop := H.size = w.2.1 ∧ (∀ q : Nat, q < g.2.2.1.size → H[q]? = g.2.2.1[q]?) ∧ ∀ (a : Nat) (e : bCe), w.1 a = some e → g.2.2.1.size ≤ a ∧ va_at g.1 bCl (a, bE g e) H
/-- words of the tables that ride apart -/
def bNw : List Cond := [
  .methodLinkNest "RumourBeds$Town" 21 ⟨"RumourBeds", "slots", "(I)[LRumourBeds$Slot;"⟩ "RumourBeds",
  .methodLinkNest "RumourBeds" 9 ⟨"RumourBeds$Slot", "<init>", "()V"⟩ "RumourBeds",
  .methodLinkNest "RumourBeds$Town" 71 ⟨"RumourBeds", "rumourFor", "(I)LRumourBeds$Rumour;"⟩ "RumourBeds",
  .methodLinkNest "RumourBeds" 28 ⟨"RumourBeds$Rumour", "<init>", "()V"⟩ "RumourBeds",
  .methodLinkNest "RumourBeds" 31 ⟨"RumourBeds$Big", "<init>", "()V"⟩ "RumourBeds",
  .methodLinkNest "RumourBeds$Big" 1 ⟨"RumourBeds$Rumour", "<init>", "()V"⟩ "RumourBeds",
  .methodLinkNest "RumourBeds" 34 ⟨"RumourBeds$Dull", "<init>", "()V"⟩ "RumourBeds",
  .methodLinkNest "RumourBeds$Dull" 1 ⟨"RumourBeds$Rumour", "<init>", "()V"⟩ "RumourBeds",
  .methodLinkNest "RumourBeds" 37 ⟨"RumourBeds$Shy", "<init>", "()V"⟩ "RumourBeds",
  .methodLinkNest "RumourBeds$Shy" 1 ⟨"RumourBeds$Rumour", "<init>", "()V"⟩ "RumourBeds",
  .methodLinkNest "RumourBeds" 40 ⟨"RumourBeds$Royal", "<init>", "()V"⟩ "RumourBeds",
  .methodLinkNest "RumourBeds$Royal" 1 ⟨"RumourBeds$Big", "<init>", "()V"⟩ "RumourBeds",
  .methodLinkNest "RumourBeds" 43 ⟨"RumourBeds$Wells", "<init>", "()V"⟩ "RumourBeds",
  .methodLinkNest "RumourBeds$Wells" 1 ⟨"RumourBeds$Dull", "<init>", "()V"⟩ "RumourBeds",
  .methodLinkNest "RumourBeds$Town" 93 ⟨"RumourBeds", "has", "(II)Z"⟩ "RumourBeds",
  .methodLinkNest "RumourBeds$Reader" 23 ⟨"RumourBeds", "in", "(JJJ)Z"⟩ "RumourBeds",
  .methodLinkNest "RumourBeds$Reader" 85 ⟨"RumourBeds", "isHouse", "(I)Z"⟩ "RumourBeds",
  .castable "RumourBeds$Finding" "RumourBeds$Finding",
  .castable "RumourBeds$Fault" "RumourBeds$Fault",
  .castable "RumourBeds$Big" "RumourBeds$Rumour",
  .castable "RumourBeds$Dull" "RumourBeds$Rumour",
  .castable "RumourBeds$Royal" "RumourBeds$Rumour",
  .castable "RumourBeds$Shy" "RumourBeds$Rumour",
  .castable "RumourBeds$Wells" "RumourBeds$Rumour"]
/-- the words of the call of needs() -/
def bNd : List Cond := [
  .methodLink "RumourBeds" 157 ⟨"RumourBeds$Rumour", "needs", "()I"⟩,
  .methodLink "RumourBeds$Big" 24 ⟨"RumourBeds$Rumour", "needs", "()I"⟩,
  .methodLink "RumourBeds$Dull" 15 ⟨"RumourBeds$Rumour", "needs", "()I"⟩,
  .methodLink "RumourBeds$Shy" 26 ⟨"RumourBeds$Rumour", "needs", "()I"⟩,
  .methodLink "RumourBeds$Town" 90 ⟨"RumourBeds$Rumour", "needs", "()I"⟩,
  .sameMethod "RumourBeds$Rumour" "RumourBeds$Needs" "needs" "()I",
  .landsInDefault "RumourBeds$Rumour" ⟨"RumourBeds$Rumour", "needs", "()I"⟩ ⟨"RumourBeds$Needs", "needs", "()I"⟩]
/-- the String constants: pool entries of the Reader, texts, lengths, bytes -/
def bSi : List Nat := [73, 75, 77, 79, 81, 83, 97, 116, 121, 142, 125, 129, 133, 146]
def bSx : List String := ["rumour", "big", "dull", "shy", "royal", "wells", "of", "bulk", "in", "house", "beds", "larder", "leans", "true"]
def bSn : List Nat := [6, 3, 4, 3, 5, 5, 2, 4, 2, 5, 4, 6, 5, 4]
def bSb : List (List Int32) := [[114, 117, 109, 111, 117, 114], [98, 105, 103], [100, 117, 108, 108], [115, 104, 121], [114, 111, 121, 97, 108], [119, 101, 108, 108, 115], [111, 102], [98, 117, 108, 107], [105, 110], [104, 111, 117, 115, 101], [98, 101, 100, 115], [108, 97, 114, 100, 101, 114], [108, 101, 97, 110, 115], [116, 114, 117, 101]]
def bAw (g : bGh) : Nat → Prop := fun q => g.2.2.1.size ≤ q
/-- the String constants' cells -/
def bSS (g : bGh) (U : State) : Prop := (∀ i : Nat, i < 14 → va_O "java/lang/String" (g.2.2.2.2.1 i) (bAw g) U g.2.2.1 ∧ va_OF "java/lang/String" "coder" "B" (.int 0) (g.2.2.2.2.1 i) (bAw g) U g.2.2.1 ∧ va_OF "java/lang/String" "value" "[B" (.ref (g.2.2.2.2.2 i)) (g.2.2.2.2.1 i) (bAw g) U g.2.2.1 ∧ va_T .byte (g.2.2.2.2.2 i) (bSn.getD i 0) (fun j => .int ((bSb.getD i []).getD j 0)) (bAw g) U g.2.2.1) ∧ True
theorem bSS.moved {g : bGh} {u U : State} (hvm : u.vm.Alike U.vm) (h : bSS g u) : bSS g U := ⟨fun i hi => ⟨va_O.moved hvm (h.1 i hi).1, va_OF.moved hvm (h.1 i hi).2.1, va_OF.moved hvm (h.1 i hi).2.2.1, va_T.moved hvm (h.1 i hi).2.2.2⟩, trivial⟩
/-- what holds of the tables and of the cells below the base, all through the run -/
def bSt (g : bGh) (U : State) : Prop := va_K g.1 bCl (bTy g) U ∧ (∀ w ∈ bNw, va_Nw w U) ∧ va_AO "RumourBeds$Slot" U ∧ (∀ w ∈ bNd, va_Nw w U) ∧
  (va_Nc "[S" "[B" U ∧ va_Nc "[J" "[B" U ∧ va_Nc "[J" "[S" U ∧ va_Nc "[B" "[S" U) ∧
  (va_Zq "java/lang/Throwable" "UNASSIGNED_STACK" "[Ljava/lang/StackTraceElement;" (bAw g) U g.2.2.1 ∧ va_Zq "java/lang/Throwable" "SUPPRESSED_SENTINEL" "Ljava/util/List;" (bAw g) U g.2.2.1 ∧ va_Zq "jdk/internal/util/Preconditions" "SIOOBE_FORMATTER" "Ljava/util/function/BiFunction;" (bAw g) U g.2.2.1 ∧ va_Z "java/lang/String" "COMPACT_STRINGS" "Z" (.int 1) (bAw g) U g.2.2.1) ∧
  bSS g U ∧ (∀ i : Nat, i < 14 → vk_R "RumourBeds$Reader" (bSi.getD i 0) (bSx.getD i "") (g.2.2.2.2.1 i) U) ∧ ArrOfT U (g.2.1 5) .int
theorem bNw_warm {s U : State} (hW : s.WarmedH U.vm) (h : ∀ w ∈ bNw, va_Nw w s) : ∀ w ∈ bNw, va_Nw w U := by
  intro w hw
  have h1 := h w hw
  simp only [bNw, List.mem_cons, List.not_mem_nil, or_false] at hw
  rcases hw with e | e | e | e | e | e | e | e | e | e | e | e | e | e | e | e | e | e | e | e | e | e | e | e <;> subst e <;> first | exact va_Nw.warmM hW h1 | exact va_Nw.warmC hW h1
theorem bNd_warm {s U : State} (hW : s.WarmedH U.vm) (h : ∀ w ∈ bNd, va_Nw w s) : ∀ w ∈ bNd, va_Nw w U := by
  intro w hw
  have h1 := h w hw
  simp only [bNd, List.mem_cons, List.not_mem_nil, or_false] at hw
  rcases hw with e | e | e | e | e | e | e <;> subst e <;> first | exact word_at hW (Or.inl rfl) h1 | exact nd_warm (own := "RumourBeds$Needs") hW ⟨by decide +kernel, by decide +kernel⟩ (h _ (by simp [bNd])) h1
theorem bSt.moved {g : bGh} {s U : State} (hW : s.WarmedH U.vm) (h : bSt g s) : bSt g U := by
  obtain ⟨h1, h2, h3, h4, ⟨h5, h6, h7, h77⟩, ⟨h8, h9, h10, h11⟩, h12, h13, h14⟩ := h
  exact ⟨va_K.moved hW.alike h1, bNw_warm hW h2, h3.moved hW.alike, bNd_warm hW h4, ⟨h5.moved hW.alike, h6.moved hW.alike, h7.moved hW.alike, h77.moved hW.alike⟩, ⟨h8.moved hW.alike, h9.moved hW.alike, h10.moved hW.alike, h11.moved hW.alike⟩, h12.moved hW.alike, fun i hi => (h13 i hi).warm hW, arrOfT_moved hW.alike h14⟩
/-- what holds of the machine all through the walk of one invocation -/
def bFx (X : bCX) (K : bKX) : Prop := match X, K with
  | (g, (y, cc, nL, ret, hh, fr, lo), n0, u0, _), (p, _, _, R, s, m, args, _, meth, c) =>
    p.tables.exec = Jvm.exec ∧ c.code = cc ∧ c.maxLocals = nL ∧ meth.sig.returnType = ret ∧ meth.locks = false ∧ c.exceptionTable.toList = tableOf hh ∧ s.vm.findClass y.cls = some m.cls ∧ meth.name = y.name ∧
    (∀ w ∈ lw_all, w.before args s = true) ∧ bSt g s ∧ fr ≤ R.frames ∧ lo ≤ R.locals ∧ g.2.2.2.1.1 - n0 ≤ R.cells ∧ g.2.2.2.1.2 - u0 ≤ R.slots ∧ s.heap.size = n0 ∧ g.2.2.1.size ≤ n0
/-- the end of the invocation -/
def bEnd (X : bCX) (K : bKX) : State → Prop := match X, K with
  | (g, _, n0, u0, Q), (_, _, _, _, s, _, _, below, _, _) => fun t =>
    ∃ (o : Outcome) (w : bWl) (L : List Loc), t.status = .running ∧ Ended t below o ∧ s.WarmedH t.vm ∧ s.sameButNew ({ t with vm := s.vm } : State) L (w.2.1 - n0) (w.2.2.1 - u0) ∧ (∀ q ∈ L, g.2.2.1.size ≤ q.base) ∧ bHo g w t.heap ∧
      (n0 ≤ w.2.1 ∧ u0 ≤ w.2.2.1 ∧ w.2.1 ≤ g.2.2.2.1.1 ∧ w.2.2.1 ≤ g.2.2.2.1.2 ∧ w.2.2.2 = g.2.2.2.1) ∧ Q o w
def bWk (K : bKX) (H : Heap) (locs : List Loc) (cells slots : Nat) (Q : State → Prop) (pc : Nat) (ls : Array Slot) (st : List Value) : Prop := match K with
  | (p, l, e, R, s, m, args, below, meth, c) => W p l e R s m args below meth c H locs cells slots Q (F0 m pc ls st)
/-- the locals -/
def bLH (ls : Array Slot) (nL : Nat) (L : List (Option Value)) : Prop := ls.size = nL ∧ lv_wf ls ∧ ∀ (i : Nat) (v : Value), L[i]? = some (some v) → ls[i]? = some (.val v)
def bOk (X : bCX) (w : bWl) : Prop := X.2.2.1 ≤ w.2.1 ∧ X.2.2.2.1 ≤ w.2.2.1 ∧ w.2.1 ≤ X.1.2.2.2.1.1 ∧ w.2.2.1 ≤ X.1.2.2.2.1.2 ∧ w.2.2.2 = X.1.2.2.2.1
/-- THE JUDGEMENT: from pc, with these locals and this stack, in a heap that holds w, the invocation comes to its end -/
def bG (X : bCX) (w : bWl) (pc : Nat) (L : List (Option Value)) (st : List Value) : Prop :=
  ∀ K : bKX, bFx X K → bOk X w → ∀ (H : Heap) (locs : List Loc) (ls : Array Slot), bHo X.1 w H → (∀ q ∈ locs, X.1.2.2.1.size ≤ q.base) → bLH ls X.2.1.2.2.1 L →
    bWk K H locs (w.2.1 - X.2.2.1) (w.2.2.1 - X.2.2.2.1) (bEnd X K) pc ls st
/-- .. an exception has been thrown at pc of this frame -/
def bT (X : bCX) (w : bWl) (pc : Nat) (L : List (Option Value)) (a : Nat) : Prop :=
  ∀ K : bKX, bFx X K → bOk X w → ∀ (H : Heap) (locs : List Loc) (ls : Array Slot) (st : List Value), bHo X.1 w H → (∀ q ∈ locs, X.1.2.2.1.size ≤ q.base) → bLH ls X.2.1.2.2.1 L →
    match K with
    | (p, l, e, R, s, m, args, below, meth, c) => ∀ T : State, T.heap = H → Stand p l e R s m args below meth c T locs (w.2.1 - X.2.2.1) (w.2.2.1 - X.2.2.2.1) → ∃ t, Steps p.tables e below ((T.setTop (F0 m pc ls st)).pushFrame (.throwing a)) t ∧ bEnd X K t
abbrev bcd (X : bCX) : ByteArray := X.2.1.2.1
abbrev bown (X : bCX) : String := X.2.1.1.cls
theorem bLH.at {ls : Array Slot} {nL : Nat} {L : List (Option Value)} (h : bLH ls nL L) {i : Nat} {v : Value} (hi : L[i]? = some (some v)) : ls[i]? = some (.val v) := h.2.2 i v hi
/-- a store of one word, of two words -/
def bs1 (L : List (Option Value)) (i : Nat) (x : Value) : List (Option Value) := (L ++ List.replicate (i + 1 - L.length) none).set i (some x)
def bs2 (L : List (Option Value)) (i : Nat) (x : Value) : List (Option Value) := ((L ++ List.replicate (i + 2 - L.length) none).set i (some x)).set (i + 1) none
/-- no long ends at the place ahead -/
def b2 (L : List (Option Value)) (i : Nat) : Bool := match i with
  | 0 => true
  | j + 1 => match L[j]? with
    | some (some v) => v.category != 2
    | _ => true
/-- the pairs of place and value -/
def bPr (i : Nat) (L : List (Option Value)) : List (Nat × Value) := match L with
  | [] => []
  | none :: t => bPr (i + 1) t
  | some v :: t => (i, v) :: bPr (i + 1) t
theorem bPr_mem_aux (L : List (Option Value)) : ∀ (i j : Nat) (v : Value), (j, v) ∈ bPr i L ↔ ∃ k, j = i + k ∧ L[k]? = some (some v) := by
  induction L with
  | nil => intro i j v; simp [bPr]
  | cons h t ih =>
    intro i j v
    have key : ((j, v) ∈ bPr (i + 1) t) ↔ ∃ k, j = i + (k + 1) ∧ t[k]? = some (some v) := by
      rw [ih (i + 1) j v]
      constructor
      · rintro ⟨k, h1, h2⟩; exact ⟨k, by omega, h2⟩
      · rintro ⟨k, h1, h2⟩; exact ⟨k, by omega, h2⟩
    cases h with
    | none =>
      show (j, v) ∈ bPr (i + 1) t ↔ _
      rw [key]
      constructor
      · rintro ⟨k, h1, h2⟩; exact ⟨k + 1, h1, by simpa using h2⟩
      · rintro ⟨k, h1, h2⟩
        cases k with
        | zero => simp at h2
        | succ k => exact ⟨k, h1, by simpa using h2⟩
    | some u =>
      show (j, v) ∈ (i, u) :: bPr (i + 1) t ↔ _
      rw [List.mem_cons, key]
      constructor
      · rintro (h | ⟨k, h1, h2⟩)
        · cases h; exact ⟨0, by omega, by simp⟩
        · exact ⟨k + 1, h1, by simpa using h2⟩
      · rintro ⟨k, h1, h2⟩
        cases k with
        | zero => left; simp at h2; subst h2; simp [h1]
        | succ k => right; exact ⟨k, h1, by simpa using h2⟩
theorem bPr_mem {L : List (Option Value)} {j : Nat} {v : Value} : (j, v) ∈ bPr 0 L ↔ L[j]? = some (some v) := by
  rw [bPr_mem_aux L 0 j v]
  constructor
  · rintro ⟨k, h1, h2⟩
    have : k = j := by omega
    subst this; exact h2
  · intro h; exact ⟨j, by omega, h⟩
theorem bLH_pr {ls : Array Slot} {nL : Nat} {L : List (Option Value)} (h : bLH ls nL L) : lv_has ls nL (bPr 0 L) := ⟨h.1, h.2.1, fun q hq => h.2.2 q.1 q.2 (bPr_mem.mp hq)⟩
theorem b_pad {L : List (Option Value)} {n j : Nat} {v : Value} (h : (L ++ List.replicate n none)[j]? = some (some v)) : L[j]? = some (some v) := by
  by_cases hj : j < L.length
  · rwa [List.getElem?_append_left hj] at h
  · rw [List.getElem?_append_right (by omega), List.getElem?_replicate] at h
    split at h <;> simp at h
theorem b2_use {L : List (Option Value)} {i j : Nat} {v : Value} (h2 : b2 L i = true) (hj : L[j]? = some (some v)) : ¬ (j + 1 = i ∧ v.category = 2) := by
  rintro ⟨rfl, hc⟩
  simp [b2, hj, hc] at h2
theorem bLH_s1 {ls : Array Slot} {nL i : Nat} {L : List (Option Value)} {x : Value} (h2 : b2 L i = true) (h : lv_has ls nL ((i, x) :: (bPr 0 L).filter (fun q => !(q.1 == i) && !(q.1 + 1 == i && q.2.category == 2)))) : bLH ls nL (bs1 L i x) := by
  refine ⟨h.1, h.2.1, fun j v hj => h.2.2 (j, v) ?_⟩
  rw [bs1] at hj
  by_cases hji : j = i
  · subst hji
    rw [List.getElem?_set] at hj
    split at hj
    · split at hj
      · cases hj; exact List.mem_cons_self
      · cases hj
    · rename_i hne; exact absurd rfl hne
  · rw [List.getElem?_set_ne (fun q => hji q.symm)] at hj
    have hq := b_pad hj
    refine List.mem_cons_of_mem _ (List.mem_filter.mpr ⟨bPr_mem.mpr hq, ?_⟩)
    simp only [Bool.and_eq_true, Bool.not_eq_true', beq_eq_false_iff_ne, ne_eq, Bool.and_eq_false_iff]
    refine ⟨hji, ?_⟩
    by_cases h1 : j + 1 = i
    · exact Or.inr fun h3 => b2_use h2 hq ⟨h1, h3⟩
    · exact Or.inl h1
theorem bLH_s2 {ls : Array Slot} {nL i : Nat} {L : List (Option Value)} {x : Value} (h2 : b2 L i = true) (h : lv_has ls nL ((i, x) :: (bPr 0 L).filter (fun q => !(q.1 == i) && (!(q.1 == i + 1) && !(q.1 + 1 == i && q.2.category == 2))))) : bLH ls nL (bs2 L i x) := by
  refine ⟨h.1, h.2.1, fun j v hj => h.2.2 (j, v) ?_⟩
  rw [bs2] at hj
  by_cases hji1 : j = i + 1
  · subst hji1
    rw [List.getElem?_set] at hj
    split at hj
    · split at hj <;> cases hj
    · rename_i hne; exact absurd rfl hne
  · rw [List.getElem?_set_ne (fun q => hji1 q.symm)] at hj
    by_cases hji : j = i
    · subst hji
      rw [List.getElem?_set] at hj
      split at hj
      · split at hj
        · cases hj; exact List.mem_cons_self
        · cases hj
      · rename_i hne; exact absurd rfl hne
    · rw [List.getElem?_set_ne (fun q => hji q.symm)] at hj
      have hq := b_pad hj
      refine List.mem_cons_of_mem _ (List.mem_filter.mpr ⟨bPr_mem.mpr hq, ?_⟩)
      simp only [Bool.and_eq_true, Bool.not_eq_true', beq_eq_false_iff_ne, ne_eq, Bool.and_eq_false_iff]
      refine ⟨hji, hji1, ?_⟩
      by_cases h1 : j + 1 = i
      · exact Or.inr fun h3 => b2_use h2 hq ⟨h1, h3⟩
      · exact Or.inl h1
