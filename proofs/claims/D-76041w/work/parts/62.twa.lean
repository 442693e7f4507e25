/-! PURE: the twin's readings -/
set_option maxRecDepth 100000
def onesS (x : Int32) : Int32 := (fX3_ones x).getD 0
def onesT (j : Nat) : Bool := (fX3_ones (nI j)).isSome && decide (fJ3_bitCount (nI j) = fX3_ones (nI j)) && decide (0 ≤ onesS (nI j) ∧ onesS (nI j) ≤ 10)
theorem ones_all : ∀ j, j < 1024 → onesT j = true := by decide +kernel
theorem ones_ok {j : Nat} (h : j < 1024) : fX3_ones (nI j) = some (onesS (nI j)) ∧ fJ3_bitCount (nI j) = some (onesS (nI j)) ∧ 0 ≤ onesS (nI j) ∧ onesS (nI j) ≤ 10 := by
  have := ones_all j h
  simp only [onesT, Bool.and_eq_true, decide_eq_true_eq] at this
  obtain ⟨⟨h1, h2⟩, h3⟩ := this
  obtain ⟨v, hv⟩ := Option.isSome_iff_exists.mp h1
  have e : onesS (nI j) = v := by unfold onesS; rw [hv]; rfl
  rw [h2, hv, e]
  rw [e] at h3
  exact ⟨rfl, rfl, h3⟩
theorem ones_set (p : Nat → Bool) {n : Nat} (hn : n ≤ 10) : fX3_ones (setS p n) = some (onesS (setS p n)) ∧ fJ3_bitCount (setS p n) = some (onesS (setS p n)) ∧ 0 ≤ onesS (setS p n) ∧ onesS (setS p n) ≤ 10 := by
  obtain ⟨j, hj, e⟩ := setS_lt p n hn
  rw [e]
  exact ones_ok (Nat.lt_of_lt_of_le hj (Nat.pow_le_pow_right (by decide) hn))
/-- a loop over the rumours, that reads -/
theorem t_loop {M : tM} {n : Nat} {body : ((Int32 × Int32) → Option (Int32 × Int32)) → (Int32 × Int32) → Option (Int32 × Int32)} (f : Nat → Int32 → Int32) (h10 : n ≤ 10) (a : Int32)
    (hb : ∀ rec k s, k < n → body rec (s, nI k) = rec (f k s, nI (k + 1))) (he : ∀ rec s, body rec (s, nI n) = some (s, nI n)) : lpF body FU (a, nI 0) = some (itr f n a, nI n) :=
  (lp_up (body := body) (fun k s => (s, nI k)) f (fun s => (s, nI n)) n a (fun _ _ => True) (FU_gt (by omega)) trivial (fun k s hk _ => ⟨fun rec => hb rec k s hk, trivial⟩) (fun s _ rec => he rec s)).1
def eventsS (S : Row) (h : Int32) : Int32 := itr (fun k s => s ||| (if ru S k 4 = h then 1 <<< (ru S k 1 &&& 31) else 0)) (sN S) 0
def eatenS (S : Row) (h : Int32) : Int32 := itr (fun k s => s + (if ru S k 4 = h then eatsS S k else 0)) (sN S) 0
def bulksS (S : Row) : Int32 := itr (fun k s => s + ru S k 2) (sN S) 0
def lodgS (S : Row) (h e : Int32) : Int32 := setS (fun k => ru S k 4 == h && ru S k 1 == e) (sN S)
theorem t_events {M : tM} {x : Int32} {n : Nat} (hn : M.2.1 0 0 = nI n) (h10 : n ≤ 10) : fX3_eventsAt M x = some (eventsS (M.2.1 0) x) := by
  unfold fX3_eventsAt eventsS
  rw [sN_eq hn (by omega), show ((0 : Int32), (0 : Int32)) = (0, nI 0) from rfl, t_loop (M := M) (n := n) (fun k s => s ||| (if ru (M.2.1 0) k 4 = x then 1 <<< (ru (M.2.1 0) k 1 &&& 31) else 0)) h10 0 (fun rec k s hk => ?_) (fun rec s => ?_)]
  · rfl
  · unfold fX3_eventsAt_l4
    simp only [t_n, hn, Option.bind_some, if_neg (nI_ge hk (show n < 2 ^ 31 by omega)), t_i4 (show k < 10 by omega), t_i1 (show k < 10 by omega), nI_1]
    by_cases h : ru (M.2.1 0) k 4 = x <;> simp [h]
  · unfold fX3_eventsAt_l4
    simp only [t_n, hn, Option.bind_some, if_pos (nI_le (Nat.le_refl n) (show n < 2 ^ 31 by omega))]
theorem t_eaten {M : tM} {x : Int32} {n : Nat} (hn : M.2.1 0 0 = nI n) (h10 : n ≤ 10) : fX3_eatenAt M x = some (eatenS (M.2.1 0) x) := by
  unfold fX3_eatenAt eatenS
  rw [sN_eq hn (by omega), show ((0 : Int32), (0 : Int32)) = (0, nI 0) from rfl, t_loop (M := M) (n := n) (fun k s => s + (if ru (M.2.1 0) k 4 = x then eatsS (M.2.1 0) k else 0)) h10 0 (fun rec k s hk => ?_) (fun rec s => ?_)]
  · rfl
  · unfold fX3_eatenAt_l4
    simp only [t_n, hn, Option.bind_some, if_neg (nI_ge hk (show n < 2 ^ 31 by omega)), t_i4 (show k < 10 by omega), t_eats (show k < 10 by omega), nI_1]
    by_cases h : ru (M.2.1 0) k 4 = x <;> simp [h]
  · unfold fX3_eatenAt_l4
    simp only [t_n, hn, Option.bind_some, if_pos (nI_le (Nat.le_refl n) (show n < 2 ^ 31 by omega))]
theorem t_bulks {M : tM} {n : Nat} (hn : M.2.1 0 0 = nI n) (h10 : n ≤ 10) : fX3_bulks M = some (bulksS (M.2.1 0)) := by
  unfold fX3_bulks bulksS
  rw [sN_eq hn (by omega), show ((0 : Int32), (0 : Int32)) = (0, nI 0) from rfl, t_loop (M := M) (n := n) (fun k s => s + ru (M.2.1 0) k 2) h10 0 (fun rec k s hk => ?_) (fun rec s => ?_)]
  · rfl
  · unfold fX3_bulks_l4
    simp only [t_n, hn, Option.bind_some, if_neg (nI_ge hk (show n < 2 ^ 31 by omega)), t_i2 (show k < 10 by omega), nI_1]
  · unfold fX3_bulks_l4
    simp only [t_n, hn, Option.bind_some, if_pos (nI_le (Nat.le_refl n) (show n < 2 ^ 31 by omega))]
theorem t_lodg {M : tM} {x y : Int32} {n : Nat} (hn : M.2.1 0 0 = nI n) (h10 : n ≤ 10) : fX3_lodgersOf M x y = some (lodgS (M.2.1 0) x y) := by
  unfold fX3_lodgersOf lodgS setS
  rw [sN_eq hn (by omega), show ((0 : Int32), (0 : Int32)) = (0, nI 0) from rfl, t_loop (M := M) (n := n) (fun k s => s ||| (if (ru (M.2.1 0) k 4 == x && ru (M.2.1 0) k 1 == y) then 1 <<< (nI k &&& 31) else 0)) h10 0 (fun rec k s hk => ?_) (fun rec s => ?_)]
  · rfl
  · unfold fX3_lodgersOf_l5
    simp only [t_n, hn, Option.bind_some, if_neg (nI_ge hk (show n < 2 ^ 31 by omega)), t_i4 (show k < 10 by omega), t_i1 (show k < 10 by omega), nI_1]
    by_cases h : ru (M.2.1 0) k 4 = x <;> by_cases h2 : ru (M.2.1 0) k 1 = y <;> simp [h, h2]
  · unfold fX3_lodgersOf_l5
    simp only [t_n, hn, Option.bind_some, if_pos (nI_le (Nat.le_refl n) (show n < 2 ^ 31 by omega))]
