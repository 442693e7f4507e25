/-! PURE: what both compute, over the row -/
set_option maxRecDepth 100000
def eatsS (S : Row) (r : Nat) : Int32 :=
  if ru S r 0 = 1 then 2 * ((ru S r 2 / 10) + 1) else if ru S r 0 = 2 then 1 else if ru S r 0 = 3 then (if 0 ≤ ((ru S r 2 / 10) + 1) - (ru S r 3 / 10) then ((ru S r 2 / 10) + 1) - (ru S r 3 / 10) else 0) else if ru S r 0 = 4 then (2 * ((ru S r 2 / 10) + 1)) + 3 else if ru S r 0 = 5 then 0 else (ru S r 2 / 10) + 1
def bigS (S : Row) (r : Nat) : Int32 := if 20 ≤ ru S r 2 then 3 else 1
def needsS (S : Row) (r : Nat) : Int32 :=
  if ru S r 0 = 1 then bigS S r else if ru S r 0 = 2 then 6 else if ru S r 0 = 3 then 4 else if ru S r 0 = 4 then bigS S r - 1 else if ru S r 0 = 5 then 7 else 3
def growsS (S : Row) (r : Nat) : Int32 :=
  if ru S r 0 = 1 then (ru S r 2 / 10) + 1 else if ru S r 0 = 2 then 0 else if ru S r 0 = 3 then (if (ru S r 3 - ru S r 3 / 2 * 2) = 0 then 1 else 0) else if ru S r 0 = 4 then (ru S r 2 / 10) + 1 else if ru S r 0 = 5 then 0 else 1
theorem t_eats {M : tM} {r : Nat} (hr : r < 10) : fX3_eats M (nI r) = some (eatsS (M.2.1 0) r) := by
  unfold fX3_eats eatsS
  simp only [t_i0 hr, t_i2 hr, t_i3 hr, Option.bind_some]
  repeat' split
  all_goals rfl
theorem t_needs {M : tM} {r : Nat} (hr : r < 10) : fX3_needs M (nI r) = some (needsS (M.2.1 0) r) := by
  unfold fX3_needs needsS bigS
  simp only [t_i0 hr, t_i2 hr, Option.bind_some]
  by_cases h : 20 ≤ ru (M.2.1 0) r 2
  · simp only [if_pos h, Option.bind_some]
    repeat' split
    all_goals rfl
  · simp only [if_neg h, Option.bind_some]
    repeat' split
    all_goals rfl
theorem t_grows {M : tM} {r : Nat} (hr : r < 10) : fX3_grows M (nI r) = some (growsS (M.2.1 0) r) := by
  unfold fX3_grows growsS
  simp only [t_i0 hr, t_i2 hr, t_i3 hr, Option.bind_some]
  repeat' split
  all_goals rfl
/-- a set of rumours -/
def setS (p : Nat → Bool) (n : Nat) : Int32 := itr (fun k s => s ||| (if p k then 1 <<< (nI k &&& 31) else 0)) n 0
theorem shl_1 : ∀ k, k < 31 → (1 : Int32) <<< (nI k &&& 31) = nI (2 ^ k) := by decide +kernel
theorem setS_lt (p : Nat → Bool) : ∀ n, n ≤ 10 → ∃ j, j < 2 ^ n ∧ setS p n = nI j := by
  intro n
  induction n with
  | zero => intro _; exact ⟨0, by decide, rfl⟩
  | succ n ih =>
    intro hn
    obtain ⟨j, hj, e⟩ := ih (by omega)
    have hs : setS p (n + 1) = setS p n ||| (if p n then 1 <<< (nI n &&& 31) else 0) := rfl
    rw [hs, e]
    have hp : 2 ^ n < 2 ^ (n + 1) := Nat.pow_lt_pow_right (by decide) (by omega)
    by_cases h : p n = true
    · rw [if_pos h, shl_1 n (by omega), fa_or]
      exact ⟨_, Nat.or_lt_two_pow (by omega) hp, rfl⟩
    · rw [if_neg h, show (0 : Int32) = nI 0 from rfl, fa_or]
      exact ⟨_, Nat.or_lt_two_pow (by omega) (Nat.two_pow_pos _), rfl⟩
def thoseS (S : Row) (h : Int32) : Int32 := setS (fun k => ru S k 4 == h) (sN S)
theorem t_those {M : tM} {x : Int32} {n : Nat} (hn : M.2.1 0 0 = nI n) (h10 : n ≤ 10) : fX3_thoseAt M x = some (thoseS (M.2.1 0) x) := by
  unfold fX3_thoseAt thoseS
  rw [sN_eq hn (by omega)]
  have := (lp_up (body := fX3_thoseAt_l4 M x) (fun k s => (s, nI k)) (fun k s => s ||| (if (ru (M.2.1 0) k 4 == x) then 1 <<< (nI k &&& 31) else 0)) (fun s => (s, nI n)) n (0 : Int32) (fun _ _ => True) (FU_gt (by omega)) trivial (fun k s hk _ => ⟨fun rec => ?_, trivial⟩) (fun s _ rec => ?_)).1
  · rw [show ((0 : Int32), (0 : Int32)) = (0, nI 0) from rfl, this]
    rfl
  · unfold fX3_thoseAt_l4
    rw [t_n, hn]
    simp only [Option.bind_some]
    rw [if_neg (nI_ge hk (by omega)), t_i4 (by omega)]
    simp only [Option.bind_some, nI_1]
    by_cases h : ru (M.2.1 0) k 4 = x
    · simp [h]
    · simp [h]
  · unfold fX3_thoseAt_l4
    rw [t_n, hn]
    simp only [Option.bind_some]
    rw [if_pos (nI_le (Nat.le_refl _) (by omega))]
