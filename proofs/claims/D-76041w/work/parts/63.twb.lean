/-! PURE: the twin's readings of houses -/
set_option maxRecDepth 100000
def b01 (b : Bool) : Int32 := if b then 1 else 0
theorem b01_z {b : Bool} : b01 b = 0 ↔ b = false := by cases b <;> decide
def freeS (S : Row) (h : Nat) : Bool := !decide (ho S h 0 ≤ onesS (thoseS S (nI h)))
def takenS (S : Row) (h r : Nat) : Bool := freeS S h && !decide (ho S h 2 < needsS S r)
def trueS (S : Row) (e : Int32) : Bool := decide (((S 2 >>> (e &&& 31)) &&& 1) = 1)
theorem t_isFree {M : tM} {h n : Nat} (hn : M.2.1 0 0 = nI n) (h10 : n ≤ 10) (hh : h < 8) : fX3_isFree M (nI h) = some (b01 (freeS (M.2.1 0) h)) := by
  have e : sN (M.2.1 0) = n := sN_eq hn (by omega)
  have e2 := (ones_set (fun k => ru (M.2.1 0) k 4 == nI h) (n := sN (M.2.1 0)) (by omega)).1
  unfold fX3_isFree freeS
  rw [t_those hn h10]
  simp only [Option.bind_some]
  rw [show fX3_ones (thoseS (M.2.1 0) (nI h)) = some (onesS (thoseS (M.2.1 0) (nI h))) from e2, t_h0 hh]
  simp only [Option.bind_some]
  split <;> rename_i q <;> simp [q, b01]
theorem t_isTaken {M : tM} {h r n : Nat} (hn : M.2.1 0 0 = nI n) (h10 : n ≤ 10) (hh : h < 8) (hr : r < 10) : fX3_isTaken M (nI h) (nI r) = some (b01 (takenS (M.2.1 0) h r)) := by
  unfold fX3_isTaken takenS
  rw [t_isFree hn h10 hh]
  simp only [Option.bind_some, t_h2 hh, t_needs hr]
  cases hf : freeS (M.2.1 0) h
  · rfl
  · rw [if_neg (show ¬ b01 true = 0 by decide)]
    split <;> rename_i q <;> simp [q, b01]
theorem t_isTrue {M : tM} {x : Int32} : fX3_isTrue M x = some (b01 (trueS (M.2.1 0) x)) := by
  unfold fX3_isTrue trueS
  rw [rA_at (i := 2) rfl (by decide) (by decide)]
  simp only [Option.bind_some]
  split <;> rename_i q <;> simp [q, b01]
def hostF (S : Row) (r : Nat) (h : Nat) (best : Int32) : Int32 := if takenS S h r then (if best = -1 then nI h else if ho S h 2 ≤ ho S best.toNatClampNeg 2 then best else nI h) else best
def hostS (S : Row) (r : Nat) : Int32 := itr (hostF S r) 8 (-1)
def isAt (v : Int32) (k : Nat) : Prop := v = -1 ∨ ∃ j, j < k ∧ v = nI j
theorem hostF_at {S : Row} {r h : Nat} {v : Int32} (hv : isAt v h) : isAt (hostF S r h v) (h + 1) := by
  unfold hostF
  have h1 : isAt v (h + 1) := by
    rcases hv with e | ⟨j, hj, e⟩
    · exact Or.inl e
    · exact Or.inr ⟨j, by omega, e⟩
  have h2 : isAt (nI h) (h + 1) := Or.inr ⟨h, by omega, rfl⟩
  repeat' split
  all_goals assumption
theorem t_hostOf {M : tM} {r n : Nat} (hn : M.2.1 0 0 = nI n) (h10 : n ≤ 10) (hr : r < 10) : fX3_hostOf M (nI r) = some (hostS (M.2.1 0) r) ∧ isAt (hostS (M.2.1 0) r) 8 := by
  unfold fX3_hostOf hostS
  have := lp_up (body := fX3_hostOf_l4 M (nI r)) (fun k s => (s, nI k)) (hostF (M.2.1 0) r) (fun s => (s, nI 8)) 8 (-1 : Int32) (fun k v => isAt v k) (FU_gt (by decide)) (Or.inl rfl) (fun k s hk hP => ⟨fun rec => ?_, hostF_at hP⟩) (fun s _ rec => ?_)
  · rw [show ((-1 : Int32), (0 : Int32)) = (-1, nI 0) from rfl, this.1]
    exact ⟨rfl, this.2⟩
  · unfold fX3_hostOf_l4 hostF
    simp only [show (8 : Int32) = nI 8 from rfl, if_neg (nI_ge hk (show 8 < 2 ^ 31 by decide)), t_isTaken hn h10 hk hr, Option.bind_some, nI_1]
    cases ht : takenS (M.2.1 0) k r
    · simp [b01]
    · rw [if_neg (show ¬ b01 true = 0 by decide)]
      rcases hP with e | ⟨j, hj, e⟩
      · subst e; simp
      · have hne : ¬ s = -1 := by rw [e]; exact fun q => nI_pos (n := j) (by omega) (by rw [q]; decide)
        simp only [if_neg hne, t_h2 hk, Option.bind_some]
        rw [e, t_h2 (show j < 8 by omega)]
        simp only [Option.bind_some, nI_clamp (show j < 2 ^ 31 by omega)]
        split <;> simp
  · unfold fX3_hostOf_l4
    rw [if_pos (nI_le (Nat.le_refl 8) (by decide))]
