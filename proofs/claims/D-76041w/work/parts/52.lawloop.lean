/-! THE LAW: its loop and its start -/
set_option maxRecDepth 100000
theorem law_cmp {Ln i : Nat} (hL : Ln ≤ 384) (h2 : i ≤ 400) (h : Ln < i + 6) : Int32.ofNat Ln - 6 < nI i := by
  have e : (Int32.ofNat Ln - 6).toInt = (Ln : Int) - 6 := pk_sub_toInt (a := Ln) (b := 6) (by omega) (by decide)
  rw [Int32.lt_iff_toInt_lt, e, nI_toInt (by omega)]
  omega
/-- what the pure part owes for one call: both answer the same, and the relation holds on -/
def pSt {α : Type} (A : tA) (LR : Nat → bWl → Prop) (n : Nat) (f : Option (α × bWl)) (t : tM → Option (α × tM)) : Prop := ∃ (r : α) (w1 : bWl) (M M' : tM), f = some (r, w1) ∧ tW A M w1 = w1 ∧ t M = some (r, M') ∧ LR n (tW A M' w1)
def pO0 (A : tA) (LR : Nat → bWl → Prop) (xa n : Nat) (w : bWl) : Prop := (∀ (x1 : Int32) (x2 : Int32) (x3 : Int32), pSt A LR n (fX0_house w xa x1 x2 x3) (fun M => fX3_house M x1 x2 x3))
def pO1 (A : tA) (LR : Nat → bWl → Prop) (xa n : Nat) (w : bWl) : Prop := (∀ (x1 : Int32) (x2 : Int32), pSt A LR n (fX0_houseOf w xa x1 x2) (fun M => fX3_houseOf M x1 x2))
def pO2 (A : tA) (LR : Nat → bWl → Prop) (xa n : Nat) (w : bWl) : Prop := (∀ (x1 : Int32) (x2 : Int32), pSt A LR n (fX0_rumour w xa x1 x2) (fun M => fX3_rumour M x1 x2))
def pO3 (A : tA) (LR : Nat → bWl → Prop) (xa n : Nat) (w : bWl) : Prop := (∀ (x1 : Int32) (x2 : Int32), pSt A LR n (fX0_of w xa x1 x2) (fun M => fX3_of M x1 x2))
def pO4 (A : tA) (LR : Nat → bWl → Prop) (xa n : Nat) (w : bWl) : Prop := (∀ (x1 : Int32) (x2 : Int32) (x3 : Int32), pSt A LR n (fX0_set w xa x1 x2 x3) (fun M => fX3_set M x1 x2 x3))
def pO5 (A : tA) (LR : Nat → bWl → Prop) (xa n : Nat) (w : bWl) : Prop := (∀ (x1 : Int32) (x2 : Int32), pSt A LR n (fX0_turn w xa x1 x2) (fun M => fX3_turn M x1 x2))
def pO6 (A : tA) (LR : Nat → bWl → Prop) (xa n : Nat) (w : bWl) : Prop := (∀ (x1 : Int32) (x2 : Int32), pSt A LR n (fX0_as w xa x1 x2) (fun M => fX3_as M x1 x2))
def pO7 (A : tA) (LR : Nat → bWl → Prop) (xa n : Nat) (w : bWl) : Prop := (∀ (x1 : Int32) (x2 : Int32), pSt A LR n (fX0_takes w xa x1 x2) (fun M => fX3_takes M x1 x2))
def pO8 (A : tA) (LR : Nat → bWl → Prop) (xa n : Nat) (w : bWl) : Prop := (∀ (x1 : Int32), pSt A LR n (fX0_comeIn w xa x1) (fun M => fX3_comeIn M x1))
def pO9 (A : tA) (LR : Nat → bWl → Prop) (xa n : Nat) (w : bWl) : Prop := (∀ (x1 : Int32) (x2 : Int32), pSt A LR n (fX0_improve w xa x1 x2) (fun M => fX3_improve M x1 x2))
def pO10 (A : tA) (LR : Nat → bWl → Prop) (xa n : Nat) (w : bWl) : Prop := (∀ (x1 : Int32), pSt A LR n (fX0_comesTrue w xa x1) (fun M => fX3_comesTrue M x1))
def pO11 (A : tA) (LR : Nat → bWl → Prop) (xa n : Nat) (w : bWl) : Prop := (∀ (x1 : Int32), pSt A LR n (fX0_forget w xa x1) (fun M => fX3_forget M x1))
def pO12 (A : tA) (LR : Nat → bWl → Prop) (xa n : Nat) (w : bWl) : Prop := (∀ (x1 : Int32), pSt A LR n (fX0_days w xa x1) (fun M => fX3_days M x1))
def pO13 (A : tA) (LR : Nat → bWl → Prop) (xa n : Nat) (w : bWl) : Prop := (∀ (x1 : Int32), pSt A LR n (fX0_now w xa x1) (fun M => fX3_now M x1))
def pO14 (A : tA) (LR : Nat → bWl → Prop) (xa n : Nat) (w : bWl) : Prop := (∀ (x1 : Int32) (x2 : Int32) (x3 : Int32), pSt A LR n (fX0_on w xa x1 x2 x3) (fun M => fX3_on M x1 x2 x3))
def pO15 (A : tA) (LR : Nat → bWl → Prop) (xa n : Nat) (w : bWl) : Prop := (∀ (x1 : Int32) (x2 : Int32), pSt A LR n (fX0_larder w xa x1 x2) (fun M => fX3_larder M x1 x2))
def pO16 (A : tA) (LR : Nat → bWl → Prop) (xa n : Nat) (w : bWl) : Prop := (∀ (x1 : Int32), pSt A LR n (fX0_empty w xa x1) (fun M => fX3_empty M x1))
def pO17 (A : tA) (LR : Nat → bWl → Prop) (xa n : Nat) (w : bWl) : Prop := (∀ (x1 : Int32), pSt A LR n (fX0_many w xa x1) (fun M => fX3_many M x1))
def pO18 (A : tA) (LR : Nat → bWl → Prop) (xa n : Nat) (w : bWl) : Prop := (∀ (x1 : Int32), pSt A LR n (fX0_out w xa x1) (fun M => fX3_out M x1))
def pO19 (A : tA) (LR : Nat → bWl → Prop) (xa n : Nat) (w : bWl) : Prop := (∀ (x1 : Int32) (x2 : Int32), pSt A LR n (fX0_fewest w xa x1 x2) (fun M => fX3_fewest M x1 x2))
def pO20 (A : tA) (LR : Nat → bWl → Prop) (xa n : Nat) (w : bWl) : Prop := (∀ (x1 : Int32), pSt A LR n (fX0_least w xa x1) (fun M => fX3_least M x1))
def pO21 (A : tA) (LR : Nat → bWl → Prop) (xa n : Nat) (w : bWl) : Prop := (∀ (x1 : Int32), pSt A LR n (fX0_best w xa x1) (fun M => fX3_best M x1))
def pO22 (A : tA) (LR : Nat → bWl → Prop) (xa n : Nat) (w : bWl) : Prop := (∀ (x1 : Int32) (x2 : Int32), pSt A LR n (fX0_lean w xa x1 x2) (fun M => fX3_lean M x1 x2))
def pO23 (A : tA) (LR : Nat → bWl → Prop) (xa n : Nat) (w : bWl) : Prop := (∀ (x1 : Int32) (x2 : Int32), pSt A LR n (fX0_leanFor w xa x1 x2) (fun M => fX3_leanFor M x1 x2))
def pO24 (A : tA) (LR : Nat → bWl → Prop) (xa n : Nat) (w : bWl) : Prop := (∀ (x1 : Int32), pSt A LR n (fX0_kind w xa x1) (fun M => fX3_kind M x1))
def pO25 (A : tA) (LR : Nat → bWl → Prop) (xa n : Nat) (w : bWl) : Prop := (∀ (x1 : Int32), pSt A LR n (fX0_host w xa x1) (fun M => fX3_host M x1))
def pO26 (A : tA) (LR : Nat → bWl → Prop) (xa n : Nat) (w : bWl) : Prop := (∀ (x1 : Int32) (x2 : Int32), pSt A LR n (fX0_beds w xa x1 x2) (fun M => fX3_beds M x1 x2))
def pO27 (A : tA) (LR : Nat → bWl → Prop) (xa n : Nat) (w : bWl) : Prop := (∀ (x1 : Int32) (x2 : Int32), pSt A LR n (fX0_feed w xa x1 x2) (fun M => fX3_feed M x1 x2))
def pO28 (A : tA) (LR : Nat → bWl → Prop) (xa n : Nat) (w : bWl) : Prop := pSt A LR n (fX0_wipe w xa) (fun M => fX3_wipe M)
def pO29 (A : tA) (LR : Nat → bWl → Prop) (xa n : Nat) (w : bWl) : Prop := pSt A LR n (fX0_town w xa) (fun M => fX3_town M)
def pO30 (A : tA) (LR : Nat → bWl → Prop) (xa n : Nat) (w : bWl) : Prop := (∀ (x1 : Int32) (x2 : Int32) (x3 : Int32), pSt A LR n (fX0_sheet w xa x1 x2 x3) (fun M => fX3_sheet M x1 x2 x3))
def pO31 (A : tA) (LR : Nat → bWl → Prop) (xa n : Nat) (w : bWl) : Prop := (∀ (x1 : Int32) (x2 : Int32) (x3 : Int64), pSt A LR n (fX0_write w xa x1 x2 x3) (fun M => fX3_write M x1 x2 x3))
def pO32 (A : tA) (LR : Nat → bWl → Prop) (xa n : Nat) (w : bWl) : Prop := (∀ (x1 : Int32) (x2 : Int32) (x3 : Int32) (x4 : Int32) (x5 : Int32), pSt A LR n (fX0_copy w xa x1 x2 x3 x4 x5) (fun M => fX3_copy M x1 x2 x3 x4 x5))
def pO33 (A : tA) (LR : Nat → bWl → Prop) (xa n : Nat) (w : bWl) : Prop := (∀ (x1 : Int32), pSt A LR n (fX0_lays w xa x1) (fun M => fX3_lays M x1))
def pO34 (A : tA) (LR : Nat → bWl → Prop) (xa n : Nat) (w : bWl) : Prop := (∀ (x1 : Int32) (x2 : Int32), pSt A LR n (fX0_book w xa x1 x2) (fun M => fX3_book M x1 x2))
def pO35 (A : tA) (LR : Nat → bWl → Prop) (xa n : Nat) (w : bWl) : Prop := (∀ (x1 : Int32) (x2 : Int32), pSt A LR n (fX0_read w xa x1 x2) (fun M => fX3_read M x1 x2))
def pO36 (A : tA) (LR : Nat → bWl → Prop) (xa n : Nat) (w : bWl) : Prop := pSt A LR n (fX0_image w xa) (fun M => fX3_image M)
def pO37 (A : tA) (LR : Nat → bWl → Prop) (xa n : Nat) (w : bWl) : Prop := pSt A LR n (fX0_undo w xa) (fun M => fX3_undo M)
def pO38 (A : tA) (LR : Nat → bWl → Prop) (xa n : Nat) (w : bWl) : Prop := pSt A LR n (fX0_tear w xa) (fun M => fX3_tear M)
def pO39 (A : tA) (LR : Nat → bWl → Prop) (xa n : Nat) (w : bWl) : Prop := (∀ (x1 : Int32), pSt A LR n (fX0_count w xa x1) (fun M => fX3_count M x1))
def pO40 (A : tA) (LR : Nat → bWl → Prop) (xa n : Nat) (w : bWl) : Prop := (∀ (x1 : Int32), pSt A LR n (fX0_status w xa x1) (fun M => fX3_status M x1))
def pAll (A : tA) (LR : Nat → bWl → Prop) (xa n : Nat) (w : bWl) : Prop := pO0 A LR xa n w ∧ pO1 A LR xa n w ∧ pO2 A LR xa n w ∧ pO3 A LR xa n w ∧ pO4 A LR xa n w ∧ pO5 A LR xa n w ∧ pO6 A LR xa n w ∧ pO7 A LR xa n w ∧ pO8 A LR xa n w ∧ pO9 A LR xa n w ∧ pO10 A LR xa n w ∧ pO11 A LR xa n w ∧ pO12 A LR xa n w ∧ pO13 A LR xa n w ∧ pO14 A LR xa n w ∧ pO15 A LR xa n w ∧ pO16 A LR xa n w ∧ pO17 A LR xa n w ∧ pO18 A LR xa n w ∧ pO19 A LR xa n w ∧ pO20 A LR xa n w ∧ pO21 A LR xa n w ∧ pO22 A LR xa n w ∧ pO23 A LR xa n w ∧ pO24 A LR xa n w ∧ pO25 A LR xa n w ∧ pO26 A LR xa n w ∧ pO27 A LR xa n w ∧ pO28 A LR xa n w ∧ pO29 A LR xa n w ∧ pO30 A LR xa n w ∧ pO31 A LR xa n w ∧ pO32 A LR xa n w ∧ pO33 A LR xa n w ∧ pO34 A LR xa n w ∧ pO35 A LR xa n w ∧ pO36 A LR xa n w ∧ pO37 A LR xa n w ∧ pO38 A LR xa n w ∧ pO39 A LR xa n w ∧ pO40 A LR xa n w
set_option maxHeartbeats 8000000 in
theorem law_sw {g : bGh} {A : tA} (hA : tO A) {n0 u0 : Nat} {Q : Outcome → bWl → Prop} {xa b Ln i n : Nat} {xs : Nat → Int32} {w : bWl} {LR : Nat → bWl → Prop} (hX : scrAt g b Ln xs) (hi : i + 5 < Ln) (hL : Ln ≤ 384) (hxa : hC w xa = some 0) (hp : pAll A LR xa n w) (h0 : LR n w) (kk : ∀ w', LR n w' → bG (g, mdL, n0, u0, Q) w' 1426 [some (.ref b), some (.ref xa), some (.ref A.1), some (.int (nI i))] []) {j : Nat} (hj : j < 64) : bG (g, mdL, n0, u0, Q) w 33 [some (.ref b), some (.ref xa), some (.ref A.1), some (.int (nI i))] [.int (nI j)] := by
  rcases (show j = 0 ∨ j = 1 ∨ j = 2 ∨ j = 3 ∨ j = 4 ∨ j = 5 ∨ j = 6 ∨ j = 7 ∨ j = 8 ∨ j = 9 ∨ j = 10 ∨ j = 11 ∨ j = 12 ∨ j = 13 ∨ j = 14 ∨ j = 15 ∨ j = 16 ∨ j = 17 ∨ j = 18 ∨ j = 19 ∨ j = 20 ∨ j = 21 ∨ j = 22 ∨ j = 23 ∨ j = 24 ∨ j = 25 ∨ j = 26 ∨ j = 27 ∨ j = 28 ∨ j = 29 ∨ j = 30 ∨ j = 31 ∨ j = 32 ∨ j = 33 ∨ j = 34 ∨ j = 35 ∨ j = 36 ∨ j = 37 ∨ j = 38 ∨ j = 39 ∨ j = 40 ∨ 40 < j by omega) with hj' | hj' | hj' | hj' | hj' | hj' | hj' | hj' | hj' | hj' | hj' | hj' | hj' | hj' | hj' | hj' | hj' | hj' | hj' | hj' | hj' | hj' | hj' | hj' | hj' | hj' | hj' | hj' | hj' | hj' | hj' | hj' | hj' | hj' | hj' | hj' | hj' | hj' | hj' | hj' | hj' | hj'
  · subst hj'
    refine g_tableIn (tgt := 212) (off := 179) dL_law_33 (by decide) (by decide) rfl (by decide) ?_
    obtain ⟨r, w1, M, M', e1, e2, e3, e4⟩ := hp.1 _ _ _
    exact lc0 hA hX hi hL hxa e1 e2 e3 (kk _ e4)
  · subst hj'
    refine g_tableIn (tgt := 255) (off := 222) dL_law_33 (by decide) (by decide) rfl (by decide) ?_
    obtain ⟨r, w1, M, M', e1, e2, e3, e4⟩ := hp.2.1 _ _
    exact lc1 hA hX hi hL hxa e1 e2 e3 (kk _ e4)
  · subst hj'
    refine g_tableIn (tgt := 288) (off := 255) dL_law_33 (by decide) (by decide) rfl (by decide) ?_
    obtain ⟨r, w1, M, M', e1, e2, e3, e4⟩ := hp.2.2.1 _ _
    exact lc2 hA hX hi hL hxa e1 e2 e3 (kk _ e4)
  · subst hj'
    refine g_tableIn (tgt := 321) (off := 288) dL_law_33 (by decide) (by decide) rfl (by decide) ?_
    obtain ⟨r, w1, M, M', e1, e2, e3, e4⟩ := hp.2.2.2.1 _ _
    exact lc3 hA hX hi hL hxa e1 e2 e3 (kk _ e4)
  · subst hj'
    refine g_tableIn (tgt := 354) (off := 321) dL_law_33 (by decide) (by decide) rfl (by decide) ?_
    obtain ⟨r, w1, M, M', e1, e2, e3, e4⟩ := hp.2.2.2.2.1 _ _ _
    exact lc4 hA hX hi hL hxa e1 e2 e3 (kk _ e4)
  · subst hj'
    refine g_tableIn (tgt := 397) (off := 364) dL_law_33 (by decide) (by decide) rfl (by decide) ?_
    obtain ⟨r, w1, M, M', e1, e2, e3, e4⟩ := hp.2.2.2.2.2.1 _ _
    exact lc5 hA hX hi hL hxa e1 e2 e3 (kk _ e4)
  · subst hj'
    refine g_tableIn (tgt := 430) (off := 397) dL_law_33 (by decide) (by decide) rfl (by decide) ?_
    obtain ⟨r, w1, M, M', e1, e2, e3, e4⟩ := hp.2.2.2.2.2.2.1 _ _
    exact lc6 hA hX hi hL hxa e1 e2 e3 (kk _ e4)
  · subst hj'
    refine g_tableIn (tgt := 463) (off := 430) dL_law_33 (by decide) (by decide) rfl (by decide) ?_
    obtain ⟨r, w1, M, M', e1, e2, e3, e4⟩ := hp.2.2.2.2.2.2.2.1 _ _
    exact lc7 hA hX hi hL hxa e1 e2 e3 (kk _ e4)
  · subst hj'
    refine g_tableIn (tgt := 496) (off := 463) dL_law_33 (by decide) (by decide) rfl (by decide) ?_
    obtain ⟨r, w1, M, M', e1, e2, e3, e4⟩ := hp.2.2.2.2.2.2.2.2.1 _
    exact lc8 hA hX hi hL hxa e1 e2 e3 (kk _ e4)
  · subst hj'
    refine g_tableIn (tgt := 519) (off := 486) dL_law_33 (by decide) (by decide) rfl (by decide) ?_
    obtain ⟨r, w1, M, M', e1, e2, e3, e4⟩ := hp.2.2.2.2.2.2.2.2.2.1 _ _
    exact lc9 hA hX hi hL hxa e1 e2 e3 (kk _ e4)
  · subst hj'
    refine g_tableIn (tgt := 552) (off := 519) dL_law_33 (by decide) (by decide) rfl (by decide) ?_
    obtain ⟨r, w1, M, M', e1, e2, e3, e4⟩ := hp.2.2.2.2.2.2.2.2.2.2.1 _
    exact lc10 hA hX hi hL hxa e1 e2 e3 (kk _ e4)
  · subst hj'
    refine g_tableIn (tgt := 575) (off := 542) dL_law_33 (by decide) (by decide) rfl (by decide) ?_
    obtain ⟨r, w1, M, M', e1, e2, e3, e4⟩ := hp.2.2.2.2.2.2.2.2.2.2.2.1 _
    exact lc11 hA hX hi hL hxa e1 e2 e3 (kk _ e4)
  · subst hj'
    refine g_tableIn (tgt := 598) (off := 565) dL_law_33 (by decide) (by decide) rfl (by decide) ?_
    obtain ⟨r, w1, M, M', e1, e2, e3, e4⟩ := hp.2.2.2.2.2.2.2.2.2.2.2.2.1 _
    exact lc12 hA hX hi hL hxa e1 e2 e3 (kk _ e4)
  · subst hj'
    refine g_tableIn (tgt := 621) (off := 588) dL_law_33 (by decide) (by decide) rfl (by decide) ?_
    obtain ⟨r, w1, M, M', e1, e2, e3, e4⟩ := hp.2.2.2.2.2.2.2.2.2.2.2.2.2.1 _
    exact lc13 hA hX hi hL hxa e1 e2 e3 (kk _ e4)
  · subst hj'
    refine g_tableIn (tgt := 644) (off := 611) dL_law_33 (by decide) (by decide) rfl (by decide) ?_
    obtain ⟨r, w1, M, M', e1, e2, e3, e4⟩ := hp.2.2.2.2.2.2.2.2.2.2.2.2.2.2.1 _ _ _
    exact lc14 hA hX hi hL hxa e1 e2 e3 (kk _ e4)
  · subst hj'
    refine g_tableIn (tgt := 687) (off := 654) dL_law_33 (by decide) (by decide) rfl (by decide) ?_
    obtain ⟨r, w1, M, M', e1, e2, e3, e4⟩ := hp.2.2.2.2.2.2.2.2.2.2.2.2.2.2.2.1 _ _
    exact lc15 hA hX hi hL hxa e1 e2 e3 (kk _ e4)
  · subst hj'
    refine g_tableIn (tgt := 720) (off := 687) dL_law_33 (by decide) (by decide) rfl (by decide) ?_
    obtain ⟨r, w1, M, M', e1, e2, e3, e4⟩ := hp.2.2.2.2.2.2.2.2.2.2.2.2.2.2.2.2.1 _
    exact lc16 hA hX hi hL hxa e1 e2 e3 (kk _ e4)
  · subst hj'
    refine g_tableIn (tgt := 743) (off := 710) dL_law_33 (by decide) (by decide) rfl (by decide) ?_
    obtain ⟨r, w1, M, M', e1, e2, e3, e4⟩ := hp.2.2.2.2.2.2.2.2.2.2.2.2.2.2.2.2.2.1 _
    exact lc17 hA hX hi hL hxa e1 e2 e3 (kk _ e4)
  · subst hj'
    refine g_tableIn (tgt := 766) (off := 733) dL_law_33 (by decide) (by decide) rfl (by decide) ?_
    obtain ⟨r, w1, M, M', e1, e2, e3, e4⟩ := hp.2.2.2.2.2.2.2.2.2.2.2.2.2.2.2.2.2.2.1 _
    exact lc18 hA hX hi hL hxa e1 e2 e3 (kk _ e4)
  · subst hj'
    refine g_tableIn (tgt := 789) (off := 756) dL_law_33 (by decide) (by decide) rfl (by decide) ?_
    obtain ⟨r, w1, M, M', e1, e2, e3, e4⟩ := hp.2.2.2.2.2.2.2.2.2.2.2.2.2.2.2.2.2.2.2.1 _ _
    exact lc19 hA hX hi hL hxa e1 e2 e3 (kk _ e4)
  · subst hj'
    refine g_tableIn (tgt := 822) (off := 789) dL_law_33 (by decide) (by decide) rfl (by decide) ?_
    obtain ⟨r, w1, M, M', e1, e2, e3, e4⟩ := hp.2.2.2.2.2.2.2.2.2.2.2.2.2.2.2.2.2.2.2.2.1 _
    exact lc20 hA hX hi hL hxa e1 e2 e3 (kk _ e4)
  · subst hj'
    refine g_tableIn (tgt := 845) (off := 812) dL_law_33 (by decide) (by decide) rfl (by decide) ?_
    obtain ⟨r, w1, M, M', e1, e2, e3, e4⟩ := hp.2.2.2.2.2.2.2.2.2.2.2.2.2.2.2.2.2.2.2.2.2.1 _
    exact lc21 hA hX hi hL hxa e1 e2 e3 (kk _ e4)
  · subst hj'
    refine g_tableIn (tgt := 868) (off := 835) dL_law_33 (by decide) (by decide) rfl (by decide) ?_
    obtain ⟨r, w1, M, M', e1, e2, e3, e4⟩ := hp.2.2.2.2.2.2.2.2.2.2.2.2.2.2.2.2.2.2.2.2.2.2.1 _ _
    exact lc22 hA hX hi hL hxa e1 e2 e3 (kk _ e4)
  · subst hj'
    refine g_tableIn (tgt := 901) (off := 868) dL_law_33 (by decide) (by decide) rfl (by decide) ?_
    obtain ⟨r, w1, M, M', e1, e2, e3, e4⟩ := hp.2.2.2.2.2.2.2.2.2.2.2.2.2.2.2.2.2.2.2.2.2.2.2.1 _ _
    exact lc23 hA hX hi hL hxa e1 e2 e3 (kk _ e4)
  · subst hj'
    refine g_tableIn (tgt := 934) (off := 901) dL_law_33 (by decide) (by decide) rfl (by decide) ?_
    obtain ⟨r, w1, M, M', e1, e2, e3, e4⟩ := hp.2.2.2.2.2.2.2.2.2.2.2.2.2.2.2.2.2.2.2.2.2.2.2.2.1 _
    exact lc24 hA hX hi hL hxa e1 e2 e3 (kk _ e4)
  · subst hj'
    refine g_tableIn (tgt := 957) (off := 924) dL_law_33 (by decide) (by decide) rfl (by decide) ?_
    obtain ⟨r, w1, M, M', e1, e2, e3, e4⟩ := hp.2.2.2.2.2.2.2.2.2.2.2.2.2.2.2.2.2.2.2.2.2.2.2.2.2.1 _
    exact lc25 hA hX hi hL hxa e1 e2 e3 (kk _ e4)
  · subst hj'
    refine g_tableIn (tgt := 980) (off := 947) dL_law_33 (by decide) (by decide) rfl (by decide) ?_
    obtain ⟨r, w1, M, M', e1, e2, e3, e4⟩ := hp.2.2.2.2.2.2.2.2.2.2.2.2.2.2.2.2.2.2.2.2.2.2.2.2.2.2.1 _ _
    exact lc26 hA hX hi hL hxa e1 e2 e3 (kk _ e4)
  · subst hj'
    refine g_tableIn (tgt := 1013) (off := 980) dL_law_33 (by decide) (by decide) rfl (by decide) ?_
    obtain ⟨r, w1, M, M', e1, e2, e3, e4⟩ := hp.2.2.2.2.2.2.2.2.2.2.2.2.2.2.2.2.2.2.2.2.2.2.2.2.2.2.2.1 _ _
    exact lc27 hA hX hi hL hxa e1 e2 e3 (kk _ e4)
  · subst hj'
    refine g_tableIn (tgt := 1046) (off := 1013) dL_law_33 (by decide) (by decide) rfl (by decide) ?_
    obtain ⟨r, w1, M, M', e1, e2, e3, e4⟩ := hp.2.2.2.2.2.2.2.2.2.2.2.2.2.2.2.2.2.2.2.2.2.2.2.2.2.2.2.2.1
    exact lc28 hA hX hi hL hxa e1 e2 e3 (kk _ e4)
  · subst hj'
    refine g_tableIn (tgt := 1059) (off := 1026) dL_law_33 (by decide) (by decide) rfl (by decide) ?_
    obtain ⟨r, w1, M, M', e1, e2, e3, e4⟩ := hp.2.2.2.2.2.2.2.2.2.2.2.2.2.2.2.2.2.2.2.2.2.2.2.2.2.2.2.2.2.1
    exact lc29 hA hX hi hL hxa e1 e2 e3 (kk _ e4)
  · subst hj'
    refine g_tableIn (tgt := 1072) (off := 1039) dL_law_33 (by decide) (by decide) rfl (by decide) ?_
    obtain ⟨r, w1, M, M', e1, e2, e3, e4⟩ := hp.2.2.2.2.2.2.2.2.2.2.2.2.2.2.2.2.2.2.2.2.2.2.2.2.2.2.2.2.2.2.1 _ _ _
    exact lc30 hA hX hi hL hxa e1 e2 e3 (kk _ e4)
  · subst hj'
    refine g_tableIn (tgt := 1115) (off := 1082) dL_law_33 (by decide) (by decide) rfl (by decide) ?_
    obtain ⟨r, w1, M, M', e1, e2, e3, e4⟩ := hp.2.2.2.2.2.2.2.2.2.2.2.2.2.2.2.2.2.2.2.2.2.2.2.2.2.2.2.2.2.2.2.1 _ _ _
    exact lc31 hA hX hi hL hxa e1 e2 e3 (kk _ e4)
  · subst hj'
    refine g_tableIn (tgt := 1189) (off := 1156) dL_law_33 (by decide) (by decide) rfl (by decide) ?_
    obtain ⟨r, w1, M, M', e1, e2, e3, e4⟩ := hp.2.2.2.2.2.2.2.2.2.2.2.2.2.2.2.2.2.2.2.2.2.2.2.2.2.2.2.2.2.2.2.2.1 _ _ _ _ _
    exact lc32 hA hX hi hL hxa e1 e2 e3 (kk _ e4)
  · subst hj'
    refine g_tableIn (tgt := 1252) (off := 1219) dL_law_33 (by decide) (by decide) rfl (by decide) ?_
    obtain ⟨r, w1, M, M', e1, e2, e3, e4⟩ := hp.2.2.2.2.2.2.2.2.2.2.2.2.2.2.2.2.2.2.2.2.2.2.2.2.2.2.2.2.2.2.2.2.2.1 _
    exact lc33 hA hX hi hL hxa e1 e2 e3 (kk _ e4)
  · subst hj'
    refine g_tableIn (tgt := 1275) (off := 1242) dL_law_33 (by decide) (by decide) rfl (by decide) ?_
    obtain ⟨r, w1, M, M', e1, e2, e3, e4⟩ := hp.2.2.2.2.2.2.2.2.2.2.2.2.2.2.2.2.2.2.2.2.2.2.2.2.2.2.2.2.2.2.2.2.2.2.1 _ _
    exact lc34 hA hX hi hL hxa e1 e2 e3 (kk _ e4)
  · subst hj'
    refine g_tableIn (tgt := 1308) (off := 1275) dL_law_33 (by decide) (by decide) rfl (by decide) ?_
    obtain ⟨r, w1, M, M', e1, e2, e3, e4⟩ := hp.2.2.2.2.2.2.2.2.2.2.2.2.2.2.2.2.2.2.2.2.2.2.2.2.2.2.2.2.2.2.2.2.2.2.2.1 _ _
    exact lc35 hA hX hi hL hxa e1 e2 e3 (kk _ e4)
  · subst hj'
    refine g_tableIn (tgt := 1341) (off := 1308) dL_law_33 (by decide) (by decide) rfl (by decide) ?_
    obtain ⟨r, w1, M, M', e1, e2, e3, e4⟩ := hp.2.2.2.2.2.2.2.2.2.2.2.2.2.2.2.2.2.2.2.2.2.2.2.2.2.2.2.2.2.2.2.2.2.2.2.2.1
    exact lc36 hA hX hi hL hxa e1 e2 e3 (kk _ e4)
  · subst hj'
    refine g_tableIn (tgt := 1354) (off := 1321) dL_law_33 (by decide) (by decide) rfl (by decide) ?_
    obtain ⟨r, w1, M, M', e1, e2, e3, e4⟩ := hp.2.2.2.2.2.2.2.2.2.2.2.2.2.2.2.2.2.2.2.2.2.2.2.2.2.2.2.2.2.2.2.2.2.2.2.2.2.1
    exact lc37 hA hX hi hL hxa e1 e2 e3 (kk _ e4)
  · subst hj'
    refine g_tableIn (tgt := 1367) (off := 1334) dL_law_33 (by decide) (by decide) rfl (by decide) ?_
    obtain ⟨r, w1, M, M', e1, e2, e3, e4⟩ := hp.2.2.2.2.2.2.2.2.2.2.2.2.2.2.2.2.2.2.2.2.2.2.2.2.2.2.2.2.2.2.2.2.2.2.2.2.2.2.1
    exact lc38 hA hX hi hL hxa e1 e2 e3 (kk _ e4)
  · subst hj'
    refine g_tableIn (tgt := 1380) (off := 1347) dL_law_33 (by decide) (by decide) rfl (by decide) ?_
    obtain ⟨r, w1, M, M', e1, e2, e3, e4⟩ := hp.2.2.2.2.2.2.2.2.2.2.2.2.2.2.2.2.2.2.2.2.2.2.2.2.2.2.2.2.2.2.2.2.2.2.2.2.2.2.2.1 _
    exact lc39 hA hX hi hL hxa e1 e2 e3 (kk _ e4)
  · subst hj'
    refine g_tableIn (tgt := 1403) (off := 1370) dL_law_33 (by decide) (by decide) rfl (by decide) ?_
    obtain ⟨r, w1, M, M', e1, e2, e3, e4⟩ := hp.2.2.2.2.2.2.2.2.2.2.2.2.2.2.2.2.2.2.2.2.2.2.2.2.2.2.2.2.2.2.2.2.2.2.2.2.2.2.2.2 _
    exact lc40 hA hX hi hL hxa e1 e2 e3 (kk _ e4)
  · refine g_tableOut (tgt := 1426) dL_law_33 (Or.inr (by rw [nI_toInt (by omega)]; omega)) (by decide) (kk _ h0)
theorem law_loop {g : bGh} {A : tA} (hA : tO A) {n0 u0 : Nat} {Q : Outcome → bWl → Prop} {xa b Ln : Nat} {xs : Nat → Int32} {LR : Nat → bWl → Prop} (hX : scrAt g b Ln xs) (hL : Ln ≤ 384) (hxa : ∀ n w, LR n w → hC w xa = some 0) (hdn : ∀ n w, LR (n + 1) w → LR n w) (hp : ∀ n w, LR (n + 1) w → pAll A LR xa n w) (hq : ∀ n w, LR n w → Q (.returned (some (.int 1))) w) : ∀ (n : Nat) (w : bWl) (i : Nat), Ln < i + 6 * (n + 1) → i ≤ 400 → LR n w → bG (g, mdL, n0, u0, Q) w 18 [some (.ref b), some (.ref xa), some (.ref A.1), some (.int (nI i))] [] := by
  intro n
  induction n with
  | zero =>
    intro w i h1 h2 hr
    refine g_iload_n (pc' := 19) dL_law_18 rfl rfl rfl ?_
    refine g_aload_n (pc' := 20) dL_law_19 rfl rfl rfl ?_
    refine g_slen (pc' := 21) hX dL_law_20 rfl ?_
    refine g_bipush (pc' := 23) (v := 6) dL_law_21 rfl (by decide) ?_
    refine g_isub (pc' := 24) dL_law_23 rfl ?_
    refine g_icmp_gt (tgt := 1432) (pc' := 27) dL_law_24 (by decide) rfl (fun _ => ?_) (fun h => absurd (law_cmp hL h2 (by omega)) h)
    refine g_iconst (pc' := 1433) (v := 1) dL_law_1432 rfl (by decide) ?_
    exact g_iret dL_law_1433 rfl (by decide +kernel) (hq _ _ hr)
  | succ n ih =>
    intro w i h1 h2 hr
    refine g_iload_n (pc' := 19) dL_law_18 rfl rfl rfl ?_
    refine g_aload_n (pc' := 20) dL_law_19 rfl rfl rfl ?_
    refine g_slen (pc' := 21) hX dL_law_20 rfl ?_
    refine g_bipush (pc' := 23) (v := 6) dL_law_21 rfl (by decide) ?_
    refine g_isub (pc' := 24) dL_law_23 rfl ?_
    refine g_icmp_gt (tgt := 1432) (pc' := 27) dL_law_24 (by decide) rfl (fun _ => ?_) (fun h => ?_)
    · refine g_iconst (pc' := 1433) (v := 1) dL_law_1432 rfl (by decide) ?_
      exact g_iret dL_law_1433 rfl (by decide +kernel) (hq _ _ hr)
    · have hi : i + 5 < Ln := Nat.lt_of_not_le fun q => h (law_cmp hL h2 (by omega))
      refine g_aload_n (pc' := 28) dL_law_27 rfl rfl rfl ?_
      refine g_iload_n (pc' := 29) dL_law_28 rfl rfl rfl ?_
      refine g_sld (pc' := 30) (v := xs i) hX (vp_in_nI (by omega) (by omega)) dL_law_29 rfl (congrArg xs (nI_clamp (by omega))) ?_
      refine g_bipush (pc' := 32) (v := 63) dL_law_30 rfl (by decide) ?_
      refine g_iand (pc' := 33) dL_law_32 rfl ?_
      obtain ⟨j, hj, ej⟩ := pk_andE (xs i) (m := 63) 6 (by decide)
      rw [ej]
      refine law_sw hA hX hi hL (hxa _ _ hr) (hp _ _ hr) (hdn _ _ hr) (fun w' hw' => ?_) hj
      refine g_iinc (pc' := 1429) (v := nI (i + 6)) (L' := [some (.ref b), some (.ref xa), some (.ref A.1), some (.int (nI (i + 6)))]) dL_law_1426 rfl rfl (nI_add i 6) (Nat.le_of_ble_eq_true rfl) rfl rfl ?_
      refine g_goto (tgt := 18) dL_law_1429 (by decide) ?_
      exact ih w' (i + 6) (by omega) (by omega) hw' 
theorem law_start {g : bGh} {A : tA} {n0 u0 : Nat} {Q : Outcome → bWl → Prop} {xa b : Nat} {w w1 w2 w3 w4 : bWl} (h1 : nC w (.inr (0, dX0)) 9 = some (xa, w1)) (h2 : fX0_init w1 xa = some w2) (h3 : nC w2 (.inr (3, dX3)) 16 = some (A.1, w3)) (h4 : fX3_init w3 A.1 = some w4) (kk : bG (g, mdL, n0, u0, Q) w4 18 [some (.ref b), some (.ref xa), some (.ref A.1), some (.int (nI 0))] []) : bG (g, mdL, n0, u0, Q) w 0 [some (.ref b)] [] := by
  refine g_new (ci := 0) (pc' := 3) rfl in_X0 tyX0_ok dX0_ok dL_law_0 rfl q105 q106 q83 h1 ?_
  refine g_dup (pc' := 4) dL_law_3 rfl rfl ?_
  refine g_callI (pc' := 7) (as := []) (wX0_init g _ xa h2) oX0_init ⟨Nat.le_of_ble_eq_true rfl, Nat.le_of_ble_eq_true rfl⟩ dL_law_4 rfl rfl q107 q108 (Nat.le_of_ble_eq_true rfl) (Nat.le_of_ble_eq_true rfl) (g_rV ?_) g_nt rfl
  refine g_astore_n (pc' := 8) (L' := [some (.ref b), some (.ref xa)]) dL_law_7 rfl rfl (Nat.le_of_ble_eq_true rfl) rfl rfl ?_
  refine g_new (ci := 3) (pc' := 11) rfl in_X3 tyX3_ok dX3_ok dL_law_8 rfl q1039 q1040 q86 h3 ?_
  refine g_dup (pc' := 12) dL_law_11 rfl rfl ?_
  refine g_callI (pc' := 15) (as := []) (wX3_init g _ A.1 h4) oX3_init ⟨Nat.le_of_ble_eq_true rfl, Nat.le_of_ble_eq_true rfl⟩ dL_law_12 rfl rfl q1041 q1042 (Nat.le_of_ble_eq_true rfl) (Nat.le_of_ble_eq_true rfl) (g_rV ?_) g_nt rfl
  refine g_astore_n (pc' := 16) (L' := [some (.ref b), some (.ref xa), some (.ref A.1)]) dL_law_15 rfl rfl (Nat.le_of_ble_eq_true rfl) rfl rfl ?_
  refine g_iconst (pc' := 17) (v := 0) dL_law_16 rfl (by decide) ?_
  exact g_istore_n (pc' := 18) (L' := [some (.ref b), some (.ref xa), some (.ref A.1), some (.int 0)]) dL_law_17 rfl rfl (Nat.le_of_ble_eq_true rfl) rfl rfl kk
