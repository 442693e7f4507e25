/-! THE LAW: the script's rows -/
set_option maxRecDepth 100000
/-- the script lies below the base -/
def scrAt (g : bGh) (b Ln : Nat) (xs : Nat → Int32) : Prop := b < g.2.2.1.size ∧ ∃ scr : Cell, g.2.2.1[b]? = some scr ∧ scr.cls = g.2.1 5 ∧ (∀ k, scr.vm ≠ .statics k) ∧ scr.vm ≠ .unknown ∧ scr.slots.size = Ln ∧ ∀ j : Nat, j < Ln → scr.slots[j]? = some (.int (xs j))
theorem scrAt.X {g : bGh} {b Ln : Nat} {xs : Nat → Int32} (h : scrAt g b Ln xs) {U : State} (hU : bSt g U) : va_X b Ln xs U g.2.2.1 := by
  obtain ⟨h1, scr, h2, h3, h4, h5, h6, h7⟩ := h
  have h8 := hU.2.2.2.2.2.2.2.2 0 (fun _ => .null)
  obtain ⟨k, hk, comp, hc⟩ := h8.2
  exact ⟨scr, h2, ⟨h4, k, by rw [h3]; exact hk, comp, hc⟩, h5, h6, h7⟩
section LAWROWS
variable {X : bCX} {w : bWl} {pc pc' : Nat} {L : List (Option Value)} {rest : List Value} {b Ln : Nat} {xs : Nat → Int32}
theorem g_scS {g : bGh} {w : bWl} {H : Heap} {locs : List Loc} (h1 : g.2.2.1.size ≤ w.2.1) (hH : bHo g w H) (hlo : ∀ q ∈ locs, g.2.2.1.size ≤ q.base) : va_S (bAw g) g.2.2.1 H locs := ⟨by rw [hH.1]; exact h1, fun q hq _ => hH.2.1 q hq, hlo⟩
theorem g_sld {i : Int32} {v : Int32} (hX : scrAt X.1 b Ln xs) (hin : vp_in i Ln) (hd : decode (bcd X) pc = .ok (.iaload, 1)) (hp : pc + 1 = pc') (hv : xs i.toNatClampNeg = v) (kk : bG X w pc' L (.int v :: rest)) : bG X w pc L (.int i :: .ref b :: rest) := by
  subst hp hv
  obtain ⟨g, ⟨y, cc, nL, ret, hh, fr, lo⟩, n0, u0, Q⟩ := X
  rintro ⟨p, l, e, R, s, m, args, below, meth, c⟩ hF hok H locs ls hH hlo hL
  obtain ⟨h1, h2, h3, h4, h5, h6, h7, h8, h9, h10, h11, h12, h13, h14, h15, h16⟩ := id hF
  have hb := hX.1
  have hb' : b < g.2.2.1.size := hb
  refine va_sld h1 h2 (hX.X h10) hb (A := bAw g) (fun q => absurd hb' (Nat.not_lt.mpr q)) (g_scS (Nat.le_trans h16 hok.1) hH hlo) hin hd ?_
  exact kk (p, l, e, R, s, m, args, below, meth, c) hF hok H locs ls hH hlo hL
theorem g_slen (hX : scrAt X.1 b Ln xs) (hd : decode (bcd X) pc = .ok (.arraylength, 1)) (hp : pc + 1 = pc') (kk : bG X w pc' L (.int (Int32.ofNat Ln) :: rest)) : bG X w pc L (.ref b :: rest) := by
  subst hp
  obtain ⟨g, ⟨y, cc, nL, ret, hh, fr, lo⟩, n0, u0, Q⟩ := X
  rintro ⟨p, l, e, R, s, m, args, below, meth, c⟩ hF hok H locs ls hH hlo hL
  obtain ⟨h1, h2, h3, h4, h5, h6, h7, h8, h9, h10, h11, h12, h13, h14, h15, h16⟩ := id hF
  have hb := hX.1
  have hb' : b < g.2.2.1.size := hb
  refine va_slen h1 h2 (hX.X h10) hb (A := bAw g) (fun q => absurd hb' (Nat.not_lt.mpr q)) (g_scS (Nat.le_trans h16 hok.1) hH hlo) hd ?_
  exact kk (p, l, e, R, s, m, args, below, meth, c) hF hok H locs ls hH hlo hL
end LAWROWS
