/-! PURE: loops, small numbers, the twin's cells -/
set_option maxRecDepth 100000
/-- a loop of at most N rounds: as long as P holds it goes on, or it ends with Q -/
theorem lp_go {σ ρ : Type} {body : (σ → Option ρ) → σ → Option ρ} (P : Nat → σ → Prop) (Q : ρ → Prop) (N : Nat)
    (hs : ∀ k s, P k s → (k < N ∧ ∃ s', (∀ rec, body rec s = rec s') ∧ P (k + 1) s') ∨ ∃ r, (∀ rec, body rec s = some r) ∧ Q r) :
    ∀ (F k : Nat) (s : σ), N < k + F → k ≤ N → P k s → ∃ r, lpF body F s = some r ∧ Q r := by
  intro F
  induction F with
  | zero => intro k s hF hk hP; omega
  | succ F ih =>
    intro k s hF hk hP
    rcases hs k s hP with ⟨h, s', hb, hP'⟩ | ⟨r, hr, hq⟩
    · obtain ⟨r, h1, h2⟩ := ih (k + 1) s' (by omega) (by omega) hP'
      exact ⟨r, by rw [lpF_s, hb]; exact h1, h2⟩
    · exact ⟨r, by rw [lpF_s, hr], hq⟩
/-- .. counted: k from 0 to N, the value by f -/
def itr {α : Type} (f : Nat → α → α) : Nat → α → α
  | 0, a => a
  | n + 1, a => f n (itr f n a)
theorem lp_up {σ ρ α : Type} {body : (σ → Option ρ) → σ → Option ρ} (enc : Nat → α → σ) (f : Nat → α → α) (out : α → ρ) (N : Nat) (a : α) (P : Nat → α → Prop) (hN : N < FU) (h0 : P 0 a)
    (hs : ∀ k a, k < N → P k a → (∀ rec, body rec (enc k a) = rec (enc (k + 1) (f k a))) ∧ P (k + 1) (f k a)) (he : ∀ a, P N a → ∀ rec, body rec (enc N a) = some (out a)) :
    lpF body FU (enc 0 a) = some (out (itr f N a)) ∧ P N (itr f N a) := by
  obtain ⟨r, h1, h2⟩ := lp_go (body := body) (fun k s => k ≤ N ∧ s = enc k (itr f k a) ∧ P k (itr f k a)) (fun r => r = out (itr f N a) ∧ P N (itr f N a)) N (by
    rintro k s ⟨hk, rfl, hP⟩
    by_cases h : k < N
    · left
      obtain ⟨h3, h4⟩ := hs k _ h hP
      exact ⟨h, _, h3, by omega, rfl, h4⟩
    · right
      have e : k = N := by omega
      subst e
      exact ⟨_, he _ hP, rfl, hP⟩) FU 0 (enc 0 a) (by omega) (Nat.zero_le _) ⟨Nat.zero_le _, rfl, h0⟩
  exact ⟨by rw [h1, h2.1], h2.2⟩
theorem FU_gt {n : Nat} (h : n < 100000) : n < FU := h
/-- small numbers -/
theorem nI_lit (n : Nat) : (OfNat.ofNat n : Int32) = nI n := rfl
theorem nI_le_iff {a b : Nat} (ha : a < 2 ^ 31) (hb : b < 2 ^ 31) : nI a ≤ nI b ↔ a ≤ b := nI_leI ha hb
/-- the twin's cells -/
theorem rA_at {M : tM} {k i : Nat} {x : Int32} (hx : x = nI i) (h : i < tN k) (hk : tN k < 1000) : rA M k x = some (M.2.1 k i) := by
  subst hx
  unfold rA
  rw [if_neg (by rw [nI_clamp (by omega)]; exact fun q => by rcases q with q | q; exact nI_pos (by omega) q; omega), nI_clamp (by omega)]
theorem wA_at {M : tM} {k i : Nat} {x v : Int32} (hx : x = nI i) (h : i < tN k) (hk : tN k < 1000) : wA M k x v = some (M.1, va_up M.2.1 k (upd (M.2.1 k) i v), M.2.2) := by
  subst hx
  unfold wA
  rw [if_neg (by rw [nI_clamp (by omega)]; exact fun q => by rcases q with q | q; exact nI_pos (by omega) q; omega), nI_clamp (by omega)]
/-- the row: rumours, houses -/
abbrev Row : Type := Nat → Int32
def sN (S : Row) : Nat := (S 0).toNatClampNeg
def ru (S : Row) (r p : Nat) : Int32 := S (27 + 5 * r + p)
def ho (S : Row) (h p : Nat) : Int32 := S (3 + 3 * h + p)
def ruW (S : Row) (r p : Nat) (v : Int32) : Row := upd S (27 + 5 * r + p) v
def hoW (S : Row) (h p : Nat) (v : Int32) : Row := upd S (3 + 3 * h + p) v
def tS (M : tM) (S : Row) : tM := (M.1, va_up M.2.1 0 S, M.2.2)
theorem tS_0 (M : tM) (S : Row) : (tS M S).2.1 0 = S := (va_up_self M.2.1 0 S : va_up M.2.1 0 S 0 = S)
theorem tS_tS (M : tM) (S S2 : Row) : tS (tS M S) S2 = tS M S2 := by
  unfold tS
  congr 2
  funext k
  by_cases h : k = 0
  · subst h; simp [va_up]
  · simp [va_up, h]
theorem tS_id (M : tM) : tS M (M.2.1 0) = M := by
  unfold tS
  have : va_up M.2.1 0 (M.2.1 0) = M.2.1 := by
    funext k
    by_cases h : k = 0
    · subst h; simp [va_up]
    · simp [va_up, h]
  rw [this]
theorem spot_eq (r p : Nat) : (27 + 5 * nI r) + nI p = nI (27 + 5 * r + p) := by
  rw [show (5 : Int32) = nI 5 from rfl, show (27 : Int32) = nI 27 from rfl, pk_mul, nI_add, nI_add]
theorem part_eq (h p : Nat) : (3 + 3 * nI h) + nI p = nI (3 + 3 * h + p) := by
  rw [show (3 : Int32) = nI 3 from rfl, pk_mul, nI_add, nI_add]
theorem t_its {M : tM} {r p : Nat} {x y : Int32} (hx : x = nI r) (hy : y = nI p) (hr : r < 10) (hp : p < 5) : fX3_its M x y = some (ru (M.2.1 0) r p) := by
  subst hx hy
  unfold fX3_its fX3_spotOf
  simp only [Option.bind_some]
  rw [rA_at (spot_eq r p) (show _ < 77 by omega) (by decide)]
  rfl
theorem t_has {M : tM} {h p : Nat} {x y : Int32} (hx : x = nI h) (hy : y = nI p) (hr : h < 8) (hp : p < 3) : fX3_has M x y = some (ho (M.2.1 0) h p) := by
  subst hx hy
  unfold fX3_has fX3_partOf
  simp only [Option.bind_some]
  rw [rA_at (part_eq h p) (show _ < 77 by omega) (by decide)]
  rfl
theorem t_wru {M : tM} {r p : Nat} {x y v : Int32} (hx : x = nI r) (hy : y = nI p) (hr : r < 10) (hp : p < 5) : wA M 0 ((27 + (5 * x)) + y) v = some (tS M (ruW (M.2.1 0) r p v)) := by
  subst hx hy
  rw [wA_at (spot_eq r p) (show _ < 77 by omega) (by decide)]
  rfl
theorem t_who {M : tM} {h p : Nat} {x y v : Int32} (hx : x = nI h) (hy : y = nI p) (hr : h < 8) (hp : p < 3) : wA M 0 ((3 + (3 * x)) + y) v = some (tS M (hoW (M.2.1 0) h p v)) := by
  subst hx hy
  rw [wA_at (part_eq h p) (show _ < 77 by omega) (by decide)]
  rfl
theorem t_n {M : tM} : rA M 0 0 = some (M.2.1 0 0) := rA_at (i := 0) rfl (by decide) (by decide)
theorem sN_eq {S : Row} {n : Nat} (h : S 0 = nI n) (hn : n < 2 ^ 31) : sN S = n := by
  unfold sN
  rw [h, nI_clamp hn]
theorem t_i0 {M : tM} {r : Nat} (hr : r < 10) : fX3_its M (nI r) 0 = some (ru (M.2.1 0) r 0) := t_its rfl (p := 0) rfl hr (by decide)
theorem t_i1 {M : tM} {r : Nat} (hr : r < 10) : fX3_its M (nI r) 1 = some (ru (M.2.1 0) r 1) := t_its rfl (p := 1) rfl hr (by decide)
theorem t_i2 {M : tM} {r : Nat} (hr : r < 10) : fX3_its M (nI r) 2 = some (ru (M.2.1 0) r 2) := t_its rfl (p := 2) rfl hr (by decide)
theorem t_i3 {M : tM} {r : Nat} (hr : r < 10) : fX3_its M (nI r) 3 = some (ru (M.2.1 0) r 3) := t_its rfl (p := 3) rfl hr (by decide)
theorem t_i4 {M : tM} {r : Nat} (hr : r < 10) : fX3_its M (nI r) 4 = some (ru (M.2.1 0) r 4) := t_its rfl (p := 4) rfl hr (by decide)
theorem t_h0 {M : tM} {r : Nat} (hr : r < 8) : fX3_has M (nI r) 0 = some (ho (M.2.1 0) r 0) := t_has rfl (p := 0) rfl hr (by decide)
theorem t_h1 {M : tM} {r : Nat} (hr : r < 8) : fX3_has M (nI r) 1 = some (ho (M.2.1 0) r 1) := t_has rfl (p := 1) rfl hr (by decide)
theorem t_h2 {M : tM} {r : Nat} (hr : r < 8) : fX3_has M (nI r) 2 = some (ho (M.2.1 0) r 2) := t_has rfl (p := 2) rfl hr (by decide)
theorem t_w0 {M : tM} {r : Nat} {v : Int32} (hr : r < 10) : wA M 0 ((27 + (5 * nI r)) + 0) v = some (tS M (ruW (M.2.1 0) r 0 v)) := t_wru rfl (p := 0) rfl hr (by decide)
theorem t_w1 {M : tM} {r : Nat} {v : Int32} (hr : r < 10) : wA M 0 ((27 + (5 * nI r)) + 1) v = some (tS M (ruW (M.2.1 0) r 1 v)) := t_wru rfl (p := 1) rfl hr (by decide)
theorem t_w2 {M : tM} {r : Nat} {v : Int32} (hr : r < 10) : wA M 0 ((27 + (5 * nI r)) + 2) v = some (tS M (ruW (M.2.1 0) r 2 v)) := t_wru rfl (p := 2) rfl hr (by decide)
theorem t_w3 {M : tM} {r : Nat} {v : Int32} (hr : r < 10) : wA M 0 ((27 + (5 * nI r)) + 3) v = some (tS M (ruW (M.2.1 0) r 3 v)) := t_wru rfl (p := 3) rfl hr (by decide)
theorem t_w4 {M : tM} {r : Nat} {v : Int32} (hr : r < 10) : wA M 0 ((27 + (5 * nI r)) + 4) v = some (tS M (ruW (M.2.1 0) r 4 v)) := t_wru rfl (p := 4) rfl hr (by decide)
theorem t_v0 {M : tM} {r : Nat} {v : Int32} (hr : r < 8) : wA M 0 ((3 + (3 * nI r)) + 0) v = some (tS M (hoW (M.2.1 0) r 0 v)) := t_who rfl (p := 0) rfl hr (by decide)
theorem t_v1 {M : tM} {r : Nat} {v : Int32} (hr : r < 8) : wA M 0 ((3 + (3 * nI r)) + 1) v = some (tS M (hoW (M.2.1 0) r 1 v)) := t_who rfl (p := 1) rfl hr (by decide)
theorem t_v2 {M : tM} {r : Nat} {v : Int32} (hr : r < 8) : wA M 0 ((3 + (3 * nI r)) + 2) v = some (tS M (hoW (M.2.1 0) r 2 v)) := t_who rfl (p := 2) rfl hr (by decide)
