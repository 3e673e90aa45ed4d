/-! the floor and the walkers as plain functions: cells 0..35, sides 0..3, edges 0..59, poses 0..143 -/
/-- the cell beside, 36: none -/
def bsD (c s : Nat) : Nat := if s = 0 then (if c < 6 then 36 else c - 6) else if s = 1 then (if c % 6 = 5 then 36 else c + 1) else if s = 2 then (if 30 ≤ c then 36 else c + 6) else if c % 6 = 0 then 36 else c - 1
def bsI (c s : Nat) : Int32 := if bsD c s = 36 then -1 else nI (bsD c s)
/-- the edge on a side, 60: none -/
def edD (c s : Nat) : Nat := if bsD c s = 36 then 60 else if s % 2 = 1 then min c (bsD c s) / 6 * 5 + min c (bsD c s) % 6 else 30 + min c (bsD c s)
def edI (c s : Nat) : Int32 := if bsD c s = 36 then -1 else nI (edD c s)
def tnD (p : Nat) (r : Bool) : Nat := p / 4 * 4 + (p + (if r = true then 1 else 3)) % 4
def cnt (f : Nat → Bool) : Nat → Nat
  | 0 => 0
  | n + 1 => cnt f n + bN (f n)
theorem cnt_le (f : Nat → Bool) : ∀ n, cnt f n ≤ n
  | 0 => Nat.le_refl _
  | n + 1 => by have := cnt_le f n; have := bN_le (f n); simp only [cnt]; omega
/-- what a plan says of a side -/
def atN (e : Nat → Nat) (c s : Nat) : Nat := if bsD c s = 36 then 2 else e (edD c s)
/-- may it be shut (or free)? -/
def cbB (e : Nat → Nat) (c s : Nat) (b : Bool) : Bool := decide (¬ atN e c s = (if b = true then 1 else 2))
/-- the first that is so, 143 if none before it is -/
def fst (f : Nat → Bool) : Nat → Nat
  | 0 => 143
  | n + 1 => if f (143 - (n + 1)) = true then 143 - (n + 1) else fst f n
def first (f : Nat → Bool) : Nat := fst f 143
theorem fst_spec (f : Nat → Bool) : ∀ n, n ≤ 143 → 143 - n ≤ fst f n ∧ fst f n ≤ 143 ∧ (∀ j, 143 - n ≤ j → j < fst f n → f j = false) ∧ (fst f n < 143 → f (fst f n) = true)
  | 0, _ => ⟨by simp [fst], by simp [fst], fun j h1 h2 => by simp [fst] at h2; omega, fun h => by simp [fst] at h⟩
  | n + 1, hn => by
    obtain ⟨h1, h2, h3, h4⟩ := fst_spec f n (by omega)
    unfold fst
    by_cases h : f (143 - (n + 1)) = true
    · rw [if_pos h]
      exact ⟨Nat.le_refl _, by omega, fun j a b => by omega, fun _ => h⟩
    · rw [if_neg h]
      refine ⟨by omega, h2, fun j a b => ?_, h4⟩
      by_cases hj : j = 143 - (n + 1)
      · subst hj; exact Bool.eq_false_iff.mpr h
      · exact h3 j (by omega) b
theorem first_le (f : Nat → Bool) : first f ≤ 143 := (fst_spec f 143 (by omega)).2.1
theorem first_lt (f : Nat → Bool) {j : Nat} (h : j < first f) : f j = false := (fst_spec f 143 (by omega)).2.2.1 j (by omega) h
theorem first_at (f : Nat → Bool) (h : first f < 143) : f (first f) = true := (fst_spec f 143 (by omega)).2.2.2 h
theorem bsD_lt {c s : Nat} (hc : c < 36) (hs : s < 4) : bsD c s ≤ 36 := by
  revert s; revert c; decide +kernel
theorem edD_lt {c s : Nat} (hc : c < 36) (hs : s < 4) (h : ¬ bsD c s = 36) : edD c s < 60 := by
  revert s; revert c; decide +kernel
theorem edI_eq {c s : Nat} (hc : c < 36) (hs : s < 4) : edI c s = -1 ↔ bsD c s = 36 := by
  revert s; revert c; decide +kernel
theorem bsI_eq {c s : Nat} (hc : c < 36) (hs : s < 4) : bsI c s = -1 ↔ bsD c s = 36 := by
  revert s; revert c; decide +kernel
theorem tnD_lt {p : Nat} (hp : p < 144) (r : Bool) : tnD p r < 144 := by
  cases r <;> (unfold tnD; simp only [Bool.false_eq_true, if_true, if_false]; omega)
theorem edI_no {c s : Nat} (hc : c < 36) (hs : s < 4) (h : ¬ edI c s = -1) : ¬ bsD c s = 36 := fun e => h ((edI_eq hc hs).mpr e)
theorem edI_nI {c s : Nat} (hc : c < 36) (hs : s < 4) (h : ¬ edI c s = -1) : edI c s = nI (edD c s) := by rw [edI, if_neg (edI_no hc hs h)]
theorem bsI_nI {c s : Nat} (h : ¬ bsD c s = 36) : bsI c s = nI (bsD c s) := by rw [bsI, if_neg h]
theorem atN_lt {e : Nat → Nat} (he : ∀ k, k < 60 → e k < 3) {c s : Nat} (hc : c < 36) (hs : s < 4) : atN e c s < 3 := by
  unfold atN
  by_cases h : bsD c s = 36
  · rw [if_pos h]; decide
  · rw [if_neg h]; exact he _ (edD_lt hc hs h)
theorem atN_in {e : Nat → Nat} {c s : Nat} (h : ¬ atN e c s = 2) : ¬ bsD c s = 36 := fun q => h (by rw [atN, if_pos q])
theorem atN_1 {e : Nat → Nat} {c s : Nat} (h : atN e c s = 1) : ¬ bsD c s = 36 := atN_in (by rw [h]; decide)
/-- a plan told of a side -/
def tlN (e : Nat → Nat) (c s : Nat) (b : Bool) : Nat → Nat := fun k => if ¬ bsD c s = 36 ∧ k = edD c s then (if b = true then 2 else 1) else e k
theorem tlN_out {e : Nat → Nat} {c s : Nat} {b : Bool} (h : bsD c s = 36) : tlN e c s b = e := by
  funext k; simp [tlN, h]
theorem tlN_upd {e : Nat → Nat} {c s : Nat} (b : Bool) (h : ¬ bsD c s = 36) : upd (fun k => nI (e k)) (edD c s) (nI (if b = true then 2 else 1)) = fun k => nI (tlN e c s b k) := by
  funext k
  by_cases hk : k = edD c s <;> simp [upd, tlN, h, hk]
theorem tlN_lt {e : Nat → Nat} {c s : Nat} {b : Bool} (he : ∀ k, k < 60 → e k < 3) : ∀ k, k < 60 → tlN e c s b k < 3 := by
  intro k hk
  unfold tlN
  split
  · split <;> decide
  · exact he k hk
/-- some side of a cell is not known -/
def oeN (e : Nat → Nat) (c : Nat) : Nat → Bool
  | 0 => false
  | n + 1 => oeN e c n || decide (atN e c n = 0)
theorem oeN_hit {e : Nat → Nat} {c i : Nat} (h : atN e c i = 0) : ∀ {n : Nat}, i < n → oeN e c n = true
  | 0, hn => absurd hn (Nat.not_lt_zero _)
  | n + 1, hn => by
    simp only [oeN, Bool.or_eq_true, decide_eq_true_eq]
    by_cases hi : i = n
    · subst hi; exact Or.inr h
    · exact Or.inl (oeN_hit h (by omega))
/-- ways: by cells how far -/
def spS (e : Nat → Nat) (c s : Nat) (g : Nat → Int32) : Nat → Int32 := if atN e c s = 1 ∧ g (bsD c s) = -1 then upd g (bsD c s) (g c + nI 1) else g
def spN (e : Nat → Nat) (c : Nat) (g : Nat → Int32) : Nat → Nat → Int32
  | 0 => g
  | n + 1 => spS e c n (spN e c g n)
def w0F (f : Nat) : Nat → Int32 := fun j => if j = f then nI 0 else -1
def wkF (e : Nat → Nat) (t : Nat) (g : Nat → Int32) : Nat → Nat → Int32
  | 0 => g
  | k + 1 => if wkF e t g k k = nI t then spN e k (wkF e t g k) 4 else wkF e t g k
def woF (e : Nat → Nat) (g : Nat → Int32) : Nat → Nat → Int32
  | 0 => g
  | t + 1 => wkF e t (woF e g t) 36
def wyF (e : Nat → Nat) (f : Nat) : Nat → Int32 := woF e (w0F f) 36
/-- what one plan learns of another -/
def lnE (e o : Nat → Nat) (n : Nat) : Nat → Nat := fun k => if k < n ∧ e k = 0 then o k else e k
theorem lnE_keep {e o : Nat → Nat} {i : Nat} (h : ¬ e i = 0 ∨ o i = 0) : lnE e o i = lnE e o (i + 1) := by
  funext k
  unfold lnE
  by_cases hk : k = i
  · subst hk
    rw [if_neg (by omega)]
    by_cases h2 : e k = 0
    · rw [if_pos (by omega)]
      rcases h with h | h
      · exact absurd h2 h
      · omega
    · rw [if_neg (by omega)]
  · by_cases h2 : k < i ∧ e k = 0
    · rw [if_pos h2, if_pos (by omega)]
    · rw [if_neg h2, if_neg (by omega)]
theorem lnE_at {e o : Nat → Nat} {i : Nat} : lnE e o i i = e i := by simp [lnE]
theorem lnE_upd {e o : Nat → Nat} {i : Nat} (h : e i = 0) : upd (fun k => nI (lnE e o i k)) i (nI (o i)) = fun k => nI (lnE e o (i + 1) k) := by
  funext k
  by_cases hk : k = i
  · subst hk; simp [upd, lnE, h]
  · have : (k < i ∧ e k = 0) ↔ (k < i + 1 ∧ e k = 0) := by omega
    simp [upd, hk, lnE, this]
theorem lnE_lt {e o : Nat → Nat} {n : Nat} (he : ∀ k, k < 60 → e k < 3) (ho : ∀ k, k < 60 → o k < 3) : ∀ k, k < 60 → lnE e o n k < 3 := by
  intro k hk; unfold lnE; split
  · exact ho k hk
  · exact he k hk
