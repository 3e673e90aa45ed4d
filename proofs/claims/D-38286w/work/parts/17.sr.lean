/-! a walker as plain functions -/
theorem mx_nI {a b : Nat} (ha : a < 2 ^ 31) (hb : b < 2 ^ 31) : (if nI a < nI b then nI b else nI a) = nI (max a b) := by
  by_cases h : a < b
  · rw [if_pos ((nI_ltI ha hb).mpr h), Nat.max_eq_right (by omega)]
  · rw [if_neg (fun q => h ((nI_ltI ha hb).mp q)), Nat.max_eq_left (by omega)]
def toldF (p : Nat) (b : Bool) : Nat → Bool := if b = true then fun j => decide (j = p) else fun _ => true
theorem told_t {p : Nat} {b : Bool} (h : b = true) : toldF p b = fun j => decide (j = p) := by rw [toldF, if_pos h]
theorem told_f {p : Nat} {b : Bool} (h : b = false) : toldF p b = fun _ => true := by rw [toldF, h]; rfl
def blF (g : Nat → Bool) : Nat → Bool := if cnt g 144 = 0 then fun _ => true else g
def loI (g : Nat → Bool) (lo : Int32) : Int32 := if cnt g 144 = 0 then lo + nI 1 else lo
theorem blF_0 {g : Nat → Bool} (h : cnt g 144 = 0) : blF g = fun _ => true := by rw [blF, if_pos h]
theorem blF_p {g : Nat → Bool} (h : 0 < cnt g 144) : blF g = g := by rw [blF, if_neg (by omega)]
theorem loI_0 {g : Nat → Bool} {lo : Int32} (h : cnt g 144 = 0) : loI g lo = lo + nI 1 := by rw [loI, if_pos h]
theorem loI_p {g : Nat → Bool} {lo : Int32} (h : 0 < cnt g 144) : loI g lo = lo := by rw [loI, if_neg (by omega)]
def chI (e : Nat → Nat) (f : Nat → Bool) (ho : Nat) : Int32 := if cnt f 144 = 1 then wyF e (first f / 4) ho else -2
def coI (e : Nat → Nat) (f : Nat → Bool) (ho : Nat) : Int32 := if chI e f ho < 0 then chI e f ho else nI 2 * chI e f ho + nI 2
def sfB (e : Nat → Nat) (f : Nat → Bool) (ho : Nat) (ch : Int32) : Bool := if 0 ≤ coI e f ho then decide (coI e f ho ≤ ch - nI 1) else decide (nI 20 < ch)
/-- the nearest cell with a side that is not known, 36: none -/
def glN (g : Nat → Int32) (e : Nat → Nat) : Nat → Nat
  | 0 => 36
  | k + 1 => if ¬ g k = -1 ∧ oeN e k 4 = true ∧ (glN g e k = 36 ∨ g k < g (glN g e k)) then k else glN g e k
def gI (b : Nat) : Int32 := if b = 36 then -1 else nI b
def glC (g : Nat → Int32) (e : Nat → Nat) (k : Nat) : Prop := ¬ g k = -1 ∧ oeN e k 4 = true ∧ (glN g e k = 36 ∨ g k < g (glN g e k))
theorem glN_lt (g : Nat → Int32) (e : Nat → Nat) : ∀ k, k ≤ 36 → glN g e k = 36 ∨ glN g e k < k
  | 0, _ => Or.inl rfl
  | k + 1, hk => by
    unfold glN
    split
    · exact Or.inr (by omega)
    · rcases glN_lt g e k (by omega) with h | h
      · exact Or.inl h
      · exact Or.inr (by omega)
theorem gl_take {g : Nat → Int32} {e : Nat → Nat} {k : Nat} (hk : k < 36) (h : glC g e k) : gI (glN g e (k + 1)) = nI k := by
  unfold glC at h
  rw [glN, if_pos h, gI, if_neg (by omega)]
theorem gl_keep {g : Nat → Int32} {e : Nat → Nat} {k : Nat} (h : ¬ glC g e k) : gI (glN g e (k + 1)) = gI (glN g e k) := by
  unfold glC at h
  rw [glN, if_neg h]
theorem gI_no {b : Nat} (hb : b ≤ 36) : gI b = -1 ↔ b = 36 := by
  revert b; decide +kernel
theorem gI_nI {b : Nat} (h : ¬ b = 36) : gI b = nI b := by rw [gI, if_neg h]
def goI (e : Nat → Nat) (f : Nat → Bool) : Int32 := if cnt f 144 = 1 then gI (glN (wyF e (first f / 4)) e 36) else -2
/-- the worst that may remain behind an act -/
def wfN (e : Nat → Nat) (f : Nat → Bool) : Nat → Nat
  | 0 => 0
  | n + 1 => max (wfN e f n) (cnt (ftF e f n) 144)
theorem wfN_le (e : Nat → Nat) (f : Nat → Bool) : ∀ n, wfN e f n ≤ 144
  | 0 => Nat.zero_le _
  | n + 1 => Nat.max_le.mpr ⟨wfN_le e f n, cnt_le _ _⟩
def wsN (e : Nat → Nat) (f : Nat → Bool) (a : Nat) : Nat := if a = 0 then max (cnt (fwF e f true) 144) (cnt (fwF e f false) 144) else if ¬ a = 3 then cnt f 144 else wfN e f 8
theorem wsN_le (e : Nat → Nat) (f : Nat → Bool) (a : Nat) : wsN e f a ≤ 144 := by
  unfold wsN
  split
  · exact Nat.max_le.mpr ⟨cnt_le _ _, cnt_le _ _⟩
  · split
    · exact cnt_le _ _
    · exact wfN_le _ _ _
def brN (e : Nat → Nat) (f : Nat → Bool) : Nat → Nat
  | 0 => 0
  | n + 1 => if wsN e f (n + 1) < wsN e f (brN e f n) then n + 1 else brN e f n
theorem brN_le (e : Nat → Nat) (f : Nat → Bool) : ∀ n, brN e f n ≤ n
  | 0 => Nat.le_refl _
  | n + 1 => by
    unfold brN
    split
    · exact Nat.le_refl _
    · have := brN_le e f n; omega
def nxI (x : Int32) : Int32 := (nI 29 * x + nI 13) - (nI 29 * x + nI 13) / nI 127 * nI 127
