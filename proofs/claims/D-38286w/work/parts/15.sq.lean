/-! plans and beliefs as plain functions -/
theorem spN_st {e : Nat → Nat} {c : Nat} {g : Nat → Int32} {i : Nat} (h1 : atN e c i = 1) (h2 : spN e c g i (bsD c i) = -1) : upd (spN e c g i) (bsD c i) (spN e c g i c + nI 1) = spN e c g (i + 1) := by
  rw [spN, spS, if_pos ⟨h1, h2⟩]
theorem spN_keep {e : Nat → Nat} {c : Nat} {g : Nat → Int32} {i : Nat} (h : ¬ (atN e c i = 1 ∧ spN e c g i (bsD c i) = -1)) : spN e c g (i + 1) = spN e c g i := by
  rw [spN, spS, if_neg h]
theorem wkF_hit {e : Nat → Nat} {t : Nat} {g : Nat → Int32} {k : Nat} (h : wkF e t g k k = nI t) : spN e k (wkF e t g k) 4 = wkF e t g (k + 1) := by rw [wkF, if_pos h]
theorem wkF_miss {e : Nat → Nat} {t : Nat} {g : Nat → Int32} {k : Nat} (h : ¬ wkF e t g k k = nI t) : wkF e t g k = wkF e t g (k + 1) := by rw [wkF, if_neg h]
theorem upd_lt (g z : Nat → Int32) (i : Nat) : upd (fun j => if j < i then g j else z j) i (g i) = fun j => if j < i + 1 then g j else z j := by
  funext j
  by_cases h : j = i
  · subst h; simp [upd]
  · have : (j < i) ↔ (j < i + 1) := by omega
    simp [upd, h, this]
theorem updB_lt (g : Nat → Bool) (i : Nat) : updB (fun j => decide (j < i) && g j) i (g i) = fun j => decide (j < i + 1) && g j := by
  funext j
  by_cases h : j = i
  · subst h; simp [updB]
  · have : (j < i) ↔ (j < i + 1) := by omega
    simp [updB, h, this]
theorem updB_dlt (i : Nat) : updB (fun j => decide (j < i)) i true = fun j => decide (j < i + 1) := by
  funext j
  by_cases h : j = i
  · subst h; simp [updB]
  · have : (j < i) ↔ (j < i + 1) := by omega
    simp [updB, h, this]
theorem updB_one (p : Nat) : updB (fun _ => false) p true = fun j => decide (j = p) := by
  funext j
  by_cases h : j = p <;> simp [updB, h]
theorem cnt_T {f : Nat → Bool} {n : Nat} (h : f n = true) : cnt f (n + 1) = cnt f n + 1 := by simp [cnt, bN, h]
theorem cnt_F {f : Nat → Bool} {n : Nat} (h : f n = false) : cnt f (n + 1) = cnt f n := by simp [cnt, bN, h]
def zP : Nat → Nat := fun _ => 0
/-- bit k of an answer -/
def btN (a k : Nat) : Nat := a / 2 ^ k % 2
theorem btN_lt (a k : Nat) : btN a k < 2 := Nat.mod_lt _ (by decide)
theorem bt_and {a k : Nat} (ha : a < 8) (hk : k < 3) : (nI a >>> (nI k &&& 31)) &&& nI 1 = nI (btN a k) := by
  revert k; revert a; decide +kernel
/-- can an answer be felt in a pose -/
def cfN (e : Nat → Nat) (p a : Nat) : Nat → Bool
  | 0 => true
  | k + 1 => cfN e p a k && cbB e (p / 4) ((p + k + 3) % 4) (decide (btN a k = 1))
theorem cfN_miss {e : Nat → Nat} {p a k : Nat} (h : cbB e (p / 4) ((p + k + 3) % 4) (decide (btN a k = 1)) = false) : ∀ {n : Nat}, k < n → cfN e p a n = false
  | 0, hn => absurd hn (Nat.not_lt_zero _)
  | n + 1, hn => by
    by_cases hk : k = n
    · subst hk; simp [cfN, h]
    · simp [cfN, cfN_miss (n := n) h (by omega)]
def ftF (e : Nat → Nat) (f : Nat → Bool) (a : Nat) : Nat → Bool := fun j => f j && cfN e j a 3
/-- beliefs behind a step -/
def fwN (e : Nat → Nat) (f : Nat → Bool) (b : Bool) : Nat → Nat → Bool
  | 0 => fun _ => false
  | i + 1 => if (f i && cbB e (i / 4) (i % 4) b) = true then (if b = true then updB (fwN e f b i) i true else updB (updB (fwN e f b i) i true) (bsD (i / 4) (i % 4) * 4 + i % 4) true) else fwN e f b i
theorem fw_no {e : Nat → Nat} {f : Nat → Bool} {b : Bool} {i : Nat} (h : (f i && cbB e (i / 4) (i % 4) b) = false) : fwN e f b i = fwN e f b (i + 1) := by rw [fwN, h]; rfl
theorem fw_t {e : Nat → Nat} {f : Nat → Bool} {b : Bool} {i : Nat} (h1 : f i = true) (h2 : cbB e (i / 4) (i % 4) b = true) (h3 : b = true) : updB (fwN e f b i) i true = fwN e f b (i + 1) := by rw [fwN, h1, h2, h3]; rfl
theorem fw_f {e : Nat → Nat} {f : Nat → Bool} {b : Bool} {i : Nat} (h1 : f i = true) (h2 : cbB e (i / 4) (i % 4) b = true) (h3 : b = false) : updB (updB (fwN e f b i) i true) (bsD (i / 4) (i % 4) * 4 + i % 4) true = fwN e f b (i + 1) := by rw [fwN, h1, h2, h3]; rfl
theorem cb_in {e : Nat → Nat} {c s : Nat} {b : Bool} (hb : b = false) (h : cbB e c s b = true) : ¬ bsD c s = 36 := by
  subst hb
  intro q
  simp [cbB, atN, q] at h
def fwF (e : Nat → Nat) (f : Nat → Bool) (b : Bool) : Nat → Bool := fwN e f b 144
/-- beliefs behind a turn -/
def tuN (f : Nat → Bool) (r : Bool) : Nat → Nat → Bool
  | 0 => fun _ => false
  | i + 1 => if f i = true then updB (tuN f r i) (tnD i r) true else tuN f r i
theorem tu_t {f : Nat → Bool} {r : Bool} {i : Nat} (h : f i = true) : updB (tuN f r i) (tnD i r) true = tuN f r (i + 1) := by rw [tuN, if_pos h]
theorem tu_f {f : Nat → Bool} {r : Bool} {i : Nat} (h : f i = false) : tuN f r i = tuN f r (i + 1) := by rw [tuN, h]; rfl
def tuF (f : Nat → Bool) (r : Bool) : Nat → Bool := tuN f r 144
/-- cells of a facing as a set -/
def clN (f : Nat → Bool) (s : Nat) : Nat → Int64
  | 0 => 0
  | i + 1 => if f (i * 4 + s) = true then clN f s i ||| (1 <<< ((nI i).toInt64 &&& 63)) else clN f s i
theorem cl_t {f : Nat → Bool} {s i : Nat} (h : f (i * 4 + s) = true) : clN f s (i + 1) = clN f s i ||| (1 <<< ((nI i).toInt64 &&& 63)) := by rw [clN, if_pos h]
theorem cl_f {f : Nat → Bool} {s i : Nat} (h : f (i * 4 + s) = false) : clN f s (i + 1) = clN f s i := by rw [clN, h]; rfl
