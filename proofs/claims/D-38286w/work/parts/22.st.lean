/-! the reference's ways, beliefs: its loops against the functions of parts 12 to 17 -/
def mkF (e : Nat → Nat) (t : Nat) (G : Nat → Int32) (k s : Nat) : Nat → Int32 := if G k = nI t then spN e k G s else G
theorem bsD_ne {c s : Nat} (hc : c < 36) (hs : s < 4) : ¬ bsD c s = c := by
  revert s; revert c; decide +kernel
theorem spN_own {e : Nat → Nat} {c : Nat} {g : Nat → Int32} (hc : c < 36) : ∀ n, n ≤ 4 → spN e c g n c = g c
  | 0, _ => rfl
  | n + 1, hn => by
    rw [spN, spS]
    split
    · rw [upd, if_neg (fun h => bsD_ne hc (by omega) h.symm)]
      exact spN_own hc n (by omega)
    · exact spN_own hc n (by omega)
theorem mk_own {e : Nat → Nat} {t k s : Nat} {G : Nat → Int32} (hk : k < 36) (hs : s ≤ 4) : mkF e t G k s k = G k := by
  unfold mkF; split
  · exact spN_own hk s hs
  · rfl
theorem mk_0 {e : Nat → Nat} {t k : Nat} {G : Nat → Int32} : mkF e t G k 0 = G := by
  unfold mkF; split <;> rfl
theorem mk_end {e : Nat → Nat} {t k : Nat} {g : Nat → Int32} : mkF e t (wkF e t g k) k 4 = wkF e t g (k + 1) := by
  unfold mkF; split
  · rename_i h; exact wkF_hit h
  · rename_i h; exact wkF_miss h
theorem mk_miss {e : Nat → Nat} {t k s : Nat} {g : Nat → Int32} (hk : k < 36) (hs : s ≤ 4) (h : ¬ mkF e t (wkF e t g k) k s k = nI t) : mkF e t (wkF e t g k) k s = wkF e t g (k + 1) := by
  rw [mk_own hk hs] at h
  rw [mkF, if_neg h]; exact wkF_miss h
theorem mk_keep {e : Nat → Nat} {t k s : Nat} {G : Nat → Int32} (h : ¬ (atN e k s = 1 ∧ mkF e t G k s (bsD k s) = -1)) : mkF e t G k s = mkF e t G k (s + 1) := by
  unfold mkF at h ⊢
  split
  · rename_i h1; rw [if_pos h1] at h; exact (spN_keep h).symm
  · rfl
theorem mk_st {e : Nat → Nat} {t k s : Nat} {G : Nat → Int32} (hk : k < 36) (hs : s < 4) (h0 : mkF e t G k s k = nI t) (h1 : atN e k s = 1) (h2 : mkF e t G k s (bsD k s) = -1) : upd (mkF e t G k s) (bsD k s) (nI (t + 1)) = mkF e t G k (s + 1) := by
  rw [mk_own hk (by omega)] at h0
  have e1 : ∀ z, mkF e t G k z = spN e k G z := fun z => by rw [mkF, if_pos h0]
  rw [e1] at h2 ⊢
  rw [e1, ← spN_st h1 h2, spN_own hk s (by omega), h0, nI_add t 1]
/-- a step, as the reference goes about it -/
theorem fw_or {e : Nat → Nat} {f : Nat → Bool} {i : Nat} (h : f i = true) : updB (fwN e f true i) i (fwN e f true i i || decide (¬ atN e (i / 4) (i % 4) = 1)) = fwN e f true (i + 1) := by
  have hcb : cbB e (i / 4) (i % 4) true = decide (¬ atN e (i / 4) (i % 4) = 1) := rfl
  rw [fwN, h, Bool.true_and, hcb]
  by_cases h1 : atN e (i / 4) (i % 4) = 1
  · rw [if_neg (by simp [h1])]
    funext j
    by_cases hj : j = i
    · subst hj; simp [updB, h1]
    · simp [updB, hj]
  · rw [if_pos (by simp [h1]), if_pos rfl, decide_eq_true h1, Bool.or_true]
theorem fw_2 {e : Nat → Nat} {f : Nat → Bool} {i : Nat} (h2 : atN e (i / 4) (i % 4) = 2) : fwN e f false i = fwN e f false (i + 1) := fw_no (by simp [cbB, h2])
theorem fw_f2 {e : Nat → Nat} {f : Nat → Bool} {i : Nat} (h1 : f i = true) (h2 : ¬ atN e (i / 4) (i % 4) = 2) : updB (updB (fwN e f false i) i true) (4 * bsD (i / 4) (i % 4) + i % 4) true = fwN e f false (i + 1) := by
  rw [Nat.mul_comm 4]
  exact fw_f h1 (by simp [cbB, h2]) rfl
/-- what is felt, as the reference goes about it -/
def mfF (e : Nat → Nat) (f : Nat → Bool) (a i k : Nat) : Nat → Bool := fun j => if j = i then f j && cfN e j a k else decide (j < i) && ftF e f a j
theorem mf_0 (e : Nat → Nat) (f : Nat → Bool) (a i : Nat) : updB (fun j => decide (j < i) && ftF e f a j) i (f i) = mfF e f a i 0 := by
  funext j
  by_cases h : j = i
  · subst h; simp [updB, mfF, cfN]
  · simp [updB, mfF, h]
theorem mf_k {e : Nat → Nat} {f : Nat → Bool} {a i k : Nat} {b : Bool} (h : b = cbB e (i / 4) ((i + k + 3) % 4) (decide (btN a k = 1))) : updB (mfF e f a i k) i (mfF e f a i k i && b) = mfF e f a i (k + 1) := by
  subst h
  funext j
  by_cases h : j = i
  · subst h; simp [updB, mfF, cfN, Bool.and_assoc]
  · simp [updB, mfF, h]
theorem mf_3 (e : Nat → Nat) (f : Nat → Bool) (a i : Nat) : mfF e f a i 3 = fun j => decide (j < i + 1) && ftF e f a j := by
  funext j
  by_cases h : j = i
  · subst h; simp [mfF, ftF]
  · have : (j < i) ↔ (j < i + 1) := by omega
    simp [mfF, h, this]
theorem cb_alt {e : Nat → Nat} {c s : Nat} {b : Bool} (h : atN e c s < 3) : cbB e c s b = (decide (atN e c s = 0) || (decide (atN e c s = 2) == b)) := by
  unfold cbB
  have : atN e c s = 0 ∨ atN e c s = 1 ∨ atN e c s = 2 := by omega
  rcases this with h | h | h <;> cases b <;> simp [h]
theorem oe_step (e : Nat → Nat) (c s : Nat) : (oeN e c s || decide (atN e c s = 0)) = oeN e c (s + 1) := rfl
/-- what is felt at a cell -/
def feN (w : Nat → Nat → Bool) (c s : Nat) : Nat → Nat
  | 0 => 0
  | k + 1 => feN w c s k + bN (w c ((s + 3 + k) % 4)) * 2 ^ k
theorem feN_lt (w : Nat → Nat → Bool) (c s : Nat) : ∀ k, feN w c s k < 2 ^ k
  | 0 => Nat.one_pos
  | k + 1 => by
    have := feN_lt w c s k
    have h2 : bN (w c ((s + 3 + k) % 4)) ≤ 1 := bN_le _
    have h3 : bN (w c ((s + 3 + k) % 4)) * 2 ^ k ≤ 1 * 2 ^ k := Nat.mul_le_mul_right _ h2
    simp only [feN, Nat.pow_succ]; omega
theorem fe_or {x k : Nat} (hk : k < 3) (hx : x < 2 ^ k) (b : Bool) : nI x ||| (if b = true then nI 1 <<< (nI k &&& 31) else nI 0) = nI (x + bN b * 2 ^ k) := by
  have : k = 0 ∨ k = 1 ∨ k = 2 := by omega
  rcases this with h | h | h <;> subst h
  · have : x = 0 := by omega
    subst this; cases b <;> decide
  · have : x = 0 ∨ x = 1 := by omega
    rcases this with h | h <;> subst h <;> cases b <;> decide
  · have : x = 0 ∨ x = 1 ∨ x = 2 ∨ x = 3 := by omega
    rcases this with h | h | h | h <;> subst h <;> cases b <;> decide
theorem bI_or (a b : Bool) : bI a ||| bI b = bI (a || b) := by cases a <;> cases b <;> decide
theorem bI_and (a b : Bool) : bI a &&& bI b = bI (a && b) := by cases a <;> cases b <;> decide
theorem bI_dec (a b : Bool) : decide (bI a = bI b) = (a == b) := by cases a <;> cases b <;> decide
theorem cb_0 {e : Nat → Nat} {c s : Nat} {b : Bool} (h : atN e c s = 0) : nI 1 = bI (cbB e c s b) := by
  rw [cb_alt (by omega), h]; rfl
theorem cb_n {e : Nat → Nat} {c s : Nat} {b : Bool} (hl : atN e c s < 3) (h : ¬ atN e c s = 0) : bI (decide (bI (decide (atN e c s = 2)) = bI b)) = bI (cbB e c s b) := by
  rw [cb_alt hl, bI_dec, decide_eq_false h, Bool.false_or]
theorem ifb_t {α : Type} {b : Bool} {x y : α} (h : b = true) : x = if b = true then x else y := (if_pos h).symm
theorem ifb_f {α : Type} {b : Bool} {x y : α} (h : b = false) : y = if b = true then x else y := by rw [h]; rfl
theorem cl_or {f : Nat → Bool} {s i : Nat} : clN f s i ||| (if f (4 * i + s) = true then (1 <<< ((nI i).toInt64 &&& 63)) else 0) = clN f s (i + 1) := by
  rw [clN, Nat.mul_comm 4]
  split
  · rfl
  · exact Int64.or_zero
theorem su_no {f : Nat → Bool} (h : suI f = -1) : ¬ cnt f 144 = 1 := by
  intro q
  rw [suI, if_pos q] at h
  have := first_le f
  have : first f < 144 := by omega
  revert h
  generalize first f = z at *
  clear q
  revert z; decide +kernel
theorem su_yes {f : Nat → Bool} (h : ¬ suI f = -1) : cnt f 144 = 1 := by
  apply Decidable.byContradiction
  intro q
  exact h (by rw [suI, if_neg q])
theorem su_nI {f : Nat → Bool} (h : cnt f 144 = 1) : suI f = nI (first f) := by rw [suI, if_pos h]
theorem at_in {e : Nat → Nat} {c s : Nat} (h : ¬ atN e c s = 2) : ¬ bsD c s = 36 := fun q => h (by rw [atN, if_pos q])
def rfB (e : Nat → Nat) (f : Nat → Bool) (ho : Nat) (ch : Int32) (b : Bool) (mi : Int32) : Bool := decide (ch = 0) || ((!b && !sfB e f ho ch) || decide (mi = nI 3000))
def sfI (e : Nat → Nat) (f : Nat → Bool) (ho : Nat) (ch : Int32) (x : Nat) : Int32 := if x = 0 then chI e f ho else if x = 1 then coI e f ho else if x = 2 then bI (sfB e f ho ch) else goI e f
theorem g_topL {K : gk_K} {X : gk_X} {nL cells slots : Nat} {M : List va_W} {l : List (Nat × Value)} {st : List Value} {x v : Int64} {pc : Nat} (e : x = v) (k : G K X nL cells slots M l pc (.long v :: st)) : G K X nL cells slots M l pc (.long x :: st) := by
  rw [e]; exact k
