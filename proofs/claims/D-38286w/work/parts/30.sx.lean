/-! what is asked of a walker -/
theorem cnt_s (q : Nat → Bool) (n : Nat) : cnt q (n + 1) = cnt q n + bN (q n) := rfl
/-- an edge known, and rightly so -/
def riB (e : Nat) (sh : Bool) : Bool := !decide (e = 0) && (decide (e = 2) == sh)
theorem ri_0 {e : Nat} {sh : Bool} (h : e = 0) : nI 0 = bI (riB e sh) := by rw [riB, decide_eq_true h]; rfl
theorem ri_n {e : Nat} {sh : Bool} (h : ¬ e = 0) : bI (decide (bI (decide (e = 2)) = bI sh)) = bI (riB e sh) := by
  rw [riB, decide_eq_false h, bI_dec]; rfl
theorem ri_law {e kd : Nat → Nat} {hr : Nat → Int32} {mi : Int32} : cnt2 (fun c z => riB (mpN e c z) (shB (mpN kd c z) (hgI hr c z) mi)) 36 = cnt (fun k => riB (e k) (shB (kd k) (hr k) mi)) 60 := by
  rw [← cnt2_eg]
  refine cnt2_congr 36 (fun c z _ _ => ?_)
  cases h : inB c z with
  | true => simp [mpN, hgI, h]
  | false => simp [mpN, h, riB]
def owI (kd : Nat → Nat) (hr : Nat → Int32) (mi : Int32) (po ho : Nat) (ch lo ac bu sl : Int32) (f : Nat → Bool) (e : Nat → Nat) (x : Nat) : Int32 :=
  [nI po, nI ho, ch, nI (cnt f 144), bI (decide (cnt f 144 = 1)), nI (cnt (fun k => decide (e k = 1)) 60), nI (cnt (fun k => decide (e k = 2)) 60), nI (cnt (fun k => riB (e k) (shB (kd k) (hr k) mi)) 60), nI (cnt (fun k => decide (e k = 1)) 60 + cnt (fun k => decide (e k = 2)) 60) - nI (cnt (fun k => riB (e k) (shB (kd k) (hr k) mi)) 60), lo, ac, bu, sl].getD x 0
theorem ow_law (a0 a1 a2 a3 a4 a5 a6 a7 a8 a9 a10 a11 a12 : Int32) : ∀ x, x < 13 → upd (upd (upd (upd (upd (upd (upd (upd (upd (upd (upd (upd (upd (fun _ => 0) 0 a0) 1 a1) 2 a2) 3 a3) 4 a4) 5 a5) 6 a6) 7 a7) 8 a8) 9 a9) 10 a10) 11 a11) 12 a12 x = [a0, a1, a2, a3, a4, a5, a6, a7, a8, a9, a10, a11, a12].getD x 0
  | 0, _ => rfl
  | 1, _ => rfl
  | 2, _ => rfl
  | 3, _ => rfl
  | 4, _ => rfl
  | 5, _ => rfl
  | 6, _ => rfl
  | 7, _ => rfl
  | 8, _ => rfl
  | 9, _ => rfl
  | 10, _ => rfl
  | 11, _ => rfl
  | 12, _ => rfl
  | n + 13, h => absurd h (by omega)
/-! the walkers' pool of the reference: addresses A (the walker, what it may be, its map, its map's rows), data D (pose, home; charge, lost, acts, bumps, slips; may; map) -/
abbrev wk_A := Nat × Nat × Nat × (Nat → Nat)
abbrev wk_D := (Nat × Nat) × (Int32 × Int32 × Int32 × Int32 × Int32) × (Nat → Bool) × (Nat → Nat)
def mwC (X : gk_X) (A : wk_A) (D : wk_D) : va_W :=
  [[(A.1, ob 8 [.int (nI D.1.1), .int (nI D.1.2), .int D.2.1.1, .ref A.2.1, .ref A.2.2.1, .int D.2.1.2.1, .int D.2.1.2.2.1, .int D.2.1.2.2.2.1, .int D.2.1.2.2.2.2])], [(A.2.1, zA X 144 D.2.2.1)], [(A.2.2.1, oA X 5 36 (fun j => some (A.2.2.2 j)))], poolW 36 (fun j => [(A.2.2.2 j, iA X 2 (fun z => nI (mpN D.2.2.2 j z)))])].flatten
/-- the places of a list of n walkers -/
def wlF (n : Nat) (wa : Nat → Nat) : Nat → Option Nat := fun j => if j < n then some (wa j) else none
theorem wlF_at {n i : Nat} {wa : Nat → Nat} (h : i < n) : wlF n wa i = some (wa i) := if_pos h
theorem wlF_up {n q : Nat} {wa : Nat → Nat} : va_up (wlF n wa) n (some q) = wlF (n + 1) (fun j => if j = n then q else wa j) := by
  funext j
  unfold va_up wlF
  by_cases h : j = n
  · subst h; simp
  · have : (j < n) ↔ (j < n + 1) := by omega
    simp [h, this]
/-- no such walker -/
def noW (v : Int32) (n : Nat) : Bool := !(decide (nI (0) ≤ v) && decide (v ≤ nI (n) - nI (1)))
theorem noW_ok {v : Int32} {n : Nat} (hn : n ≤ 10) (h : noW v n = false) : ∃ i, i < n ∧ v = nI i := by
  unfold noW at h
  simp only [Bool.not_eq_false', Bool.and_eq_true, decide_eq_true_eq] at h
  by_cases hz : n = 0
  · subst hz
    exfalso
    have h1 := Int32.le_trans h.1 h.2
    revert h1; decide
  · have e : nI n - nI 1 = nI (n - 1) := by
      have : n = 1 ∨ n = 2 ∨ n = 3 ∨ n = 4 ∨ n = 5 ∨ n = 6 ∨ n = 7 ∨ n = 8 ∨ n = 9 ∨ n = 10 := by omega
      rcases this with h | h | h | h | h | h | h | h | h | h <;> subst h <;> rfl
    rw [e] at h
    obtain ⟨i, h1, h2⟩ := nI_rng h.1 h.2 (by omega)
    exact ⟨i, by omega, h2⟩
