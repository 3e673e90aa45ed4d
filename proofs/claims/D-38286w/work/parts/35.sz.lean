/-! calls on a walker: more of what they refuse, and what they leave -/
theorem or_ft {a b c : Bool} (h : a = false) (h2 : b = true) : nI 1 = bI (a || (b || c)) := by rw [h, h2]; rfl
theorem or_fff {a b c : Bool} (h : a = false) (h2 : b = false) : bI c = bI (a || (b || c)) := by rw [h, h2]; rfl
def dTp (D : wk_D) : wk_D := (D.1, D.2.1, (fun j => decide (j = D.1.1)), D.2.2.2)
def dTu (D : wk_D) (r : Bool) : wk_D := ((tnD D.1.1 r, D.1.2), (D.2.1.1 - nI 1, loI (tuF D.2.2.1 r) D.2.1.2.1, D.2.1.2.2.1 + nI 1, D.2.1.2.2.2), blF (tuF D.2.2.1 r), D.2.2.2)
def aMy (A : wk_A) (q : Nat) : wk_A := (A.1, q, A.2.2)
theorem tnD_inj {i m : Nat} {r : Bool} (h : tnD i r = tnD m r) : i = m := by
  unfold tnD at h
  cases r
  · simp only [Bool.false_eq_true, if_false] at h; omega
  · simp only [if_true] at h; omega
theorem tu_not {f : Nat → Bool} {r : Bool} {m : Nat} : ∀ i, i ≤ m → tuN f r i (tnD m r) = false
  | 0, _ => rfl
  | i + 1, h => by
    rw [tuN]
    split
    · rw [updB, if_neg (fun q => by have := tnD_inj q; omega)]
      exact tu_not i (by omega)
    · exact tu_not i (by omega)
theorem tu_m {f : Nat → Bool} {r : Bool} {i : Nat} : updB (tuN f r i) (tnD i r) (f i) = tuN f r (i + 1) := by
  cases h : f i with
  | true => exact tu_t h
  | false =>
    rw [← tu_f h]
    funext j
    by_cases hj : j = tnD i r
    · subst hj; rw [tu_not i (Nat.le_refl _)]; simp [updB]
    · simp [updB, hj]
