/-! what feeling tells a walker -/
def flN (e : Nat → Nat) (p a : Nat) : Nat → Nat → Nat
  | 0 => e
  | k + 1 => tlN (flN e p a k) (p / 4) ((p + 3 + k) % 4) (decide (btN a k = 1))
def flE (e : Nat → Nat) (f : Nat → Bool) (a k : Nat) : Nat → Nat := if cnt f 144 = 1 then flN e (first f) a k else e
theorem fl_0 {e : Nat → Nat} {f : Nat → Bool} {a : Nat} : flE e f a 0 = e := by unfold flE; split <;> rfl
theorem fl_no {e : Nat → Nat} {f : Nat → Bool} {a : Nat} (h : ¬ cnt f 144 = 1) (k m : Nat) : flE e f a k = flE e f a m := by
  rw [flE, if_neg h, flE, if_neg h]
theorem fl_S {e : Nat → Nat} {f : Nat → Bool} {a k : Nat} (h : cnt f 144 = 1) : tlN (flE e f a k) (first f / 4) ((first f + 3 + k) % 4) (decide (btN a k = 1)) = flE e f a (k + 1) := by
  rw [flE, if_pos h, flE, if_pos h, flN]
theorem tl_lt3 {e : Nat → Nat} {c s : Nat} {b : Bool} (he : ∀ k, k < 60 → e k < 3) : ∀ k, k < 60 → tlN e c s b k < 3 := by
  intro k hk
  unfold tlN
  split
  · split <;> decide
  · exact he k hk
theorem fl_lt {e : Nat → Nat} {f : Nat → Bool} {a : Nat} (he : ∀ k, k < 60 → e k < 3) (n : Nat) : ∀ k, k < 60 → flE e f a n k < 3 := by
  have h1 : ∀ p m, ∀ k, k < 60 → flN e p a m k < 3 := by
    intro p m
    induction m with
    | zero => exact he
    | succ m ih => exact tl_lt3 ih
  unfold flE
  split
  · exact h1 _ n
  · exact he
def dFe (D : wk_D) (a : Nat) : wk_D := (D.1, (D.2.1.1 - nI 1, loI (ftF (flE D.2.2.2 D.2.2.1 a 3) D.2.2.1 a) D.2.1.2.1, D.2.1.2.2.1 + nI 1, D.2.1.2.2.2), blF (ftF (flE D.2.2.2 D.2.2.1 a 3) D.2.2.1 a), flE D.2.2.2 D.2.2.1 a 3)
