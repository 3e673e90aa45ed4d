/-! a walker taken out of the pool -/
def wkOk (D : wk_D) : Prop := (∀ k, k < 60 → D.2.2.2 k < 3) ∧ D.1.1 < 144 ∧ D.1.2 < 36
theorem wl_get {n i w : Nat} {r : Nat × Nat × (Nat → Nat)} {wa : Nat → wk_A} (hi : i < n) (eA : wa i = (w, r)) : wlF n (fun j => (wa j).1) i = some w := by
  rw [wlF_at hi]
  show some (wa i).1 = some w
  rw [eA]
theorem wl_same {i : Nat} {wa : Nat → wk_A} {A : wk_A} (h : (wa i).1 = A.1) : (fun j => (va_up wa i A j).1) = fun j => (wa j).1 := by
  funext j
  by_cases hj : j = i
  · subst hj; rw [va_up_self, h]
  · rw [va_up_ne _ _ hj]
def dCh (D : wk_D) (y : Int32) : wk_D := (D.1, (y, D.2.1.2), D.2.2)
def homeB (D : wk_D) : Bool := decide (¬ D.1.1 / 4 = D.1.2)
/-- the list's array: without walkers there is none of its own -/
def laW (X : gk_X) (n ar : Nat) (wa : Nat → Nat) : va_W := if n = 0 then [] else [(ar, oA X 4 10 (wlF n wa))]
theorem laW_pos {X : gk_X} {n ar i : Nat} {wa : Nat → Nat} (h : i < n) : laW X n ar wa = [(ar, oA X 4 10 (wlF n wa))] := if_neg (by omega)
theorem laW_0 {X : gk_X} {ar : Nat} {wa : Nat → Nat} : laW X 0 ar wa = [] := rfl
