/-! acts of the class's walkers: plain laws -/
theorem fl_all {e : Nat → Nat} {f : Nat → Bool} {a : Nat} (h : ¬ cnt f 144 = 1) : e = flE e f a 3 := ((fl_no h 3 0).trans fl_0).symm
theorem hr_5 {wd : Nat → wk_D} {i j : Nat} (h : ¬ j = i) : bI (decide (apI (wd j).1.1 (wd i).1.1 ≤ nI 2)) = bI (hrB wd i j) := by rw [hrB, decide_eq_true h, Bool.true_and]
theorem ln_ln {e o : Nat → Nat} : lnE o (lnE e o 60) 60 = lnE o e 60 := by
  funext k
  unfold lnE
  by_cases hk : k < 60 <;> by_cases ho : o k = 0 <;> by_cases he : e k = 0 <;> simp [hk, ho, he]
theorem me_two {e o : Nat → Nat} : ∀ n, n ≤ 60 → cnt (fun j => decide (e j = 0) && decide (¬ o j = 0)) n + cnt (fun j => decide (o j = 0) && decide (¬ lnE e o 60 j = 0)) n = cnt (meP e o) n
  | 0, _ => rfl
  | n + 1, h => by
    have h1 := me_two (e := e) (o := o) n (by omega)
    have h2 : bN (decide (e n = 0) && decide (¬ o n = 0)) + bN (decide (o n = 0) && decide (¬ lnE e o 60 n = 0)) = bN (meP e o n) := by
      unfold meP lnE
      by_cases he : e n = 0 <;> by_cases ho : o n = 0
      · simp [he, ho, bN]
      · simp [he, ho, bN, Ne.symm ho]
      · simp [he, ho, bN]
      · simp [he, ho, bN]
    simp only [cnt]
    omega
