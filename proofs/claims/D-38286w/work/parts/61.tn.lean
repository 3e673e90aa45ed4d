/-! an edge that is told, by the class -/
theorem ee_1 {c s : Nat} {t u : Int32} (h : bsD c s = 36) : nI 0 = bI (!edR c s t u) := by rw [edR, decide_eq_true h]; rfl
theorem ee_2 {c s : Nat} {t u : Int32} (h : inI t (nI 0) (nI 2) = false) : nI 0 = bI (!edR c s t u) := by rw [edR, h]; simp [bI, nI]
theorem ee_3 {c s : Nat} {t u : Int32} (h : ¬ bsD c s = 36) (h2 : inI t (nI 0) (nI 2) = true) : bI (inI u (nI 0) (nI 16777215)) = bI (!edR c s t u) := by rw [edR, decide_eq_false h, h2]; simp
theorem nn_t {b : Bool} (h : (!!b) = true) : b = true := by cases b <;> first | rfl | exact absurd h (by decide)
theorem nn_f {b : Bool} (h : (!!b) = false) : b = false := by cases b <;> first | rfl | exact absurd h (by decide)
theorem k40_t {v : Int32} (h : ¬ nI 40 ≤ v) : (1 : Nat) = bN (decide (v < nI 40)) := by rw [decide_eq_true (Int32.not_le.mp h)]; rfl
theorem k40_f {v : Int32} (h : nI 40 ≤ v) : (0 : Nat) = bN (decide (v < nI 40)) := by rw [decide_eq_false (Int32.not_lt.mpr h)]; rfl
