/-! what is told of a walker, by the class -/
theorem dn_t {a b : Nat} (h : decide (a = b) = false) : decide (¬ a = b) = true := decide_eq_true (of_decide_eq_false h)
theorem dn_f {a b : Nat} (h : decide (a = b) = true) : decide (¬ a = b) = false := decide_eq_false (fun q => q (of_decide_eq_true h))
