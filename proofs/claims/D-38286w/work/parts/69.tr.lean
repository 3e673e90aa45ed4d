/-! forward, meet, a new walker, by the class: plain laws -/
theorem bu_t {b : Bool} {bu : Int32} (h : b = true) : bu + bI b = bu + nI 1 := by rw [h]; rfl
theorem bu_f {b : Bool} {bu : Int32} (h : b = false) : bu + bI b = bu := by rw [h]; exact Int32.add_zero bu
theorem slF_n {b c : Bool} {dn sl : Int32} (h : b = false) (h2 : slB c dn = false) : slF b c dn sl = sl := by rw [slF_f h, h2]; exact Int32.add_zero sl
theorem slF_s {b c : Bool} {dn sl : Int32} (h : b = false) (h2 : slB c dn = true) : slF b c dn sl = sl + nI 1 := by rw [slF_f h, h2]; rfl
theorem sl_y {c : Bool} {dn : Int32} (h : c = true) (h2 : slI dn = 0) : slB c dn = true := by rw [slB_t h]; exact decide_eq_true h2
theorem sl_n {c : Bool} {dn : Int32} (h : c = true) (h2 : ¬ slI dn = 0) : slB c dn = false := by rw [slB_t h]; exact decide_eq_false h2
theorem mx_1 {f g : Nat → Bool} {p q : Nat} (h : decide (cnt f 144 = 1) = false) : nI 0 = bI (!mtR f g p q) := by
  rw [mtR, suI, if_neg (of_decide_eq_false h)]; rfl
theorem mx_2 {f g : Nat → Bool} {p q : Nat} (h : decide (cnt g 144 = 1) = false) : nI 0 = bI (!mtR f g p q) := by
  rw [mtR, show suI g = -1 by rw [suI, if_neg (of_decide_eq_false h)]]; simp [bI, nI]
theorem su_n1 {f : Nat → Bool} (h : cnt f 144 = 1) : ¬ suI f = -1 := by
  rw [suI, if_pos h]
  have h1 := first_le f
  intro q
  have h2 : (nI (first f)).toInt = (-1 : Int32).toInt := by rw [q]
  rw [nI_int (by omega)] at h2
  have h3 : ((-1 : Int32)).toInt = -1 := by decide
  omega
theorem mx_3 {f g : Nat → Bool} {p q : Nat} (h : decide (cnt f 144 = 1) = true) (h2 : decide (cnt g 144 = 1) = true) : bI (decide (p / 4 = q / 4)) = bI (!mtR f g p q) := by
  rw [mtR, decide_eq_false (su_n1 (of_decide_eq_true h)), decide_eq_false (su_n1 (of_decide_eq_true h2))]
  simp
theorem wn_1 {y t : Int32} (h : inI y (nI 0) (nI 3) = false) : nI 0 = bI (!wnB y t) := by
  rw [wnB, show noS y = true by unfold noS; unfold inI at h; rw [h]; rfl]; rfl
theorem wn_2 {y t : Int32} (h : inI y (nI 0) (nI 3) = true) : bI (inI t (nI 1) (nI 500)) = bI (!wnB y t) := by
  rw [wnB, show noS y = false by unfold noS; unfold inI at h; rw [h]; rfl]; simp
