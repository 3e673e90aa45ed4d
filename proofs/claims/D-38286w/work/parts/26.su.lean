/-! what the public calls refuse -/
def noC (v : Int32) : Bool := !(decide (nI (0) ≤ v) && decide (v ≤ nI (35)))
def noS (v : Int32) : Bool := !(decide (nI (0) ≤ v) && decide (v ≤ nI (3)))
def inI (v a b : Int32) : Bool := decide (a ≤ v) && decide (v ≤ b)
theorem nI_rng {v : Int32} {m : Nat} (h0 : nI 0 ≤ v) (h1 : v ≤ nI m) (hm : m < 2 ^ 31) : ∃ i, i ≤ m ∧ v = nI i := by
  have h0' : (0 : Int) ≤ v.toInt := by have := Int32.le_iff_toInt_le.mp h0; exact this
  have h1' : v.toInt ≤ (m : Int) := by
    have := Int32.le_iff_toInt_le.mp h1
    rw [show (nI m).toInt = (m : Int) from Int32.toInt_ofNat_of_lt hm] at this
    exact this
  refine ⟨v.toInt.toNat, by omega, ?_⟩
  apply Int32.toInt_inj.mp
  rw [show (nI v.toInt.toNat).toInt = ((v.toInt.toNat : Nat) : Int) from Int32.toInt_ofNat_of_lt (by omega)]
  omega
theorem in_ok {v : Int32} {m : Nat} (h : inI v (nI 0) (nI m) = true) (hm : m < 2 ^ 31) : ∃ i, i ≤ m ∧ v = nI i := by
  unfold inI at h
  simp only [Bool.and_eq_true, decide_eq_true_eq] at h
  exact nI_rng h.1 h.2 hm
theorem noC_ok {v : Int32} (h : noC v = false) : ∃ c, c < 36 ∧ v = nI c := by
  obtain ⟨i, h1, h2⟩ := in_ok (v := v) (m := 35) (by unfold noC at h; unfold inI; simpa using h) (by decide)
  exact ⟨i, by omega, h2⟩
theorem noS_ok {v : Int32} (h : noS v = false) : ∃ c, c < 4 ∧ v = nI c := by
  obtain ⟨i, h1, h2⟩ := in_ok (v := v) (m := 3) (by unfold noS at h; unfold inI; simpa using h) (by decide)
  exact ⟨i, by omega, h2⟩
theorem or_t {a b : Bool} (h : a = true) : nI 1 = bI (a || b) := by rw [h]; rfl
theorem or_f {a b : Bool} (h : a = false) : bI b = bI (a || b) := by rw [h]; rfl
theorem stN_t {b : Bool} {k : Nat} (h : b = true) : stN b k = k := by rw [h]; rfl
theorem stN_f {b : Bool} {k : Nat} (h : b = false) : stN b k = 0 := by rw [h]; rfl
theorem or_ff {a b : Bool} (h : (a || b) = false) : a = false ∧ b = false := by cases a <;> cases b <;> first | exact ⟨rfl, rfl⟩ | exact absurd h (by decide)
/-- an edge that can't be laid so -/
def edR (c s : Nat) (k h : Int32) : Bool := decide (bsD c s = 36) || (!inI k (nI 0) (nI 2) || !inI h (nI 0) (nI 16777215))
theorem edR_1 {c s : Nat} {k h : Int32} (hc : c < 36) (hs : s < 4) (hb : bsI c s = -1) : nI 1 = bI (edR c s k h) := by
  rw [edR, decide_eq_true ((bsI_eq hc hs).mp hb)]; rfl
theorem edR_2 {c s : Nat} {k h : Int32} (hc : c < 36) (hs : s < 4) (hk : inI k (nI 0) (nI 2) = false) : nI 1 = bI (edR c s k h) := by
  rw [edR, hk, Bool.not_false, Bool.true_or, Bool.or_true]; rfl
theorem edR_3 {c s : Nat} {k h : Int32} (hc : c < 36) (hs : s < 4) (hb : ¬ bsI c s = -1) (hk : inI k (nI 0) (nI 2) = true) : bI (!inI h (nI 0) (nI 16777215)) = bI (edR c s k h) := by
  rw [edR, decide_eq_false (bsI_no hc hs hb), hk]; rfl
theorem edR_ok {c s : Nat} {k h : Int32} (hr : edR c s k h = false) : ¬ bsD c s = 36 ∧ (∃ i, i < 3 ∧ k = nI i) ∧ inI h (nI 0) (nI 16777215) = true := by
  unfold edR at hr
  simp only [Bool.or_eq_false_iff, decide_eq_false_iff_not, Bool.not_eq_false'] at hr
  obtain ⟨i, h1, h2⟩ := in_ok hr.2.1 (by decide)
  exact ⟨hr.1, ⟨i, by omega, h2⟩, hr.2.2⟩
