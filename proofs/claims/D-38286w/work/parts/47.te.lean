/-! what is asked of the house; doubts; what is sound -/
def odP (kd : Nat → Nat) (hr : Nat → Int32) (mi : Int32) (k : Nat) : Bool := decide (kd k = 2) && opB (hr k) mi
def odQ (kd : Nat → Nat) (hr : Nat → Int32) (mi : Int32) (c z : Nat) : Bool := decide (mpN kd c z = 2) && opB (hgI hr c z) mi
theorem od_law {kd : Nat → Nat} {hr : Nat → Int32} {mi : Int32} : cnt2 (odQ kd hr mi) 36 = cnt (odP kd hr mi) 60 := by
  rw [← cnt2_eg]
  refine cnt2_congr 36 (fun c z _ _ => ?_)
  cases h : inB c z with
  | true => simp [odQ, odP, mpN, hgI, h]
  | false => simp [odQ, mpN, h]
theorem an_1 {a b : Bool} (h : a = false) : nI 0 = bI (a && b) := by rw [h]; rfl
theorem an_2 {a b : Bool} (h : b = false) : nI 0 = bI (a && b) := by rw [h, Bool.and_false]; rfl
theorem an_3 {a b : Bool} (h : a = true) (h2 : b = true) : nI 1 = bI (a && b) := by rw [h, h2]; rfl
def hoL (a0 a1 a2 a3 a4 a5 a6 a7 a8 a9 a10 a11 : Int32) (x : Nat) : Int32 := ([a0, a1, a2, a3, a4, a5, a6, a7, a8, a9, a10, a11][x]?).getD 0
theorem ho_law (a0 a1 a2 a3 a4 a5 a6 a7 a8 a9 a10 a11 : Int32) : ∀ x, x < 12 → upd (upd (upd (upd (upd (upd (upd (upd (upd (upd (upd (upd (fun _ => 0) 0 a0) 1 a1) 2 a2) 3 a3) 4 a4) 5 a5) 6 a6) 7 a7) 8 a8) 9 a9) 10 a10) 11 a11 x = hoL a0 a1 a2 a3 a4 a5 a6 a7 a8 a9 a10 a11 x
  | 0, _ => rfl
  | 1, _ => rfl
  | 2, _ => rfl
  | 3, _ => rfl
  | 4, _ => rfl
  | 5, _ => rfl
  | 6, _ => rfl
  | 7, _ => rfl
  | 8, _ => rfl
  | 9, _ => rfl
  | 10, _ => rfl
  | 11, _ => rfl
  | n + 12, h => absurd h (by omega)
def hoI (kd : Nat → Nat) (hr : Nat → Int32) (mi : Int32) (cf bf : Nat → Bool) (n : Nat) (dr mt dp rf : Int32) (x : Nat) : Int32 :=
  hoL mi (hrI mi) (nI (cnt (fun k => decide (kd k = 1)) 60)) (nI (cnt (fun k => decide (kd k = 2)) 60)) (nI (cnt (odP kd hr mi) 60)) (nI (cnt cf 36)) (nI (cnt bf 36)) (nI n) dr mt dp rf x
def dbB (f : Nat → Bool) (c : Nat) : Bool := f (4 * c) || (f (4 * c + 1) || (f (4 * c + 2) || f (4 * c + 3)))
theorem db_1 {f : Nat → Bool} {c : Nat} (h : f (4 * c) = true) : nI 1 = bI (dbB f c) := by simp [dbB, h, bI, nI]
theorem db_2 {f : Nat → Bool} {c : Nat} (h : f (4 * c + 1) = true) : nI 1 = bI (dbB f c) := by simp [dbB, h, bI, nI]
theorem db_3 {f : Nat → Bool} {c : Nat} (h : f (4 * c + 2) = true) : nI 1 = bI (dbB f c) := by simp [dbB, h, bI, nI]
theorem db_4 {f : Nat → Bool} {c : Nat} (h : f (4 * c + 3) = true) : nI 1 = bI (dbB f c) := by simp [dbB, h, bI, nI]
theorem db_5 {f : Nat → Bool} {c : Nat} (h : f (4 * c) = false) (h1 : f (4 * c + 1) = false) (h2 : f (4 * c + 2) = false) (h3 : f (4 * c + 3) = false) : nI 0 = bI (dbB f c) := by simp [dbB, h, h1, h2, h3, bI, nI]
def dbD (f : Nat → Bool) : UInt64 := FP.ddiv (FP.i2d (nI (cnt (dbB f) 36))) 4630263366890291200
theorem db_all : ∀ k, k < 37 → FP.ddiv (FP.i2d (nI k)) 4630263366890291200 &&& 0x7fffffffffffffff ≤ 0x7ff0000000000000 := by decide +kernel
theorem db_num (f : Nat → Bool) : FP.ddiv (FP.i2d (nI (cnt (dbB f) 36))) 4630263366890291200 &&& 0x7fffffffffffffff ≤ 0x7ff0000000000000 := db_all _ (by have := cnt_le (dbB f) 36; omega)
theorem db_allM : ∀ k, k < 37 → FP.dmul 4634204016564240384 (FP.ddiv (FP.i2d (nI k)) 4630263366890291200) &&& 0x7fffffffffffffff ≤ 0x7ff0000000000000 := by decide +kernel
theorem db_numM (f : Nat → Bool) : FP.dmul 4634204016564240384 (dbD f) &&& 0x7fffffffffffffff ≤ 0x7ff0000000000000 := db_allM _ (by have := cnt_le (dbB f) 36; omega)
def alN (p : Nat → Bool) : Nat → Bool
  | 0 => true
  | n + 1 => alN p n && p n
theorem al_s {p : Nat → Bool} {n : Nat} (h : alN p n = true) (h2 : p n = true) : alN p (n + 1) = true := by rw [alN, h, h2]; rfl
theorem al_miss {p : Nat → Bool} {j : Nat} (h : p j = false) : ∀ {n : Nat}, j < n → alN p n = false
  | 0, hn => absurd hn (Nat.not_lt_zero _)
  | n + 1, hn => by
    rw [alN]
    by_cases hj : j = n
    · subst hj; rw [h, Bool.and_false]
    · rw [al_miss h (n := n) (by omega)]; rfl
def snB (m : Nat) (ch : Int32) (po : Nat) (ac bu sl : Int32) : Bool := inI (nI m) (nI 1) (nI 144) && (inI ch (nI 0) (nI 500) && (inI (nI po) (nI 0) (nI 143) && decide (bu + sl ≤ ac)))
theorem sn_1 {m : Nat} {ch : Int32} {po : Nat} {ac bu sl : Int32} (h : inI (nI m) (nI 1) (nI 144) = false) : nI 0 = bI (snB m ch po ac bu sl) := by rw [snB, h]; rfl
theorem sn_2 {m : Nat} {ch : Int32} {po : Nat} {ac bu sl : Int32} (h : inI ch (nI 0) (nI 500) = false) : nI 0 = bI (snB m ch po ac bu sl) := by rw [snB, h, Bool.false_and, Bool.and_false]; rfl
theorem sn_3 {m : Nat} {ch : Int32} {po : Nat} {ac bu sl : Int32} (h : inI (nI po) (nI 0) (nI 143) = false) : nI 0 = bI (snB m ch po ac bu sl) := by rw [snB, h, Bool.false_and, Bool.and_false, Bool.and_false]; rfl
theorem sn_4 {m : Nat} {ch : Int32} {po : Nat} {ac bu sl : Int32} (h : ac < bu + sl) : nI 0 = bI (snB m ch po ac bu sl) := by rw [snB, decide_eq_false (Int32.not_le.mpr h), Bool.and_false, Bool.and_false, Bool.and_false]; rfl
theorem sn_5 {m : Nat} {ch : Int32} {po : Nat} {ac bu sl : Int32} (h1 : inI (nI m) (nI 1) (nI 144) = true) (h2 : inI ch (nI 0) (nI 500) = true) (h3 : inI (nI po) (nI 0) (nI 143) = true) (h : ¬ ac < bu + sl) : nI 1 = bI (snB m ch po ac bu sl) := by rw [snB, h1, h2, h3, decide_eq_true (Int32.not_lt.mp h)]; rfl
def owD (kd : Nat → Nat) (hr : Nat → Int32) (mi : Int32) (D : wk_D) (x : Nat) : Int32 := owI kd hr mi D.1.1 D.1.2 D.2.1.1 D.2.1.2.1 D.2.1.2.2.1 D.2.1.2.2.2.1 D.2.1.2.2.2.2 D.2.2.1 D.2.2.2 x
def soB (kd : Nat → Nat) (hr : Nat → Int32) (mi : Int32) (D : wk_D) : Bool :=
  snB (cnt D.2.2.1 144) D.2.1.1 D.1.1 D.2.1.2.2.1 D.2.1.2.2.2.1 D.2.1.2.2.2.2 && decide (owD kd hr mi D 7 + owD kd hr mi D 8 = owD kd hr mi D 5 + owD kd hr mi D 6)
theorem so_1 {kd : Nat → Nat} {hr : Nat → Int32} {mi : Int32} {D : wk_D} (h : snB (cnt D.2.2.1 144) D.2.1.1 D.1.1 D.2.1.2.2.1 D.2.1.2.2.2.1 D.2.1.2.2.2.2 = false) : soB kd hr mi D = false := by rw [soB, h]; rfl
theorem so_2 {kd : Nat → Nat} {hr : Nat → Int32} {mi : Int32} {D : wk_D} (h : ¬ owD kd hr mi D 7 + owD kd hr mi D 8 = owD kd hr mi D 5 + owD kd hr mi D 6) : soB kd hr mi D = false := by rw [soB, decide_eq_false h, Bool.and_false]
theorem so_3 {kd : Nat → Nat} {hr : Nat → Int32} {mi : Int32} {D : wk_D} (h1 : snB (cnt D.2.2.1 144) D.2.1.1 D.1.1 D.2.1.2.2.1 D.2.1.2.2.2.1 D.2.1.2.2.2.2 = true) (h : owD kd hr mi D 7 + owD kd hr mi D 8 = owD kd hr mi D 5 + owD kd hr mi D 6) : soB kd hr mi D = true := by rw [soB, h1, decide_eq_true h]; rfl
theorem sn_6 {m : Nat} {ch : Int32} {po : Nat} {ac bu sl : Int32} (h1 : inI (nI m) (nI 1) (nI 144) = true) (h2 : inI ch (nI 0) (nI 500) = true) (h3 : inI (nI po) (nI 0) (nI 143) = true) : bI (decide (bu + sl ≤ ac)) = bI (snB m ch po ac bu sl) := by rw [snB, h1, h2, h3]; rfl
theorem db_6 {f : Nat → Bool} {c : Nat} (h : f (4 * c) = false) (h1 : f (4 * c + 1) = false) (h2 : f (4 * c + 2) = false) : bI (f (4 * c + 3)) = bI (dbB f c) := by rw [dbB, h, h1, h2]; rfl
