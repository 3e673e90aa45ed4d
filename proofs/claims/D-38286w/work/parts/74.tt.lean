/-! the number of ones of a long below 2^36 -/
def vL (x : Int64) : Nat := x.toBitVec.toNat
def ushL (x : Int64) (k : Int32) : Int64 := (x.toUInt64 >>> (k.toInt64.toUInt64 &&& Int64.toUInt64 63)).toInt64
theorem vL_and (x y : Int64) : vL (x &&& y) = vL x &&& vL y := by unfold vL; rw [Int64.toBitVec_and, BitVec.toNat_and]
theorem vL_or (x y : Int64) : vL (x ||| y) = vL x ||| vL y := by unfold vL; rw [Int64.toBitVec_or, BitVec.toNat_or]
theorem vL_add (x y : Int64) : vL (x + y) = (vL x + vL y) % 2 ^ 64 := by unfold vL; rw [Int64.toBitVec_add, BitVec.toNat_add]
theorem vL_sub {x y : Int64} (h : vL y ≤ vL x) : vL (x - y) = vL x - vL y := by
  unfold vL at *; rw [Int64.toBitVec_sub]; exact BitVec.toNat_sub_of_le (by simpa [BitVec.le_def] using h)
theorem us_k : ∀ k, k < 64 → ((nI k).toInt64.toUInt64 &&& Int64.toUInt64 63).toNat % 64 = k := by decide +kernel
theorem vL_ush (x : Int64) {k : Nat} (hk : k < 64) : vL (ushL x (nI k)) = vL x / 2 ^ k := by
  show (x.toUInt64 >>> ((nI k).toInt64.toUInt64 &&& Int64.toUInt64 63)).toNat = _
  rw [UInt64.toNat_shiftRight, us_k k hk, Nat.shiftRight_eq_div_pow]
  rfl
def bc1 (x : Int64) : Int64 := x - (ushL x (nI 1) &&& 6148914691236517205)
def bc2 (x : Int64) : Int64 := (x &&& 3689348814741910323) + (ushL x (nI 2) &&& 3689348814741910323)
def bc3 (x : Int64) : Int64 := (x + ushL x (nI 4)) &&& 1085102592571150095
def bc4 (x : Int64) : Int64 := x + ushL x (nI 8)
def bc5 (x : Int64) : Int64 := x + ushL x (nI 16)
def bc6 (x : Int64) : Int64 := x + ushL x (nI 32)
def bcI (x : Int64) : Int32 := (bc6 (bc5 (bc4 (bc3 (bc2 (bc1 x)))))).toInt32 &&& nI 127
theorem and_sp {a m x y : Nat} (ha : a < 256) (hm : m < 256) : (a + 256 * x) &&& (m + 256 * y) = (a &&& m) + 256 * (x &&& y) := by
  apply Nat.eq_of_testBit_eq
  intro i
  have e : ∀ {p q : Nat}, p < 256 → p + 256 * q = 2 ^ 8 * q + p := fun _ => by omega
  have hand : a &&& m < 256 := Nat.lt_of_le_of_lt Nat.and_le_left ha
  rw [Nat.testBit_and, e ha, e hm, e hand, Nat.testBit_two_pow_mul_add _ ha, Nat.testBit_two_pow_mul_add _ hm, Nat.testBit_two_pow_mul_add _ hand]
  by_cases hi : i < 8
  · rw [if_pos hi, if_pos hi, if_pos hi, Nat.testBit_and]
  · rw [if_neg hi, if_neg hi, if_neg hi, Nat.testBit_and]
/-- a number by its bits -/
def bnN (g : Nat → Bool) : Nat → Nat
  | 0 => 0
  | n + 1 => bnN g n + bN (g n) * 2 ^ n
theorem bn_lt (g : Nat → Bool) : ∀ n, bnN g n < 2 ^ n
  | 0 => Nat.one_pos
  | n + 1 => by
    have h := bn_lt g n
    have h2 : bN (g n) ≤ 1 := bN_le _
    have h3 : bN (g n) * 2 ^ n ≤ 1 * 2 ^ n := Nat.mul_le_mul_right _ h2
    rw [bnN, Nat.pow_succ]
    omega
theorem bn_sp (g : Nat → Bool) (m : Nat) : ∀ n, bnN g (m + n) = bnN g m + 2 ^ m * bnN (fun i => g (m + i)) n
  | 0 => by simp [bnN]
  | n + 1 => by
    show bnN g (m + n) + bN (g (m + n)) * 2 ^ (m + n) = _ + 2 ^ m * (bnN (fun i => g (m + i)) n + bN (g (m + n)) * 2 ^ n)
    rw [bn_sp g m n, Nat.mul_add, Nat.pow_add, Nat.mul_left_comm (2 ^ m), Nat.add_assoc]
theorem bn_or (g h : Nat → Bool) : ∀ n, bnN g n ||| bnN h n = bnN (fun i => g i || h i) n
  | 0 => by simp [bnN]
  | n + 1 => by
    have e : ∀ (k : Nat → Bool), bnN k (n + 1) = 2 ^ n * bN (k n) + bnN k n := fun k => by rw [bnN, Nat.mul_comm, Nat.add_comm]
    have hg := bn_lt g n
    have hh := bn_lt h n
    have ho := bn_lt (fun i => g i || h i) n
    rw [e, e, e]
    apply Nat.eq_of_testBit_eq
    intro i
    rw [Nat.testBit_or, Nat.testBit_two_pow_mul_add _ hg, Nat.testBit_two_pow_mul_add _ hh, Nat.testBit_two_pow_mul_add _ ho, ← bn_or g h n]
    by_cases hi : i < n
    · rw [if_pos hi, if_pos hi, if_pos hi, Nat.testBit_or]
    · rw [if_neg hi, if_neg hi, if_neg hi, ← Nat.testBit_or]
      congr 1
      cases g n <;> cases h n <;> rfl
theorem bn_add (g : Nat → Bool) (n : Nat) : bnN g n ||| 2 ^ n = bnN g n + 2 ^ n := by
  have h := Nat.two_pow_add_eq_or_of_lt (bn_lt g n) 1
  rw [Nat.mul_one] at h
  rw [Nat.or_comm, ← h, Nat.add_comm]
theorem cl_pow : ∀ i, i < 36 → vL ((1 : Int64) <<< ((nI i).toInt64 &&& 63)) = 2 ^ i := by decide +kernel
theorem cl_v (f : Nat → Bool) (s : Nat) : ∀ n, n ≤ 36 → vL (clN f s n) = bnN (fun i => f (i * 4 + s)) n
  | 0, _ => rfl
  | n + 1, hn => by
    have ih := cl_v f s n (by omega)
    cases h : f (n * 4 + s) with
    | true => rw [cl_t h, vL_or, ih, cl_pow n (by omega), bn_add]; show _ = bnN _ n + bN (f (n * 4 + s)) * 2 ^ n; rw [h]; simp [bN]
    | false => rw [cl_f h, ih]; show _ = bnN _ n + bN (f (n * 4 + s)) * 2 ^ n; rw [h]; simp [bN]
theorem cnt_sp (g : Nat → Bool) (m : Nat) : ∀ n, cnt g (m + n) = cnt g m + cnt (fun i => g (m + i)) n
  | 0 => rfl
  | n + 1 => by
    show cnt g (m + n) + bN (g (m + n)) = cnt g m + (cnt (fun i => g (m + i)) n + bN (g (m + n)))
    rw [cnt_sp g m n, Nat.add_assoc]
theorem p1_d : ∀ b, b < 256 → ∀ y, y < 2 → (b / 2 + 128 * y) &&& 85 = b / 2 &&& 85 ∧ (b / 2 &&& 85) ≤ b := by decide +kernel
theorem p2_d : ∀ b, b < 256 → ∀ y, y < 4 → (b / 4 + 64 * y) &&& 51 = b / 4 &&& 51 := by decide +kernel
/-- a byte's way through the three steps -/
def p1 (b : Nat) : Nat := b - (b / 2 &&& 85)
def p2 (b : Nat) : Nat := (b &&& 51) + (b / 4 &&& 51)
def p3 (b : Nat) : Nat := b % 16 + b / 16
theorem p12_le : ∀ b, b < 256 → p1 b < 256 ∧ p2 (p1 b) % 16 ≤ 4 ∧ p2 (p1 b) / 16 ≤ 4 := by decide +kernel
theorem p_byte (g : Nat → Bool) : p3 (p2 (p1 (bnN g 8))) = cnt g 8 := by
  show p3 (p2 (p1 (0 + bN (g 0) * 2 ^ 0 + bN (g 1) * 2 ^ 1 + bN (g 2) * 2 ^ 2 + bN (g 3) * 2 ^ 3 + bN (g 4) * 2 ^ 4 + bN (g 5) * 2 ^ 5 + bN (g 6) * 2 ^ 6 + bN (g 7) * 2 ^ 7))) = 0 + bN (g 0) + bN (g 1) + bN (g 2) + bN (g 3) + bN (g 4) + bN (g 5) + bN (g 6) + bN (g 7)
  generalize g 0 = a0, g 1 = a1, g 2 = a2, g 3 = a3, g 4 = a4, g 5 = a5, g 6 = a6, g 7 = a7
  revert a0 a1 a2 a3 a4 a5 a6 a7
  decide +kernel
theorem and_2 {a x k y : Nat} (m : Nat) (ha : a < 256) (hm : m < 256) (hk : k = m + 256 * y) : (a + 256 * x) &&& k = (a &&& m) + 256 * (x &&& y) := by rw [hk]; exact and_sp ha hm
theorem h_1 {b y m : Nat} (hb : b < 256) (k : Nat) (hk : k = 85 + 256 * m) : (b + 256 * y) / 2 &&& k = (b / 2 &&& 85) + 256 * (y / 2 &&& m) := by
  have e : (b + 256 * y) / 2 = (b / 2 + 128 * (y % 2)) + 256 * (y / 2) := by omega
  rw [e, and_2 85 (by omega) (by omega) hk, (p1_d b hb (y % 2) (by omega)).1]
theorem h_2 {b y m : Nat} (hb : b < 256) (k : Nat) (hk : k = 51 + 256 * m) : (b + 256 * y) / 4 &&& k = (b / 4 &&& 51) + 256 * (y / 4 &&& m) := by
  have e : (b + 256 * y) / 4 = (b / 4 + 64 * (y % 4)) + 256 * (y / 4) := by omega
  rw [e, and_2 51 (by omega) (by omega) hk, p2_d b hb (y % 4) (by omega)]
theorem p_nib (g : Nat → Bool) : p3 (p2 (p1 (bnN g 4))) = cnt g 4 := by
  show p3 (p2 (p1 (0 + bN (g 0) * 2 ^ 0 + bN (g 1) * 2 ^ 1 + bN (g 2) * 2 ^ 2 + bN (g 3) * 2 ^ 3))) = 0 + bN (g 0) + bN (g 1) + bN (g 2) + bN (g 3)
  generalize g 0 = a0, g 1 = a1, g 2 = a2, g 3 = a3
  revert a0 a1 a2 a3
  decide +kernel
theorem bc_1 {x : Int64} {b0 b1 b2 b3 b4 : Nat} (h0 : b0 < 256) (h1 : b1 < 256) (h2 : b2 < 256) (h3 : b3 < 256) (h4 : b4 < 256) (hx : vL x = b0 + 256 * (b1 + 256 * (b2 + 256 * (b3 + 256 * (b4 + 256 * 0))))) : vL (bc1 x) = p1 b0 + 256 * (p1 b1 + 256 * (p1 b2 + 256 * (p1 b3 + 256 * (p1 b4 + 256 * 0)))) := by
  have d0 := (p1_d b0 h0 0 (by omega)).2
  have d1 := (p1_d b1 h1 0 (by omega)).2
  have d2 := (p1_d b2 h2 0 (by omega)).2
  have d3 := (p1_d b3 h3 0 (by omega)).2
  have d4 := (p1_d b4 h4 0 (by omega)).2
  have e : vL (ushL x (nI 1) &&& 6148914691236517205) = (b0 / 2 &&& 85) + 256 * ((b1 / 2 &&& 85) + 256 * ((b2 / 2 &&& 85) + 256 * ((b3 / 2 &&& 85) + 256 * ((b4 / 2 &&& 85) + 256 * 0)))) := by
    rw [vL_and, vL_ush x (by omega), hx]
    show (_ / 2) &&& 6148914691236517205 = _
    rw [h_1 h0 _ (show 6148914691236517205 = 85 + 256 * 24019198012642645 from rfl), h_1 h1 _ (show 24019198012642645 = 85 + 256 * 93824992236885 from rfl), h_1 h2 _ (show 93824992236885 = 85 + 256 * 366503875925 from rfl), h_1 h3 _ (show 366503875925 = 85 + 256 * 1431655765 from rfl), h_1 h4 _ (show 1431655765 = 85 + 256 * 5592405 from rfl), show 0 / 2 &&& 5592405 = 0 from rfl]
  unfold bc1
  rw [vL_sub (by rw [e, hx]; omega), e, hx]
  unfold p1
  omega
theorem a_51 (b : Nat) : b &&& 51 ≤ 51 := Nat.and_le_right
theorem bc_2 {x : Int64} {b0 b1 b2 b3 b4 : Nat} (h0 : b0 < 256) (h1 : b1 < 256) (h2 : b2 < 256) (h3 : b3 < 256) (h4 : b4 < 256) (hx : vL x = b0 + 256 * (b1 + 256 * (b2 + 256 * (b3 + 256 * (b4 + 256 * 0))))) : vL (bc2 x) = p2 b0 + 256 * (p2 b1 + 256 * (p2 b2 + 256 * (p2 b3 + 256 * (p2 b4 + 256 * 0)))) := by
  have e : vL (ushL x (nI 2) &&& 3689348814741910323) = (b0 / 4 &&& 51) + 256 * ((b1 / 4 &&& 51) + 256 * ((b2 / 4 &&& 51) + 256 * ((b3 / 4 &&& 51) + 256 * ((b4 / 4 &&& 51) + 256 * 0)))) := by
    rw [vL_and, vL_ush x (by omega), hx]
    show (_ / 4) &&& 3689348814741910323 = _
    rw [h_2 h0 _ (show 3689348814741910323 = 51 + 256 * 14411518807585587 from rfl), h_2 h1 _ (show 14411518807585587 = 51 + 256 * 56294995342131 from rfl), h_2 h2 _ (show 56294995342131 = 51 + 256 * 219902325555 from rfl), h_2 h3 _ (show 219902325555 = 51 + 256 * 858993459 from rfl), h_2 h4 _ (show 858993459 = 51 + 256 * 3355443 from rfl), show 0 / 4 &&& 3355443 = 0 from rfl]
  have e2 : vL (x &&& 3689348814741910323) = (b0 &&& 51) + 256 * ((b1 &&& 51) + 256 * ((b2 &&& 51) + 256 * ((b3 &&& 51) + 256 * ((b4 &&& 51) + 256 * 0)))) := by
    rw [vL_and, hx]
    show _ &&& 3689348814741910323 = _
    rw [and_2 51 h0 (by omega) (show 3689348814741910323 = 51 + 256 * 14411518807585587 from rfl), and_2 51 h1 (by omega) (show 14411518807585587 = 51 + 256 * 56294995342131 from rfl), and_2 51 h2 (by omega) (show 56294995342131 = 51 + 256 * 219902325555 from rfl), and_2 51 h3 (by omega) (show 219902325555 = 51 + 256 * 858993459 from rfl), and_2 51 h4 (by omega) (show 858993459 = 51 + 256 * 3355443 from rfl), show 0 &&& 3355443 = 0 from rfl]
  unfold bc2
  rw [vL_add, e, e2]
  unfold p2
  have u0 := a_51 b0
  have w0 := a_51 (b0 / 4)
  have u1 := a_51 b1
  have w1 := a_51 (b1 / 4)
  have u2 := a_51 b2
  have w2 := a_51 (b2 / 4)
  have u3 := a_51 b3
  have w3 := a_51 (b3 / 4)
  have u4 := a_51 b4
  have w4 := a_51 (b4 / 4)
  omega
theorem and15 (w : Nat) : w &&& 15 = w % 16 := Nat.and_two_pow_sub_one_eq_mod w 4
theorem m_15 {b c : Nat} (h : b % 16 ≤ 4 ∧ b / 16 ≤ 4) : (b + b / 16 + 16 * c) % 16 = p3 b := by unfold p3; omega
theorem m_15' {b : Nat} (h : b % 16 ≤ 4 ∧ b / 16 ≤ 4) : (b + b / 16) % 16 = p3 b := by unfold p3; omega
theorem bc_3 {x : Int64} {b0 b1 b2 b3 b4 : Nat} (h0 : b0 % 16 ≤ 4 ∧ b0 / 16 ≤ 4) (h1 : b1 % 16 ≤ 4 ∧ b1 / 16 ≤ 4) (h2 : b2 % 16 ≤ 4 ∧ b2 / 16 ≤ 4) (h3 : b3 % 16 ≤ 4 ∧ b3 / 16 ≤ 4) (h4 : b4 % 16 ≤ 4 ∧ b4 / 16 ≤ 4) (hx : vL x = b0 + 256 * (b1 + 256 * (b2 + 256 * (b3 + 256 * (b4 + 256 * 0))))) : vL (bc3 x) = p3 b0 + 256 * (p3 b1 + 256 * (p3 b2 + 256 * (p3 b3 + 256 * (p3 b4 + 256 * 0)))) := by
  have e : vL (x + ushL x (nI 4)) = (b0 + b0 / 16 + 16 * (b1 % 16)) + 256 * ((b1 + b1 / 16 + 16 * (b2 % 16)) + 256 * ((b2 + b2 / 16 + 16 * (b3 % 16)) + 256 * ((b3 + b3 / 16 + 16 * (b4 % 16)) + 256 * ((b4 + b4 / 16) + 256 * 0)))) := by
    rw [vL_add, vL_ush x (by omega), hx]
    show (_ + _ / 16) % 2 ^ 64 = _
    omega
  unfold bc3
  rw [vL_and, e]
  show _ &&& 1085102592571150095 = _
  rw [and_2 15 (by omega) (by omega) (show 1085102592571150095 = 15 + 256 * 4238682002231055 from rfl), and_2 15 (by omega) (by omega) (show 4238682002231055 = 15 + 256 * 16557351571215 from rfl), and_2 15 (by omega) (by omega) (show 16557351571215 = 15 + 256 * 64677154575 from rfl), and_2 15 (by omega) (by omega) (show 64677154575 = 15 + 256 * 252645135 from rfl), and_2 15 (by omega) (by omega) (show 252645135 = 15 + 256 * 986895 from rfl), show 0 &&& 986895 = 0 from rfl, and15, and15, and15, and15, and15, m_15 h0, m_15 h1, m_15 h2, m_15 h3, m_15' h4]
theorem bc_4 {x : Int64} {b0 b1 b2 b3 b4 : Nat} (h0 : b0 ≤ 8) (h1 : b1 ≤ 8) (h2 : b2 ≤ 8) (h3 : b3 ≤ 8) (h4 : b4 ≤ 8) (hx : vL x = b0 + 256 * (b1 + 256 * (b2 + 256 * (b3 + 256 * (b4 + 256 * 0))))) : vL (bc6 (bc5 (bc4 x))) % 128 = b0 + b1 + b2 + b3 + b4 := by
  have e1 : vL (bc4 x) = (vL x + vL x / 256) := by
    unfold bc4
    rw [vL_add, vL_ush x (by omega)]
    show (_ + _ / 256) % 2 ^ 64 = _
    omega
  have e2 : vL (bc5 (bc4 x)) = (vL (bc4 x) + vL (bc4 x) / 65536) := by
    unfold bc5
    rw [vL_add, vL_ush (bc4 x) (by omega)]
    show (_ + _ / 65536) % 2 ^ 64 = _
    omega
  have e3 : vL (bc6 (bc5 (bc4 x))) = (vL (bc5 (bc4 x)) + vL (bc5 (bc4 x)) / 4294967296) := by
    unfold bc6
    rw [vL_add, vL_ush (bc5 (bc4 x)) (by omega)]
    show (_ + _ / 4294967296) % 2 ^ 64 = _
    omega
  have f1 : vL x / 256 = b1 + 256 * (b2 + 256 * (b3 + 256 * b4)) := by omega
  have g1 : vL (bc4 x) = (b0 + b1) + 256 * ((b1 + b2) + 256 * ((b2 + b3) + 256 * ((b3 + b4) + 256 * b4))) := by omega
  have f2 : vL (bc4 x) / 65536 = (b2 + b3) + 256 * ((b3 + b4) + 256 * b4) := by omega
  have g2 : vL (bc5 (bc4 x)) = (b0 + b1 + b2 + b3) + 256 * ((b1 + b2 + b3 + b4) + 256 * ((b2 + b3 + b4) + 256 * ((b3 + b4) + 256 * b4))) := by omega
  have f3 : vL (bc5 (bc4 x)) / 4294967296 = b4 := by omega
  have g3 : vL (bc6 (bc5 (bc4 x))) = (b0 + b1 + b2 + b3) + 256 * ((b1 + b2 + b3 + b4) + 256 * ((b2 + b3 + b4) + 256 * ((b3 + b4) + 256 * b4))) + b4 := by rw [e3, f3, g2]
  rw [g3]
  omega
theorem bc_7 (x : Int64) : x.toInt32 &&& nI 127 = nI (vL x % 128) := by
  apply Int32.toBitVec_inj.1
  rw [Int32.toBitVec_and, Int64.toBitVec_toInt32]
  show _ &&& BitVec.ofNat 32 127 = BitVec.ofNat 32 _
  apply BitVec.eq_of_toNat_eq
  rw [BitVec.toNat_and, BitVec.signExtend_eq_setWidth_of_le _ (by decide), BitVec.toNat_setWidth, BitVec.toNat_ofNat, BitVec.toNat_ofNat]
  show vL x % 2 ^ 32 &&& (2 ^ 7 - 1) = _
  rw [Nat.and_two_pow_sub_one_eq_mod]
  omega
theorem bc_law {x : Int64} {g : Nat → Bool} (hx : vL x = bnN g 36) : bcI x = nI (cnt g 36) := by
  have e : bnN g 36 = bnN g 8 + 256 * (bnN (fun i => g (8 + i)) 8 + 256 * (bnN (fun i => g (8 + (8 + i))) 8 + 256 * (bnN (fun i => g (8 + (8 + (8 + i)))) 8 + 256 * (bnN (fun i => g (8 + (8 + (8 + (8 + i))))) 4 + 256 * 0)))) := by
    rw [bn_sp g 8 28, bn_sp _ 8 20, bn_sp _ 8 12, bn_sp _ 8 4]
    omega
  have ec : cnt g 36 = cnt g 8 + cnt (fun i => g (8 + i)) 8 + cnt (fun i => g (8 + (8 + i))) 8 + cnt (fun i => g (8 + (8 + (8 + i)))) 8 + cnt (fun i => g (8 + (8 + (8 + (8 + i))))) 4 := by
    rw [cnt_sp g 8 28, cnt_sp _ 8 20, cnt_sp _ 8 12, cnt_sp _ 8 4]
    simp only [Nat.add_assoc]
  rw [e] at hx
  have l0 := bn_lt g 8
  have l1 := bn_lt (fun i => g (8 + i)) 8
  have l2 := bn_lt (fun i => g (8 + (8 + i))) 8
  have l3 := bn_lt (fun i => g (8 + (8 + (8 + i)))) 8
  have l4 : bnN (fun i => g (8 + (8 + (8 + (8 + i))))) 4 < 256 := Nat.lt_trans (bn_lt _ 4) (by decide)
  have q0 := p12_le _ l0
  have q1 := p12_le _ l1
  have q2 := p12_le _ l2
  have q3 := p12_le _ l3
  have q4 := p12_le _ l4
  have s1 := bc_1 l0 l1 l2 l3 l4 hx
  have s2 := bc_2 q0.1 q1.1 q2.1 q3.1 q4.1 s1
  have s3 := bc_3 q0.2 q1.2 q2.2 q3.2 q4.2 s2
  rw [p_byte, p_byte, p_byte, p_byte, p_nib] at s3
  have s4 := bc_4 (cnt_le _ 8) (cnt_le _ 8) (cnt_le _ 8) (cnt_le _ 8) (Nat.le_trans (cnt_le _ 4) (by decide)) s3
  unfold bcI
  rw [bc_7, s4, ec]
/-- the four sides' cells together -/
def orL (f : Nat → Bool) : Nat → Int64
  | 0 => 0
  | n + 1 => orL f n ||| clN f n 36
theorem or_db (f : Nat → Bool) : bcI (orL f 4) = nI (cnt (dbB f) 36) := by
  have e : dbB f = fun i => ((f (i * 4 + 0) || f (i * 4 + 1)) || f (i * 4 + 2)) || f (i * 4 + 3) := by
    funext i
    rw [dbB, Nat.mul_comm 4 i, Bool.or_assoc, Bool.or_assoc]
    rfl
  rw [e]
  apply bc_law
  show vL ((((0 ||| clN f 0 36) ||| clN f 1 36) ||| clN f 2 36) ||| clN f 3 36) = _
  rw [vL_or, vL_or, vL_or, vL_or, cl_v f 0 36 (Nat.le_refl _), cl_v f 1 36 (Nat.le_refl _), cl_v f 2 36 (Nat.le_refl _), cl_v f 3 36 (Nat.le_refl _)]
  show 0 ||| _ ||| _ ||| _ ||| _ = _
  rw [Nat.zero_or, bn_or, bn_or, bn_or]
