/-! the walkers' pool of the class: addresses (the walker, its plan, the plan's array, its belief, the belief's array), the same data -/
abbrev ck_A := Nat × Nat × Nat × Nat × Nat
def cwC (X : gk_X) (A : ck_A) (j : Nat) (D : wk_D) : va_W :=
  [[(A.1, ob 6 [.int (nI j), .int (nI D.1.2), .ref A.2.1, .int (nI D.1.1), .int D.2.1.1, .ref A.2.2.2.1, .int D.2.1.2.1, .int D.2.1.2.2.1, .int D.2.1.2.2.2.1, .int D.2.1.2.2.2.2])], [(A.2.1, ob 4 [.ref A.2.2.1])], [(A.2.2.1, iA X 60 (fun k => nI (D.2.2.2 k)))], [(A.2.2.2.1, ob 5 [.ref A.2.2.2.2])], [(A.2.2.2.2, zA X 144 D.2.2.1)]].flatten
theorem wl_getG {β : Type} {n i w : Nat} {r : β} {wa : Nat → Nat × β} (hi : i < n) (eA : wa i = (w, r)) : wlF n (fun j => (wa j).1) i = some w := by
  rw [wlF_at hi]
  show some (wa i).1 = some w
  rw [eA]
theorem wl_sameG {β : Type} {i : Nat} {wa : Nat → Nat × β} {A : Nat × β} (h : (wa i).1 = A.1) : (fun j => (va_up wa i A j).1) = fun j => (wa j).1 := by
  funext j
  by_cases hj : j = i
  · subst hj; rw [va_up_self, h]
  · rw [va_up_ne _ _ hj]
theorem wl_addG {β : Type} {n : Nat} {wa : Nat → Nat × β} {A : Nat × β} : va_up (wlF n (fun j => (wa j).1)) n (some A.1) = wlF (n + 1) (fun j => (va_up wa n A j).1) := by
  rw [wlF_up]
  congr 1
  funext j
  by_cases h : j = n
  · subst h; rw [va_up_self]; simp
  · rw [va_up_ne _ _ h]; simp [h]
theorem wl_oneG {β : Type} {wa : Nat → Nat × β} {A : Nat × β} : va_up (fun _ => none) 0 (some A.1) = wlF 1 (fun j => (va_up wa 0 A j).1) := by
  funext j
  unfold wlF
  by_cases h : j = 0
  · subst h; rw [va_up_self]; show some A.1 = some (va_up wa 0 A 0).1; rw [va_up_self]
  · rw [va_up_ne _ _ h, if_neg (by omega)]
theorem mem_ck {X : gk_X} {n i : Nat} {wa : Nat → ck_A} {wd : Nat → wk_D} (hi : i < n) : ((wa i).1, ob 6 [.int (nI i), .int (nI (wd i).1.2), .ref (wa i).2.1, .int (nI (wd i).1.1), .int (wd i).2.1.1, .ref (wa i).2.2.2.1, .int (wd i).2.1.2.1, .int (wd i).2.1.2.2.1, .int (wd i).2.1.2.2.2.1, .int (wd i).2.1.2.2.2.2]) ∈ poolW n (fun j => cwC X (wa j) j (wd j)) :=
  mem_pool hi (by simp [cwC])
theorem ck_inj {X : gk_X} {n i j : Nat} {wa : Nat → ck_A} {wd : Nat → wk_D} (h : (poolW n (fun j => cwC X (wa j) j (wd j))).Pairwise (fun p q => p.1 ≠ q.1)) (hi : i < n) (hj : j < n) (he : (wa i).1 = (wa j).1) : i = j := by
  by_cases hij : i = j
  · exact hij
  · exact absurd he (pool_nd h hi hj hij (p := ((wa i).1, ob 6 [.int (nI i), .int (nI (wd i).1.2), .ref (wa i).2.1, .int (nI (wd i).1.1), .int (wd i).2.1.1, .ref (wa i).2.2.2.1, .int (wd i).2.1.2.1, .int (wd i).2.1.2.2.1, .int (wd i).2.1.2.2.2.1, .int (wd i).2.1.2.2.2.2])) (q := ((wa j).1, ob 6 [.int (nI j), .int (nI (wd j).1.2), .ref (wa j).2.1, .int (nI (wd j).1.1), .int (wd j).2.1.1, .ref (wa j).2.2.2.1, .int (wd j).2.1.2.1, .int (wd j).2.1.2.2.1, .int (wd j).2.1.2.2.2.1, .int (wd j).2.1.2.2.2.2])) (by simp [cwC]) (by simp [cwC]))
/-- may the walker act? -/
def caB (e : Nat → Nat) (f : Nat → Bool) (ho : Nat) (ch : Int32) (b : Bool) (mi : Int32) : Bool := decide (0 < ch) && ((b || sfB e f ho ch) && decide (mi < nI 3000))
theorem ca_1 {e : Nat → Nat} {f : Nat → Bool} {ho : Nat} {ch mi : Int32} {b : Bool} (h : ch ≤ 0) : nI 0 = bI (caB e f ho ch b mi) := by rw [caB, decide_eq_false (Int32.not_lt.mpr h)]; rfl
theorem ca_2 {e : Nat → Nat} {f : Nat → Bool} {ho : Nat} {ch mi : Int32} {b : Bool} (h : b = false) (h2 : sfB e f ho ch = false) : nI 0 = bI (caB e f ho ch b mi) := by rw [caB, h, h2]; simp [bI, nI]
theorem ca_3 {e : Nat → Nat} {f : Nat → Bool} {ho : Nat} {ch mi : Int32} {b : Bool} (h0 : ¬ ch ≤ 0) (h : b = true) : bI (decide (mi < nI 3000)) = bI (caB e f ho ch b mi) := by rw [caB, decide_eq_true (Int32.not_le.mp h0), h]; rfl
theorem ca_4 {e : Nat → Nat} {f : Nat → Bool} {ho : Nat} {ch mi : Int32} {b : Bool} (h0 : ¬ ch ≤ 0) (h2 : sfB e f ho ch = true) : bI (decide (mi < nI 3000)) = bI (caB e f ho ch b mi) := by rw [caB, decide_eq_true (Int32.not_le.mp h0), h2, Bool.or_true]; rfl
theorem br_no {f bf : Nat → Bool} (h : ¬ cnt f 144 = 1) : nI 0 = bI (brB f bf) := by rw [brB, toI, if_neg h]; rfl
theorem br_out {f bf : Nat → Bool} (h : cnt f 144 = 1) (h2 : bsI (first f / 4) (first f % 4) = -1) : nI 0 = bI (brB f bf) := by rw [brB, toI, if_pos h, h2]; rfl
theorem br_in {f bf : Nat → Bool} (h : cnt f 144 = 1) (h2 : ¬ bsI (first f / 4) (first f % 4) = -1) : bI (bf (bsD (first f / 4) (first f % 4))) = bI (brB f bf) := by rw [brB, toI, if_pos h, decide_eq_true h2]; rfl
theorem kn_true {kd : Nat → Nat} {hr : Nat → Int32} {mi : Int32} {e : Nat → Nat} : knB kd hr mi e true = fun k => riB (e k) (shB (kd k) (hr k) mi) := by
  funext k; unfold knB riB; simp
theorem kn_sum {kd : Nat → Nat} {hr : Nat → Int32} {mi : Int32} {e : Nat → Nat} : ∀ n, (∀ k, k < n → e k < 3) → cnt (knB kd hr mi e false) n + cnt (fun k => riB (e k) (shB (kd k) (hr k) mi)) n = cnt (fun k => decide (e k = 1)) n + cnt (fun k => decide (e k = 2)) n
  | 0, _ => rfl
  | n + 1, h => by
    have h1 := kn_sum (kd := kd) (hr := hr) (mi := mi) n (fun k hk => h k (by omega))
    have h2 : bN (knB kd hr mi e false n) + bN (riB (e n) (shB (kd n) (hr n) mi)) = bN (decide (e n = 1)) + bN (decide (e n = 2)) := by
      have h3 := h n (by omega)
      have : e n = 0 ∨ e n = 1 ∨ e n = 2 := by omega
      rcases this with q | q | q <;> simp only [knB, riB, q] <;> cases shB (kd n) (hr n) mi <;> decide
    simp only [cnt]
    omega
theorem ow_7 {kd : Nat → Nat} {hr : Nat → Int32} {mi : Int32} {po ho : Nat} {ch lo ac bu sl : Int32} {f : Nat → Bool} {e : Nat → Nat} : nI (cnt (knB kd hr mi e true) 60) = owI kd hr mi po ho ch lo ac bu sl f e 7 := by rw [kn_true]; rfl
theorem ow_8 {kd : Nat → Nat} {hr : Nat → Int32} {mi : Int32} {po ho : Nat} {ch lo ac bu sl : Int32} {f : Nat → Bool} {e : Nat → Nat} (he : ∀ k, k < 60 → e k < 3) : nI (cnt (knB kd hr mi e false) 60) = owI kd hr mi po ho ch lo ac bu sl f e 8 := by
  show _ = nI (cnt (fun k => decide (e k = 1)) 60 + cnt (fun k => decide (e k = 2)) 60) - nI (cnt (fun k => riB (e k) (shB (kd k) (hr k) mi)) 60)
  rw [← kn_sum (kd := kd) (hr := hr) (mi := mi) 60 he, pk_sub (by omega), Nat.add_sub_cancel]
