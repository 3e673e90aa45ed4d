/-! what the class refuses; the kinds as constants -/
def nxB (k m : Int32) : Bool := decide (k < 0) || !decide (k < m)
theorem nx_1 {k m : Int32} (h : k < 0) : nxB k m = true := by rw [nxB, decide_eq_true h]; rfl
theorem nx_2 {k m : Int32} (h : ¬ k < m) : nxB k m = true := by rw [nxB, decide_eq_false h]; simp
theorem nx_3 {k m : Int32} (h : ¬ k < 0) (h2 : k < m) : nxB k m = false := by rw [nxB, decide_eq_false h, decide_eq_true h2]; rfl
theorem nI_int {m : Nat} (h : m < 2 ^ 31) : (nI m).toInt = (m : Int) := Int32.toInt_ofNat_of_lt h
theorem nx_in {x : Int32} {m : Nat} (hm : m + 1 < 2 ^ 31) : nxB x (nI (m + 1)) = !(decide (nI 0 ≤ x) && decide (x ≤ nI m)) := by
  unfold nxB
  have h0 : (nI 0 ≤ x) ↔ ¬ x < 0 := Int32.not_lt.symm
  have h1 : (x ≤ nI m) ↔ x < nI (m + 1) := by
    rw [Int32.le_iff_toInt_le, Int32.lt_iff_toInt_lt, nI_int (by omega), nI_int hm]
    omega
  by_cases a : x < 0
  · rw [decide_eq_true a, decide_eq_false (fun q => h0.mp q a)]; rfl
  · rw [decide_eq_false a, decide_eq_true (h0.mpr a)]
    by_cases b : x < nI (m + 1)
    · rw [decide_eq_true b, decide_eq_true (h1.mpr b)]; rfl
    · rw [decide_eq_false b, decide_eq_false (fun q => b (h1.mp q))]; rfl
theorem nx_C {x : Int32} : nxB x (nI 36) = noC x := nx_in (m := 35) (by decide)
theorem nx_S {x : Int32} : nxB x (nI 4) = noS x := nx_in (m := 3) (by decide)
theorem nx_I {x : Int32} {m : Nat} (hm : m + 1 < 2 ^ 31) : nxB x (nI (m + 1)) = !inI x (nI 0) (nI m) := nx_in hm
theorem nx_W {x : Int32} {n : Nat} (hn : n ≤ 10) : nxB x (nI n) = noW x n := by
  cases n with
  | zero =>
    unfold nxB noW
    by_cases a : x < 0
    · rw [decide_eq_true a, decide_eq_false (p := nI 0 ≤ x) (Int32.not_le.mpr a)]; rfl
    · have h2 : ¬ x ≤ nI 0 - nI 1 := fun q => a (Int32.lt_of_le_of_lt q (by decide))
      rw [decide_eq_false a, decide_eq_false h2, Bool.and_false, decide_eq_false (p := x < nI 0) a]; rfl
  | succ m =>
    rw [nx_in (by omega), noW]
    have e : nI (m + 1) - nI 1 = nI m := (pk_sub (by omega)).trans rfl
    rw [e]
section GKD
variable {K : gk_K} {X : gk_X} {own nm : String} {cc : ByteArray} {nL : Nat} {ret : Option FieldType} {d mc ms : Nat}
theorem kd_ord (F : Ok K X own nm cc nL ret d mc ms) {k : Nat} (hk : k < 3) : va_OF "java/lang/Enum" "ordinal" "I" (.int (nI k)) (X.2.2 k) (kA K) (kS K) (kS K).heap := by
  have h : k = 0 ∨ k = 1 ∨ k = 2 := by omega
  rcases h with h | h | h <;> subst h
  · exact F.con.1.2.2.1.1
  · exact F.con.1.2.2.1.2.1
  · exact F.con.1.2.2.1.2.2
theorem kd_eq (F : Ok K X own nm cc nL ret d mc ms) {k t : Nat} (hk : k < 3) (ht : t < 3) : X.2.2 k = X.2.2 t ↔ k = t := by
  obtain ⟨h1, h2, h3⟩ := F.con.1.2.2.2.2.2
  constructor
  · intro e
    have a : k = 0 ∨ k = 1 ∨ k = 2 := by omega
    have b : t = 0 ∨ t = 1 ∨ t = 2 := by omega
    rcases a with a | a | a <;> rcases b with b | b | b <;> subst a <;> subst b <;> first | rfl | exact absurd e h1 | exact absurd e h2 | exact absurd e h3 | exact absurd e.symm h1 | exact absurd e.symm h2 | exact absurd e.symm h3
  · intro e; rw [e]
end GKD
section GXS
variable {K : gk_K} {X : gk_X} {nL : Nat} {cells slots : Nat} {M : List va_W} {l : List (Nat × Value)} {rest : List Value} {pc : Nat} {E : String}
theorem gx_sel (M' : List va_W) (is : List Nat) (hn : va_nd is = true) (hs : is.map (fun i => M[i]?) = M'.map some) (k : GX K X nL cells slots M' l pc rest E) : GX K X nL cells slots M l pc rest E :=
  fun q ce H locs ls hP hD hS hl => k q ce H locs ls (vaP_iff.mpr fun q hq => vaP_iff.mp hP q (memF_sel hs hq)) (vaD_iff.mpr ⟨apart_sel is hs hn (vaD_iff.mp hD).1, fun q hq => (vaD_iff.mp hD).2 q (memF_sel hs hq)⟩) hS hl
theorem gx_perm (M' : List va_W) (hp : M'.flatten.Perm M.flatten) (k : GX K X nL cells slots M' l pc rest E) : GX K X nL cells slots M l pc rest E :=
  fun q ce H locs ls hP hD hS hl => k q ce H locs ls (vaP_iff.mpr fun q hq => vaP_iff.mp hP q (hp.mem_iff.mp hq)) (vaD_iff.mpr ⟨apartW_perm hp (vaD_iff.mp hD).1, fun q hq => (vaD_iff.mp hD).2 q (hp.mem_iff.mp hq)⟩) hS hl
theorem gx_pclose {n : Nat} {f : Nat → va_W} (c : Nat) (hc : c < n) (Bs rs : List va_W) (hM : M = Bs ++ poolX n f c :: rs) (g : Nat → va_W) (hB : Bs.flatten = g c) (hg : ∀ j, j < n → ¬ j = c → f j = g j) (k : GX K X nL cells slots (poolW n g :: rs) l pc rest E) : GX K X nL cells slots M l pc rest E := by
  subst hM
  refine gx_perm _ ?_ k
  rw [List.flatten_append, List.flatten_cons, List.flatten_cons, hB, ← List.append_assoc, poolX_congr hg]
  exact (pool_perm g c n hc).append_right _
theorem gx_pcloseX {n c : Nat} {f : Nat → va_W} (d : Nat) (hd : d < n) (hdc : ¬ d = c) (Bs rs : List va_W) (hM : M = Bs ++ poolXX n f c d :: rs) (g : Nat → va_W) (hB : Bs.flatten = g d) (hg : ∀ j, j < n → ¬ j = c → ¬ j = d → f j = g j) (k : GX K X nL cells slots (poolX n g c :: rs) l pc rest E) : GX K X nL cells slots M l pc rest E := by
  subst hM
  refine gx_perm _ ?_ k
  rw [List.flatten_append, List.flatten_cons, List.flatten_cons, hB, ← List.append_assoc, poolXX_congr hg]
  exact (poolXX_perm g hd hdc).append_right _
end GXS
