/-! more of the class's floor -/
theorem fe_F {w : Nat → Nat → Bool} {c s k : Nat} (h : w c ((s + 3 + k) % 4) = false) : feN w c s (k + 1) = feN w c s k := by rw [feN, h]; simp [bN]
theorem fe_T {w : Nat → Nat → Bool} {c s k : Nat} (hk : k < 3) (h : w c ((s + 3 + k) % 4) = true) : nI (feN w c s k) ||| (nI 1 <<< (nI k &&& 31)) = nI (feN w c s (k + 1)) := by
  have := fe_or hk (feN_lt w c s k) (w c ((s + 3 + k) % 4))
  rw [if_pos h] at this
  exact this
theorem ly_ke {S : ly_T} {c w : Nat} (h : inB c w = true) : (lyW S c (w + 1)).2.1 (egN c w) = bN (decide (nxI (lyW S c w).1 < nI 40)) := by rw [ly_k h]; simp
theorem ly_he {S : ly_T} {c w : Nat} (h : inB c w = true) : (lyW S c (w + 1)).2.2 (egN c w) = nI 0 := by rw [ly_h h]; simp
theorem ly_ko {S : ly_T} {c w j : Nat} (h : inB c w = true) (hj : ¬ j = egN c w) : (lyW S c (w + 1)).2.1 j = (lyW S c w).2.1 j := by rw [ly_k h]; simp [hj]
theorem ly_ho {S : ly_T} {c w j : Nat} (h : inB c w = true) (hj : ¬ j = egN c w) : (lyW S c (w + 1)).2.2 j = (lyW S c w).2.2 j := by rw [ly_h h]; simp [hj]
theorem inB_s {c y : Nat} (hy : y < 2) (hb : ¬ bsD c (y + 1) = 36) : inB c y = true := by rw [inB, wS_s hy]; exact decide_eq_true hb
theorem inB_n {c y : Nat} (hy : y < 2) (hb : bsD c (y + 1) = 36) : inB c y = false := by rw [inB, wS_s hy]; exact decide_eq_false (fun q => q hb)
theorem eg_s {c y : Nat} (hy : y < 2) : egN c y = edD c (y + 1) := by rw [egN, wS_s hy]
section GLD
variable {K : gk_K} {X : gk_X} {own nm : String} {cc : ByteArray} {nL : Nat} {ret : Option FieldType} {d mc ms : Nat} {cells slots : Nat} {M : List va_W} {l : List (Nat × Value)} {st : List Value}
theorem g_ldcwS (pc pc' : Nat) (F : Ok K X own nm cc nL ret d mc ms) {tx : String} {i c : Nat} (hm : (own, i, tx, c) ∈ gl_tx) (hd : decode cc pc = .ok (.ldc_w i, 3)) (h' : pc + 3 = pc') (k : G K X nL cells slots M l pc' (.ref (X.2.2 c) :: st)) : G K X nL cells slots M l pc st := by
  subst h'
  intro H locs ls hP hD hS h T hT Xs
  obtain ⟨t, a1, b1⟩ := k H locs ls hP hD hS h T hT Xs
  have hZ := F.tx hm
  exact ⟨t, Xs.ldcStringW F.hx F.hown (text := tx) (a := X.2.2 c) hZ.1 hZ.2 (g := F0 (kM K) pc ls st) rfl (by rw [F.hb]; exact hd) t a1, b1⟩
end GLD
/-- a floor told of an edge -/
theorem kd_tell {k j v : Nat} {kd : Nat → Nat} (h : ¬ j = k) : kd j = (fun z => if z = k then v else kd z) j := by simp [h]
theorem le_b {a b : Int32} : (!decide (a ≤ b)) = decide (b < a) := by
  by_cases h : a ≤ b
  · rw [decide_eq_true h, decide_eq_false (Int32.not_lt.mpr h)]; rfl
  · rw [decide_eq_false h, decide_eq_true (Int32.not_le.mp h)]; rfl
theorem nt_t {b : Bool} (h : (!b) = true) : b = false := by cases b <;> first | rfl | exact absurd h (by decide)
theorem nt_f {b : Bool} (h : (!b) = false) : b = true := by cases b <;> first | rfl | exact absurd h (by decide)
