/-! the class's floor: plain laws -/
theorem wS_s {y : Nat} (h : y < 2) : wS y = y + 1 := by
  have : y = 0 ∨ y = 1 := by omega
  rcases this with h | h <;> subst h <;> rfl
theorem oe_1 {kd : Nat → Nat} {hr : Nat → Int32} {mi : Int32} {c s x : Nat} (h : x = 1) : bI (swB kd hr mi c s) = oeI kd hr mi c s x := by
  subst h
  unfold oeI swB
  by_cases hb : bsD c s = 36
  · rw [if_pos hb, decide_eq_true hb]; rfl
  · rw [if_neg hb, decide_eq_false hb]; rfl
theorem oe_a {kd : Nat → Nat} {hr : Nat → Int32} {mi : Int32} {c s x : Nat} (hb : bsD c s = 36) (h : x = 0) : nI 1 = oeI kd hr mi c s x := by subst h; rw [oeI, if_pos hb]; rfl
theorem oe_b {kd : Nat → Nat} {hr : Nat → Int32} {mi : Int32} {c s x : Nat} (hb : bsD c s = 36) (h : ¬ x = 1) (h0 : ¬ x = 0) : nI 0 = oeI kd hr mi c s x := by rw [oeI, if_pos hb, decide_eq_false (by omega)]; rfl
theorem oe_c {kd : Nat → Nat} {hr : Nat → Int32} {mi : Int32} {c s x : Nat} (hb : ¬ bsD c s = 36) (h : x = 0) : nI (kd (edD c s)) = oeI kd hr mi c s x := by rw [oeI, if_neg hb, if_pos h]
theorem oe_d {kd : Nat → Nat} {hr : Nat → Int32} {mi : Int32} {c s x : Nat} (hb : ¬ bsD c s = 36) (h : ¬ x = 1) (h0 : ¬ x = 0) : hr (edD c s) = oeI kd hr mi c s x := by rw [oeI, if_neg hb, if_neg h0, if_neg h]
def knB (kd : Nat → Nat) (hr : Nat → Int32) (mi : Int32) (e : Nat → Nat) (r : Bool) (k : Nat) : Bool := decide (¬ e k = 0) && (decide (e k = 2) == (shB (kd k) (hr k) mi == r))
theorem kn_1 {kd : Nat → Nat} {hr : Nat → Int32} {mi : Int32} {e : Nat → Nat} {r : Bool} {k : Nat} (h : e k = 0) : nI 0 = bI (knB kd hr mi e r k) := by rw [knB, decide_eq_false (fun q => q h)]; rfl
theorem kn_2 {kd : Nat → Nat} {hr : Nat → Int32} {mi : Int32} {e : Nat → Nat} {r : Bool} {k : Nat} (h : ¬ e k = 0) : bI (decide (bI (decide (e k = 2)) = bI (decide (bI (esB (kd k) (hr k) (hrI mi)) = bI r)))) = bI (knB kd hr mi e r k) := by
  rw [knB, decide_eq_true h, es_sh, bI_dec, bI_dec]; rfl
theorem od_1 {kd : Nat → Nat} {hr : Nat → Int32} {mi : Int32} {k : Nat} (h : ¬ kd k = 2) : nI 0 = bI (odP kd hr mi k) := by rw [odP, decide_eq_false h]; rfl
theorem od_2 {kd : Nat → Nat} {hr : Nat → Int32} {mi : Int32} {k : Nat} (h : kd k = 2) : bI (!esB (kd k) (hr k) (hrI mi)) = bI (odP kd hr mi k) := by
  rw [odP, es_sh, shB, h]; simp
theorem ct_1 {a b : Nat} (h : a = b) : nI 1 = bI (decide (a = b)) := by rw [decide_eq_true h]; rfl
theorem ct_2 {a b : Nat} (h : ¬ a = b) : nI 0 = bI (decide (a = b)) := by rw [decide_eq_false h]; rfl
section GLW
variable {K : gk_K} {X : gk_X} {own nm : String} {cc : ByteArray} {nL : Nat} {ret : Option FieldType} {d mc ms : Nat} {cells slots : Nat} {M : List va_W} {l : List (Nat × Value)} {st : List Value}
theorem g_stk2 {pc : Nat} {st' : List Value} (e : st = st') (k : G K X nL cells slots M l pc st') : G K X nL cells slots M l pc st := by subst e; exact k
end GLW
