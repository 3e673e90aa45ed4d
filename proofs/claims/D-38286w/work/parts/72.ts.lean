/-! what is sound, at the class -/
theorem kn_true2 {kd : Nat → Nat} {hr : Nat → Int32} {mi : Int32} {e : Nat → Nat} (he : ∀ k, k < 60 → e k < 3) : decide (cnt (knB kd hr mi e true) 60 + cnt (knB kd hr mi e false) 60 = cnt (fun j => decide (e j = 1)) 60 + cnt (fun j => decide (e j = 2)) 60) = true := by
  have h := kn_sum (kd := kd) (hr := hr) (mi := mi) 60 he
  rw [kn_true]
  exact decide_eq_true (by omega)
theorem so_sn {kd : Nat → Nat} {hr : Nat → Int32} {mi : Int32} {po ho : Nat} {ch lo ac bu sl : Int32} {f : Nat → Bool} {e : Nat → Nat} (he : ∀ k, k < 60 → e k < 3) : soB kd hr mi ((po, ho), (ch, lo, ac, bu, sl), f, e) = snB (cnt f 144) ch po ac bu sl := by
  rw [soB]
  have h : owD kd hr mi ((po, ho), (ch, lo, ac, bu, sl), f, e) 7 + owD kd hr mi ((po, ho), (ch, lo, ac, bu, sl), f, e) 8 = owD kd hr mi ((po, ho), (ch, lo, ac, bu, sl), f, e) 5 + owD kd hr mi ((po, ho), (ch, lo, ac, bu, sl), f, e) 6 := by
    show owI kd hr mi po ho ch lo ac bu sl f e 7 + owI kd hr mi po ho ch lo ac bu sl f e 8 = _
    rw [← ow_7, ← ow_8 he, nI_add, of_decide_eq_true (kn_true2 (kd := kd) (hr := hr) (mi := mi) he), ← nI_add]
    rfl
  rw [decide_eq_true h, Bool.and_true]
