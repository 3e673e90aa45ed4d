/-! the digest as a plain function -/
def dgR (F : Int64 → Nat → Int64) (d : Int64) : Nat → Int64
  | 0 => d
  | n + 1 => F (dgR F d n) n
theorem dgX : ∃ g : (Int64 → Nat → Int64) → Int64 → Nat → Int64, (∀ F d, g F d 0 = d) ∧ ∀ F d n, g F d (n + 1) = F (g F d n) n := ⟨dgR, fun _ _ => rfl, fun _ _ _ => rfl⟩
/-- a fold that does not unfold by itself -/
noncomputable def dgF : (Int64 → Nat → Int64) → Int64 → Nat → Int64 := Classical.choose dgX
theorem dgF_0 {F : Int64 → Nat → Int64} {d : Int64} : dgF F d 0 = d := (Classical.choose_spec dgX).1 F d
theorem dgF_s {F : Int64 → Nat → Int64} {d : Int64} {n : Nat} : dgF F d (n + 1) = F (dgF F d n) n := (Classical.choose_spec dgX).2 F d n
def dgA (g : Nat → Int64) : Int64 → Nat → Int64 := fun d x => d * 31 + g x
noncomputable def gH (kd : Nat → Nat) (hr : Nat → Int32) (mi : Int32) (cf bf : Nat → Bool) (n : Nat) (dr mt dp rf : Int32) : Int64 → Nat → Int64 := dgA (fun x => (hoI kd hr mi cf bf n dr mt dp rf x).toInt64)
noncomputable def gE3 (kd : Nat → Nat) (hr : Nat → Int32) (mi : Int32) (a y : Nat) : Int64 → Nat → Int64 := dgA (fun x => (oeI kd hr mi a (y + 1) x).toInt64)
noncomputable def gE2 (kd : Nat → Nat) (hr : Nat → Int32) (mi : Int32) (a : Nat) : Int64 → Nat → Int64 := fun d y => dgF (gE3 kd hr mi a y) d 2
noncomputable def gE (kd : Nat → Nat) (hr : Nat → Int32) (mi : Int32) : Int64 → Nat → Int64 := fun d a => dgF (gE2 kd hr mi a) d 2
noncomputable def gW1 (kd : Nat → Nat) (hr : Nat → Int32) (mi : Int32) (D : wk_D) : Int64 → Nat → Int64 := dgA (fun x => (owD kd hr mi D x).toInt64)
noncomputable def gW2 (D : wk_D) : Int64 → Nat → Int64 := dgA (fun x => clN D.2.2.1 x 36)
noncomputable def gW3 (D : wk_D) : Int64 → Nat → Int64 := dgA (fun x => (sfI D.2.2.2 D.2.2.1 D.1.2 D.2.1.1 x).toInt64)
noncomputable def gW4 (D : wk_D) : Int64 → Nat → Int64 := dgA (fun x => (nI (wsN D.2.2.2 D.2.2.1 x)).toInt64)
noncomputable def gW6 (D : wk_D) (a : Nat) : Int64 → Nat → Int64 := dgA (fun y => (nI (atN D.2.2.2 a (y + 1))).toInt64)
noncomputable def gW5 (D : wk_D) : Int64 → Nat → Int64 := fun d a => dgF (gW6 D a) d 2
noncomputable def gWa (kd : Nat → Nat) (hr : Nat → Int32) (mi : Int32) (D : wk_D) (d : Int64) : Int64 := dgF (gW1 kd hr mi D) d 13
noncomputable def gWb (kd : Nat → Nat) (hr : Nat → Int32) (mi : Int32) (D : wk_D) (d : Int64) : Int64 := dgF (gW2 D) (gWa kd hr mi D d) 4
noncomputable def gWc (kd : Nat → Nat) (hr : Nat → Int32) (mi : Int32) (D : wk_D) (d : Int64) : Int64 := dgF (gW3 D) (gWb kd hr mi D d) 4
noncomputable def gWd (kd : Nat → Nat) (hr : Nat → Int32) (mi : Int32) (D : wk_D) (d : Int64) : Int64 := dgF (gW4 D) (gWc kd hr mi D d) 4
noncomputable def gWe (kd : Nat → Nat) (hr : Nat → Int32) (mi : Int32) (D : wk_D) (d : Int64) : Int64 := (gWd kd hr mi D d * 31 + (nI (brN D.2.2.2 D.2.2.1 3)).toInt64) * 31 + FP.d2l (FP.dmul 4634204016564240384 (dbD D.2.2.1))
noncomputable def gW (kd : Nat → Nat) (hr : Nat → Int32) (mi : Int32) (wd : Nat → wk_D) : Int64 → Nat → Int64 := fun d j => dgF (gW5 (wd j)) (gWe kd hr mi (wd j) d) 36
noncomputable def dgT0 (kd : Nat → Nat) (hr : Nat → Int32) (mi : Int32) (cf bf : Nat → Bool) (n : Nat) (dr mt dp rf : Int32) : Int64 := dgF (gE kd hr mi) (dgF (gH kd hr mi cf bf n dr mt dp rf) 58286 12) 36
noncomputable def dgT (kd : Nat → Nat) (hr : Nat → Int32) (mi : Int32) (cf bf : Nat → Bool) (n : Nat) (dr mt dp rf : Int32) (wd : Nat → wk_D) : Int64 :=
  dgF (gW kd hr mi wd) (dgT0 kd hr mi cf bf n dr mt dp rf) n * 31 + (bI (alN (fun z => soB kd hr mi (wd z)) n)).toInt64
