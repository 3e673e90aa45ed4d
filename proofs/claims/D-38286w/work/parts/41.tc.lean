/-! more rows of G: equal memories, distinct addresses, doubles; what a step, a meeting and a new walker leave -/
section GMS
variable {K : gk_K} {X : gk_X} {own nm : String} {cc : ByteArray} {nL : Nat} {ret : Option FieldType} {d mc ms : Nat} {cells slots : Nat} {M : List va_W} {l : List (Nat × Value)} {st : List Value}
theorem g_mem {pc : Nat} {M' : List va_W} (h : M = M') (k : G K X nL cells slots M' l pc st) : G K X nL cells slots M l pc st := by
  subst h; exact k
theorem g_nd {pc : Nat} (k : M.flatten.Pairwise (fun p q => p.1 ≠ q.1) → G K X nL cells slots M l pc st) : G K X nL cells slots M l pc st :=
  fun H locs ls hP hD hS h => k (vaD_iff.mp hD).1 H locs ls hP hD hS h
/-- a receiver somewhere in the memory -/
theorem rc_mem (F : Ok K X own nm cc nL ret d mc ms) {M : List va_W} (ci : Nat) {a : Nat} {fs : List Value} (hM : (a, ob ci fs) ∈ M.flatten) {C : String} {T : u_T} {N : Nat} (hc : gl_cl[ci]? = some (C, T, N)) : ∀ H, va_P X.1.1 gl_cl M.flatten H → rcV K C a H := by
  intro H hP
  obtain ⟨q, hq⟩ := List.getElem?_of_mem hM
  exact va_recv F.hK hP hc hq
theorem g_i2d (pc pc' : Nat) (F : Ok K X own nm cc nL ret d mc ms) {x : Int32} {v : UInt64} (hd : decode cc pc = .ok (.i2d, 1)) (h' : pc + 1 = pc') (hv : FP.i2d x = v) (k : G K X nL cells slots M l pc' (.double v :: st)) : G K X nL cells slots M l pc (.int x :: st) := by
  subst h' hv; exact fun H locs ls hP hD hS h => lv_i2d F.hx F.hb hd (k H locs ls hP hD hS h)
theorem g_d2l (pc pc' : Nat) (F : Ok K X own nm cc nL ret d mc ms) {x : UInt64} {v : Int64} (hd : decode cc pc = .ok (.d2l, 1)) (h' : pc + 1 = pc') (hv : FP.d2l x = v) (k : G K X nL cells slots M l pc' (.long v :: st)) : G K X nL cells slots M l pc (.double x :: st) := by
  subst h' hv; exact fun H locs ls hP hD hS h => lv_d2l F.hx F.hb hd (k H locs ls hP hD hS h)
theorem g_ddiv (pc pc' : Nat) (F : Ok K X own nm cc nL ret d mc ms) {x y v : UInt64} (hd : decode cc pc = .ok (.ddiv, 1)) (h' : pc + 1 = pc') (hv : FP.ddiv x y = v) (hn : FP.ddiv x y &&& 0x7fffffffffffffff ≤ 0x7ff0000000000000) (k : G K X nL cells slots M l pc' (.double v :: st)) : G K X nL cells slots M l pc (.double y :: .double x :: st) := by
  subst h' hv; exact fun H locs ls hP hD hS h => lv_ddiv F.hx F.hb hd hn (k H locs ls hP hD hS h)
theorem g_dmul (pc pc' : Nat) (F : Ok K X own nm cc nL ret d mc ms) {x y v : UInt64} (hd : decode cc pc = .ok (.dmul, 1)) (h' : pc + 1 = pc') (hv : FP.dmul x y = v) (hn : FP.dmul x y &&& 0x7fffffffffffffff ≤ 0x7ff0000000000000) (k : G K X nL cells slots M l pc' (.double v :: st)) : G K X nL cells slots M l pc (.double y :: .double x :: st) := by
  subst h' hv; exact fun H locs ls hP hD hS h => lv_dmul F.hx F.hb hd hn (k H locs ls hP hD hS h)
theorem g_dconst (pc pc' : Nat) (F : Ok K X own nm cc nL ret d mc ms) (hd : decode cc pc = .ok (.dconst 0, 1)) (h' : pc + 1 = pc') (k : G K X nL cells slots M l pc' (.double 0 :: st)) : G K X nL cells slots M l pc st := by
  subst h'; exact fun H locs ls hP hD hS h => lv_dconst0 F.hx F.hb hd (k H locs ls hP hD hS h)
theorem g_ldc2D (pc pc' : Nat) (F : Ok K X own nm cc nL ret d mc ms) {index : Nat} (v : UInt64) (hw : Cond.constantDouble own index v ∈ lw_all) (hd : decode cc pc = .ok (.ldc2_w index, 3)) (h' : pc + 3 = pc') (k : G K X nL cells slots M l pc' (.double v :: st)) : G K X nL cells slots M l pc st := by
  subst h'; exact fun H locs ls hP hD hS h => lv_ldc2d F.hx F.hb F.hown (F.hts _ hw) hd (k H locs ls hP hD hS h)
end GMS
/-- two elements of a pool have other addresses -/
theorem pool_nd {n : Nat} {f : Nat → va_W} {i j : Nat} (h : (poolW n f).Pairwise (fun p q => p.1 ≠ q.1)) (hi : i < n) (hj : j < n) (hij : ¬ i = j) {p q : Nat × va_E} (hp : p ∈ f i) (hq : q ∈ f j) : p.1 ≠ q.1 := by
  have h1 : (f i ++ poolX n f i).Pairwise (fun p q => p.1 ≠ q.1) := (List.Perm.pairwise_iff (fun hxy e => hxy e.symm) (pool_perm f i n hi)).mp h
  refine (List.pairwise_append.mp h1).2.2 p hp q ?_
  unfold poolX
  exact List.mem_flatMap.mpr ⟨j, List.mem_filter.mpr ⟨List.mem_range.mpr hj, decide_eq_true (fun e => hij e.symm)⟩, hq⟩
theorem nd_block {M : List va_W} {W : va_W} (b : Nat) (h : M.flatten.Pairwise (fun p q => p.1 ≠ q.1)) (hb : M[b]? = some W) : W.Pairwise (fun p q => p.1 ≠ q.1) :=
  h.sublist (List.sublist_flatten_of_mem (List.mem_of_getElem? hb))
/-- a walker's own block among the pool's -/
theorem mem_wk {X : gk_X} {n i : Nat} {wa : Nat → wk_A} {wd : Nat → wk_D} (hi : i < n) : ((wa i).1, ob 8 [.int (nI (wd i).1.1), .int (nI (wd i).1.2), .int (wd i).2.1.1, .ref (wa i).2.1, .ref (wa i).2.2.1, .int (wd i).2.1.2.1, .int (wd i).2.1.2.2.1, .int (wd i).2.1.2.2.2.1, .int (wd i).2.1.2.2.2.2]) ∈ poolW n (fun j => mwC X (wa j) (wd j)) :=
  mem_pool hi (by simp [mwC])
theorem wk_inj {X : gk_X} {n i j : Nat} {wa : Nat → wk_A} {wd : Nat → wk_D} (h : (poolW n (fun j => mwC X (wa j) (wd j))).Pairwise (fun p q => p.1 ≠ q.1)) (hi : i < n) (hj : j < n) (he : (wa i).1 = (wa j).1) : i = j := by
  by_cases hij : i = j
  · exact hij
  · exact absurd he (pool_nd h hi hj hij (p := ((wa i).1, ob 8 [.int (nI (wd i).1.1), .int (nI (wd i).1.2), .int (wd i).2.1.1, .ref (wa i).2.1, .ref (wa i).2.2.1, .int (wd i).2.1.2.1, .int (wd i).2.1.2.2.1, .int (wd i).2.1.2.2.2.1, .int (wd i).2.1.2.2.2.2])) (q := ((wa j).1, ob 8 [.int (nI (wd j).1.1), .int (nI (wd j).1.2), .int (wd j).2.1.1, .ref (wa j).2.1, .ref (wa j).2.2.1, .int (wd j).2.1.2.1, .int (wd j).2.1.2.2.1, .int (wd j).2.1.2.2.2.1, .int (wd j).2.1.2.2.2.2])) (by simp [mwC]) (by simp [mwC]))
/-! a step -/
def toI (f : Nat → Bool) : Int32 := if cnt f 144 = 1 then bsI (first f / 4) (first f % 4) else -1
def brB (f bf : Nat → Bool) : Bool := decide (¬ toI f = -1) && bf (bsD (first f / 4) (first f % 4))
theorem to_no {f : Nat → Bool} (h : ¬ cnt f 144 = 1) : -1 = toI f := by rw [toI, if_neg h]
theorem to_yes {f : Nat → Bool} (h : cnt f 144 = 1) : bsI (first f / 4) (first f % 4) = toI f := by rw [toI, if_pos h]
theorem to_lt {f : Nat → Bool} (h : ¬ toI f = -1) : bsD (first f / 4) (first f % 4) < 36 ∧ toI f = nI (bsD (first f / 4) (first f % 4)) := by
  have hf := first_le f
  unfold toI at h ⊢
  split at h
  · rename_i h1
    have h2 := bsI_no (by omega) (by omega) h
    have h3 := bsD_lt (c := first f / 4) (s := first f % 4) (by omega) (by omega)
    rw [if_pos h1]
    exact ⟨by omega, bsI_nI h2⟩
  · exact absurd rfl h
theorem br_1 {f bf : Nat → Bool} {r : Bool} (h : r = false) (h2 : toI f = -1) : nI 0 = bI (r || brB f bf) := by subst h; simp [brB, h2, bI, nI]
theorem br_2 {f bf : Nat → Bool} {r : Bool} (h : r = false) (h3 : bf (bsD (first f / 4) (first f % 4)) = false) : nI 0 = bI (r || brB f bf) := by subst h; simp [brB, h3, bI, nI]
theorem br_3 {f bf : Nat → Bool} {r : Bool} (h2 : ¬ toI f = -1) (h3 : bf (bsD (first f / 4) (first f % 4)) = true) : nI 1 = bI (r || brB f bf) := by simp [brB, h2, h3, bI, nI]
def slI (x : Int32) : Int32 := x - x / nI 3 * nI 3
def slB (c : Bool) (dn : Int32) : Bool := c && decide (slI dn = 0)
def dnC (c : Bool) (dn : Int32) : Int32 := if c = true then nxI dn else dn
def drC (c : Bool) (dr : Int32) : Int32 := if c = true then dr + nI 1 else dr
def dnF (b c : Bool) (dn : Int32) : Int32 := if b = true then dn else dnC c dn
def drF (b c : Bool) (dr : Int32) : Int32 := if b = true then dr else drC c dr
def slF (b c : Bool) (dn sl : Int32) : Int32 := if b = true then sl else sl + bI (slB c dn)
def poF (b c : Bool) (dn : Int32) (po : Nat) : Nat := if b = true ∨ slB c dn = true then po else 4 * bsD (po / 4) (po % 4) + po % 4
def lnF (e : Nat → Nat) (f : Nat → Bool) (b : Bool) : Nat → Nat := if cnt f 144 = 1 then tlN e (first f / 4) (first f % 4) b else e
theorem ln_no {e : Nat → Nat} {f : Nat → Bool} {b : Bool} (h : ¬ cnt f 144 = 1) : lnF e f b = e := by rw [lnF, if_neg h]
theorem ln_yes {e : Nat → Nat} {f : Nat → Bool} {b : Bool} (h : cnt f 144 = 1) : lnF e f b = tlN e (first f / 4) (first f % 4) b := by rw [lnF, if_pos h]
theorem ln_lt {e : Nat → Nat} {f : Nat → Bool} {b : Bool} (he : ∀ k, k < 60 → e k < 3) : ∀ k, k < 60 → lnF e f b k < 3 := by
  unfold lnF; split
  · exact tlN_lt he
  · exact he
theorem sw_in {kd : Nat → Nat} {hr : Nat → Int32} {mi : Int32} {c s : Nat} (h : swB kd hr mi c s = false) : ¬ bsD c s = 36 := by
  intro q; simp [swB, q] at h
def dFw (D : wk_D) (b c : Bool) (dn : Int32) : wk_D :=
  ((poF b c dn D.1.1, D.1.2), (D.2.1.1 - nI 1, loI (fwF (lnF D.2.2.2 D.2.2.1 b) D.2.2.1 b) D.2.1.2.1, D.2.1.2.2.1 + nI 1, D.2.1.2.2.2.1 + bI b, slF b c dn D.2.1.2.2.2.2), blF (fwF (lnF D.2.2.2 D.2.2.1 b) D.2.2.1 b), lnF D.2.2.2 D.2.2.1 b)
/-! listening -/
def apI (p q : Nat) : Int32 := (if 0 ≤ nI (p / 4 / 6) - nI (q / 4 / 6) then nI (p / 4 / 6) - nI (q / 4 / 6) else 0 - (nI (p / 4 / 6) - nI (q / 4 / 6))) + (if 0 ≤ nI (p / 4 % 6) - nI (q / 4 % 6) then nI (p / 4 % 6) - nI (q / 4 % 6) else 0 - (nI (p / 4 % 6) - nI (q / 4 % 6)))
def hrB (wd : Nat → wk_D) (i j : Nat) : Bool := decide (¬ j = i) && decide (apI (wd j).1.1 (wd i).1.1 ≤ nI 2)
theorem hr_1 {wd : Nat → wk_D} {i j : Nat} (h : j = i) : nI 0 = bI (hrB wd i j) := by simp [hrB, h, bI, nI]
theorem hr_2 {wd : Nat → wk_D} {i j : Nat} (h : nI 2 < apI (wd j).1.1 (wd i).1.1) : nI 0 = bI (hrB wd i j) := by
  rw [hrB, decide_eq_false (Int32.not_le.mpr h), Bool.and_false]; rfl
theorem hr_3 {wd : Nat → wk_D} {i j : Nat} (h : ¬ j = i) (h2 : ¬ nI 2 < apI (wd j).1.1 (wd i).1.1) : nI 1 = bI (hrB wd i j) := by
  rw [hrB, decide_eq_true h, decide_eq_true (Int32.not_lt.mp h2)]; rfl
def lrI : Nat → Int32
  | 0 => -1
  | j + 1 => nI j
def dAc (D : wk_D) : wk_D := (D.1, (D.2.1.1 - nI 1, D.2.1.2.1, D.2.1.2.2.1 + nI 1, D.2.1.2.2.2), D.2.2)
theorem dnF_t {b c : Bool} {dn : Int32} (h : b = true) : dnF b c dn = dn := by rw [dnF, if_pos h]
theorem drF_t {b c : Bool} {dn : Int32} (h : b = true) : drF b c dn = dn := by rw [drF, if_pos h]
theorem slF_t {b c : Bool} {dn sl : Int32} (h : b = true) : slF b c dn sl = sl := by rw [slF, if_pos h]
theorem poF_t {b c : Bool} {dn : Int32} {po : Nat} (h : b = true) : poF b c dn po = po := by rw [poF, if_pos (Or.inl h)]
theorem dnF_f {b c : Bool} {dn : Int32} (h : b = false) : dnF b c dn = dnC c dn := by rw [dnF, h]; rfl
theorem drF_f {b c : Bool} {dn : Int32} (h : b = false) : drF b c dn = drC c dn := by rw [drF, h]; rfl
theorem slF_f {b c : Bool} {dn sl : Int32} (h : b = false) : slF b c dn sl = sl + bI (slB c dn) := by rw [slF, h]; rfl
theorem poF_s {b c : Bool} {dn : Int32} {po : Nat} (h : slB c dn = true) : poF b c dn po = po := by rw [poF, if_pos (Or.inr h)]
theorem poF_n {b c : Bool} {dn : Int32} {po : Nat} (h : b = false) (h2 : slB c dn = false) : poF b c dn po = 4 * bsD (po / 4) (po % 4) + po % 4 := by rw [poF, if_neg (by rw [h, h2]; decide)]
theorem slB_f {c : Bool} {dn : Int32} (h : c = false) : slB c dn = false := by rw [slB, h]; rfl
theorem slB_t {c : Bool} {dn : Int32} (h : c = true) : slB c dn = decide (slI dn = 0) := by rw [slB, h]; rfl
theorem dnC_f {c : Bool} {dn : Int32} (h : c = false) : dnC c dn = dn := by rw [dnC, h]; rfl
theorem drC_f {c : Bool} {dn : Int32} (h : c = false) : drC c dn = dn := by rw [drC, h]; rfl
theorem dnC_t {c : Bool} {dn : Int32} (h : c = true) : dnC c dn = nxI dn := by rw [dnC, if_pos h]
theorem drC_t {c : Bool} {dn : Int32} (h : c = true) : drC c dn = dn + nI 1 := by rw [drC, if_pos h]
theorem br_4 {f bf : Nat → Bool} {r : Bool} (h : r = false) (h2 : ¬ toI f = -1) : bI (bf (bsD (first f / 4) (first f % 4))) = bI (r || brB f bf) := by subst h; simp [brB, h2]
