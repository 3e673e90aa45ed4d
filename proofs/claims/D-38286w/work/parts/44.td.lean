/-! two walkers meet: the maps of both, by cells and ways; a pool without two; a walker more -/
def poolXX (n : Nat) (f : Nat → va_W) (c d : Nat) : va_W := (((List.range n).filter (fun j => decide (¬ j = c))).filter (fun j => decide (¬ j = d))).flatMap f
theorem flat_perm (f : Nat → va_W) (d : Nat) : ∀ l : List Nat, l.Nodup → d ∈ l → (l.flatMap f).Perm (f d ++ (l.filter (fun j => decide (¬ j = d))).flatMap f)
  | [], _, h => absurd h (by simp)
  | a :: t, hn, h => by
    obtain ⟨h1, h2⟩ := List.nodup_cons.mp hn
    by_cases ha : a = d
    · subst ha
      rw [List.filter_cons_of_neg (by simp), (List.filter_eq_self (p := fun j => decide (¬ j = a))).mpr (fun j hj => decide_eq_true (fun (e : j = a) => h1 (e ▸ hj))), List.flatMap_cons]
    · have h3 : d ∈ t := by
        rcases List.mem_cons.mp h with h | h
        · exact absurd h.symm ha
        · exact h
      rw [List.filter_cons_of_pos (by simp [ha]), List.flatMap_cons, List.flatMap_cons]
      refine ((flat_perm f d t h2 h3).append_left (f a)).trans ?_
      rw [← List.append_assoc, ← List.append_assoc]
      exact List.perm_append_comm.append_right _
theorem poolXX_perm {n : Nat} (f : Nat → va_W) {c d : Nat} (hd : d < n) (hdc : ¬ d = c) : (poolX n f c).Perm (f d ++ poolXX n f c d) :=
  flat_perm f d _ (List.nodup_range.sublist List.filter_sublist) (List.mem_filter.mpr ⟨List.mem_range.mpr hd, decide_eq_true hdc⟩)
theorem poolXX_congr {n : Nat} {f g : Nat → va_W} {c d : Nat} (h : ∀ j, j < n → ¬ j = c → ¬ j = d → f j = g j) : poolXX n f c d = poolXX n g c d := by
  unfold poolXX
  have : ∀ l : List Nat, (∀ j ∈ l, f j = g j) → l.flatMap f = l.flatMap g := by
    intro l
    induction l with
    | nil => intro _; rfl
    | cons a l ih =>
      intro hl
      rw [List.flatMap_cons, List.flatMap_cons, hl a List.mem_cons_self, ih (fun j hj => hl j (List.mem_cons_of_mem _ hj))]
  refine this _ (fun j hj => ?_)
  rw [List.mem_filter, List.mem_filter] at hj
  exact h j (List.mem_range.mp hj.1.1) (of_decide_eq_true hj.1.2) (of_decide_eq_true hj.2)
section GPX
variable {K : gk_K} {X : gk_X} {nL : Nat} {cells slots : Nat} {M : List va_W} {l : List (Nat × Value)} {st : List Value}
theorem g_popenX {pc n c : Nat} {f : Nat → va_W} (d : Nat) (hd : d < n) (hdc : ¬ d = c) (Bs rest : List va_W) (hB : Bs.flatten = f d) (k : G K X nL cells slots (Bs ++ poolXX n f c d :: rest) l pc st) : G K X nL cells slots (poolX n f c :: rest) l pc st := by
  refine g_perm _ ?_ k
  rw [List.flatten_append, List.flatten_cons, List.flatten_cons, hB, ← List.append_assoc]
  exact (poolXX_perm f hd hdc).symm.append_right _
theorem g_pcloseX {pc n c : Nat} {f : Nat → va_W} (d : Nat) (hd : d < n) (hdc : ¬ d = c) (Bs rest : List va_W) {M : List va_W} (hM : M = Bs ++ poolXX n f c d :: rest) (g : Nat → va_W) (hB : Bs.flatten = g d) (hg : ∀ j, j < n → ¬ j = c → ¬ j = d → f j = g j) (k : G K X nL cells slots (poolX n g c :: rest) l pc st) : G K X nL cells slots M l pc st := by
  subst hM
  refine g_perm _ ?_ k
  rw [List.flatten_append, List.flatten_cons, List.flatten_cons, hB, ← List.append_assoc, poolXX_congr hg]
  exact (poolXX_perm g hd hdc).append_right _
end GPX
def rkN (k : Nat) : Nat := if k < 30 then 2 * (k / 5 * 6 + k % 5) else 2 * (k - 30) + 1
def mtE (e o : Nat → Nat) (t : Nat) : Nat → Nat := fun k => if k < 60 ∧ rkN k < t ∧ e k = 0 then o k else e k
theorem rk_eg {c w : Nat} (hc : c < 36) (hw : w < 2) (h : inB c w = true) : rkN (egN c w) = 2 * c + w := by
  revert w; revert c; decide +kernel
theorem rk_inv {k : Nat} (hk : k < 60) : inB (rkN k / 2) (rkN k % 2) = true ∧ egN (rkN k / 2) (rkN k % 2) = k ∧ rkN k < 72 := by
  revert k; decide +kernel
theorem mt_at {e o : Nat → Nat} {c w : Nat} (hc : c < 36) (hw : w < 2) : mpN (mtE e o (2 * c + w)) c w = mpN e c w := by
  unfold mpN
  by_cases h : inB c w = true
  · rw [if_pos h, if_pos h, mtE, if_neg (by rw [rk_eg hc hw h]; omega)]
  · rw [if_neg h, if_neg h]
/-- a cell's other edge, a step further -/
theorem mt_ne {e o : Nat → Nat} {c w j z : Nat} (hj : j < 36) (hz : z < 2) (h : ¬ 2 * j + z = 2 * c + w) : mpN (mtE e o (2 * c + (w + 1))) j z = mpN (mtE e o (2 * c + w)) j z := by
  unfold mpN
  by_cases hi : inB j z = true
  · rw [if_pos hi, if_pos hi]
    unfold mtE
    rw [rk_eg hj hz hi]
    have : (2 * j + z < 2 * c + (w + 1)) ↔ (2 * j + z < 2 * c + w) := by omega
    simp only [this]
  · rw [if_neg hi, if_neg hi]
theorem mt_oth {e o : Nat → Nat} {c w j : Nat} (hw : w < 2) (hj : j < 36) (hn : ¬ j = c) : mpN (mtE e o (2 * c + (w + 1))) j = mpN (mtE e o (2 * c + w)) j := by
  funext z
  by_cases hz : z = 0
  · subst hz; exact mt_ne hj (by decide) (by omega)
  · rw [mpN_1 hz, mpN_1 hz]; exact mt_ne hj (by decide) (by omega)
theorem mt_new {e o : Nat → Nat} {c w : Nat} (hc : c < 36) (hw : w < 2) (h : mpN e c w = 0 ∨ mpN o c w = 0) : mpN (mtE e o (2 * c + (w + 1))) c w = mpN e c w + mpN o c w := by
  unfold mpN at h ⊢
  by_cases hi : inB c w = true
  · rw [if_pos hi, if_pos hi] at h
    rw [if_pos hi, if_pos hi, if_pos hi, mtE]
    have h1 := rk_eg hc hw hi
    have h2 := eg_lt hc hw hi
    by_cases he : e (egN c w) = 0
    · rw [if_pos ⟨h2, by omega, he⟩, he, Nat.zero_add]
    · rw [if_neg (fun q => he q.2.2)]
      rcases h with h | h
      · exact absurd h he
      · omega
  · rw [if_neg hi, if_neg hi, if_neg hi]
theorem mt_row {e o : Nat → Nat} {c w z : Nat} (hc : c < 36) (hw : w < 2) (hz : z < 2) (h : mpN e c w = 0 ∨ mpN o c w = 0) : upd (fun z => nI (mpN (mtE e o (2 * c + w)) c z)) w (nI (mpN e c w + mpN o c w)) z = nI (mpN (mtE e o (2 * c + (w + 1))) c z) := by
  by_cases hq : z = w
  · subst hq; rw [mt_new hc hw h]; simp [upd]
  · rw [mt_ne hc hz (by omega)]; simp [upd, hq]
theorem mt_row2 {e o : Nat → Nat} {c w z : Nat} (hc : c < 36) (hw : w < 2) (hz : z < 2) (h : mpN e c w = 0 ∨ mpN o c w = 0) : upd (fun z => nI (mpN (mtE o e (2 * c + w)) c z)) w (nI (mpN e c w + mpN o c w)) z = nI (mpN (mtE o e (2 * c + (w + 1))) c z) := by
  rw [Nat.add_comm (mpN e c w)]; exact mt_row hc hw hz h.symm
theorem mt_keep {e o : Nat → Nat} {c w : Nat} (hw : w < 2) (h : mpN e c w = mpN o c w ∨ ¬ mpN e c w = 0) : mtE e o (2 * c + (w + 1)) = mtE e o (2 * c + w) := by
  funext k
  unfold mtE
  by_cases hk : k < 60
  · by_cases hr : rkN k = 2 * c + w
    · obtain ⟨h1, h2, -⟩ := rk_inv hk
      have e1 : rkN k / 2 = c := by omega
      have e2 : rkN k % 2 = w := by omega
      rw [e1, e2] at h1 h2
      by_cases he : e k = 0
      · rw [if_pos ⟨hk, by omega, he⟩, if_neg (by omega), he]
        unfold mpN at h
        rw [if_pos h1, if_pos h1, h2] at h
        rcases h with h | h
        · omega
        · exact absurd he h
      · rw [if_neg (fun q => he q.2.2), if_neg (fun q => he q.2.2)]
    · have : (rkN k < 2 * c + (w + 1)) ↔ (rkN k < 2 * c + w) := by omega
      simp only [this]
  · rw [if_neg (fun q => hk q.1), if_neg (fun q => hk q.1)]
theorem mt_0 {e o : Nat → Nat} : mtE e o (2 * 0) = e := by funext k; simp [mtE]
theorem mt_end {e o : Nat → Nat} : mtE e o (2 * 36) = lnE e o 60 := by
  funext k
  unfold mtE lnE
  by_cases hk : k < 60
  · have := (rk_inv hk).2.2
    by_cases he : e k = 0
    · rw [if_pos ⟨hk, by omega, he⟩, if_pos ⟨hk, he⟩]
    · rw [if_neg (fun q => he q.2.2), if_neg (fun q => he q.2)]
  · rw [if_neg (fun q => hk q.1), if_neg (fun q => hk q.1)]
def meQ (e o : Nat → Nat) (c z : Nat) : Bool := decide (¬ mpN e c z = mpN o c z) && (decide (mpN e c z = 0) || decide (mpN o c z = 0))
def diQ (e o : Nat → Nat) (c z : Nat) : Bool := decide (¬ mpN e c z = 0) && (decide (¬ mpN o c z = 0) && decide (¬ mpN e c z = mpN o c z))
def meP (e o : Nat → Nat) (k : Nat) : Bool := decide (¬ e k = o k) && (decide (e k = 0) || decide (o k = 0))
def diP (e o : Nat → Nat) (k : Nat) : Bool := decide (¬ e k = 0) && (decide (¬ o k = 0) && decide (¬ e k = o k))
theorem me_e {e o : Nat → Nat} {c z : Nat} (h : mpN e c z = mpN o c z) : meQ e o c z = false ∧ diQ e o c z = false := by simp [meQ, diQ, h]
theorem me_b {e o : Nat → Nat} {c z : Nat} (h : ¬ mpN e c z = mpN o c z) (h1 : ¬ mpN e c z = 0) (h2 : ¬ mpN o c z = 0) : meQ e o c z = false ∧ diQ e o c z = true := by simp [meQ, diQ, h, h1, h2]
theorem me_z {e o : Nat → Nat} {c z : Nat} (h : ¬ mpN e c z = mpN o c z) (h1 : mpN e c z = 0 ∨ mpN o c z = 0) : meQ e o c z = true ∧ diQ e o c z = false := by
  unfold meQ diQ
  rcases h1 with h1 | h1
  · rw [decide_eq_true h, decide_eq_true h1, decide_eq_false (p := ¬ mpN e c z = 0) (fun q => q h1)]; exact ⟨rfl, rfl⟩
  · rw [decide_eq_true h, decide_eq_true h1, decide_eq_false (p := ¬ mpN o c z = 0) (fun q => q h1), Bool.or_true, Bool.false_and, Bool.and_false]; exact ⟨rfl, rfl⟩
theorem me_law {e o : Nat → Nat} : cnt2 (meQ e o) 36 = cnt (meP e o) 60 := by
  rw [← cnt2_eg]
  refine cnt2_congr 36 (fun c z _ _ => ?_)
  cases h : inB c z with
  | true => simp [meQ, meP, mpN, h]
  | false => simp [meQ, mpN, h]
theorem di_law {e o : Nat → Nat} : cnt2 (diQ e o) 36 = cnt (diP e o) 60 := by
  rw [← cnt2_eg]
  refine cnt2_congr 36 (fun c z _ _ => ?_)
  cases h : inB c z with
  | true => simp [diQ, diP, mpN, h]
  | false => simp [diQ, mpN, h]
def dpI (dp : Int32) (k : Nat) : Int32 := dp + nI k
theorem dpI_0 {dp : Int32} : dpI dp 0 = dp := by unfold dpI; exact Int32.add_zero dp
theorem dpI_1 {dp : Int32} {k : Nat} : dpI dp k + nI 1 = dpI dp (k + 1) := by unfold dpI; rw [Int32.add_assoc, nI_add]
def mtR (f g : Nat → Bool) (p q : Nat) : Bool := decide (suI f = -1) || (decide (suI g = -1) || decide (¬ p / 4 = q / 4))
theorem mtR_1 {f g : Nat → Bool} {p q : Nat} (h : suI f = -1) : nI 1 = bI (mtR f g p q) := by rw [mtR, decide_eq_true h]; rfl
theorem mtR_2 {f g : Nat → Bool} {p q : Nat} (h : suI g = -1) : nI 1 = bI (mtR f g p q) := by rw [mtR, decide_eq_true h, Bool.true_or, Bool.or_true]; rfl
theorem mtR_3 {f g : Nat → Bool} {p q : Nat} (h : ¬ suI f = -1) (h2 : ¬ suI g = -1) : bI (decide (¬ p / 4 = q / 4)) = bI (mtR f g p q) := by rw [mtR, decide_eq_false h, decide_eq_false h2]; rfl
def dMe (D E : wk_D) : wk_D := (D.1, D.2.1, D.2.2.1, lnE D.2.2.2 E.2.2.2 60)
/-! a walker more -/
def dNw (p c : Nat) (ch : Int32) (b : Bool) : wk_D := ((p, c), (ch, nI 0, nI 0, nI 0, nI 0), toldF p b, zP)
theorem wl_add {n : Nat} {wa : Nat → wk_A} {A : wk_A} : va_up (wlF n (fun j => (wa j).1)) n (some A.1) = wlF (n + 1) (fun j => (va_up wa n A j).1) := by
  rw [wlF_up]
  congr 1
  funext j
  by_cases h : j = n
  · subst h; rw [va_up_self]; simp
  · rw [va_up_ne _ _ h]; simp [h]
theorem wl_one {wa : Nat → wk_A} {A : wk_A} : va_up (fun _ => none) 0 (some A.1) = wlF 1 (fun j => (va_up wa 0 A j).1) := by
  funext j
  unfold wlF
  by_cases h : j = 0
  · subst h; rw [va_up_self]; show some A.1 = some (va_up wa 0 A 0).1; rw [va_up_self]
  · rw [va_up_ne _ _ h, if_neg (by omega)]
def wnB (y t : Int32) : Bool := noS y || !inI t (nI 1) (nI 500)
theorem told_up {p : Nat} {b : Bool} (h : b = true) : updB (fun _ => false) p true = toldF p b := by rw [told_t h]; exact updB_one p
