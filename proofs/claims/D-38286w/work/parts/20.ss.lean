/-! the reference's floor: cells and ways (0: to the right, 1: below) -/
def wS (w : Nat) : Nat := if w = 0 then 1 else 2
def inB (c w : Nat) : Bool := decide (¬ bsD c (wS w) = 36)
def egN (c w : Nat) : Nat := edD c (wS w)
def mpN (e : Nat → Nat) (c w : Nat) : Nat := if inB c w = true then e (egN c w) else 0
def hgI (h : Nat → Int32) (c w : Nat) : Int32 := if inB c w = true then h (egN c w) else 0
def kpD (c s : Nat) : Nat := if s = 0 ∨ s = 3 then bsD c s else c
def wyD (s : Nat) : Nat := if s % 2 = 1 then 0 else 1
theorem wyD_lt (s : Nat) : wyD s < 2 := by unfold wyD; split <;> decide
theorem kpD_lt {c s : Nat} (hc : c < 36) (hs : s < 4) (h : ¬ bsD c s = 36) : kpD c s < 36 := by
  revert s; revert c; decide +kernel
theorem bsI_no {c s : Nat} (hc : c < 36) (hs : s < 4) (h : ¬ bsI c s = -1) : ¬ bsD c s = 36 := fun q => h ((bsI_eq hc hs).mpr q)
theorem kp_in {c s : Nat} (hc : c < 36) (hs : s < 4) (h : ¬ bsD c s = 36) : inB (kpD c s) (wyD s) = true ∧ egN (kpD c s) (wyD s) = edD c s := by
  revert s; revert c; decide +kernel
theorem eg_lt {c w : Nat} (hc : c < 36) (hw : w < 2) (h : inB c w = true) : egN c w < 60 := by
  revert w; revert c; decide +kernel
def egChk (c s j z : Nat) : Bool := decide (bsD c s = 36) || !inB j z || !decide (egN j z = edD c s) || (decide (j = kpD c s) && decide (z = wyD s))
theorem egChk_ok : ((List.range 36).all fun c => (List.range 4).all fun s => (List.range 36).all fun j => (List.range 2).all fun z => egChk c s j z) = true := by decide +kernel
theorem eg_inj (c : Nat) (hc : c < 36) (s : Nat) (hs : s < 4) (h : ¬ bsD c s = 36) (j : Nat) (hj : j < 36) (z : Nat) (hz : z < 2) (hi : inB j z = true) (hq : egN j z = edD c s) : j = kpD c s ∧ z = wyD s := by
  have h1 := List.all_eq_true.mp (List.all_eq_true.mp (List.all_eq_true.mp (List.all_eq_true.mp egChk_ok c (List.mem_range.mpr hc)) s (List.mem_range.mpr hs)) j (List.mem_range.mpr hj)) z (List.mem_range.mpr hz)
  simp only [egChk, Bool.or_eq_true, Bool.and_eq_true, decide_eq_true_eq, Bool.not_eq_true', decide_eq_false_iff_not, hi] at h1
  rcases h1 with ((h1 | h1) | h1) | h1
  · exact absurd h1 h
  · cases h1
  · exact absurd hq h1
  · exact h1
theorem mp_kp {e : Nat → Nat} {c s : Nat} (hc : c < 36) (hs : s < 4) (h : ¬ bsD c s = 36) : mpN e (kpD c s) (wyD s) = e (edD c s) := by
  rw [mpN, if_pos (kp_in hc hs h).1, (kp_in hc hs h).2]
theorem hg_kp {e : Nat → Int32} {c s : Nat} (hc : c < 36) (hs : s < 4) (h : ¬ bsD c s = 36) : hgI e (kpD c s) (wyD s) = e (edD c s) := by
  rw [hgI, if_pos (kp_in hc hs h).1, (kp_in hc hs h).2]
theorem mpN_lt {e : Nat → Nat} (he : ∀ k, k < 60 → e k < 3) {c w : Nat} (hc : c < 36) (hw : w < 2) : mpN e c w < 3 := by
  unfold mpN
  by_cases h : inB c w = true
  · rw [if_pos h]; exact he _ (eg_lt hc hw h)
  · rw [if_neg h]; decide
theorem wS_1 {z : Nat} (h : ¬ z = 0) : wS z = wS 1 := by simp [wS, h]
theorem mpN_1 {e : Nat → Nat} {c z : Nat} (h : ¬ z = 0) : mpN e c z = mpN e c 1 := by unfold mpN inB egN; rw [wS_1 h]
theorem hgI_1 {e : Nat → Int32} {c z : Nat} (h : ¬ z = 0) : hgI e c z = hgI e c 1 := by unfold hgI inB egN; rw [wS_1 h]
/-- a change of one edge, seen by cells and ways -/
theorem mp_set {e : Nat → Nat} {c s v : Nat} (hc : c < 36) (hs : s < 4) (h : ¬ bsD c s = 36) {j z : Nat} (hj : j < 36) (hz : z < 2) : mpN (fun k => if k = edD c s then v else e k) j z = if j = kpD c s ∧ z = wyD s then v else mpN e j z := by
  unfold mpN
  by_cases hi : inB j z = true
  · rw [if_pos hi, if_pos hi]
    dsimp only
    by_cases hq : egN j z = edD c s
    · rw [if_pos hq, if_pos (eg_inj c hc s hs h j hj z hz hi hq)]
    · rw [if_neg hq]
      by_cases hk : j = kpD c s ∧ z = wyD s
      · exact absurd (by rw [hk.1, hk.2]; exact (kp_in hc hs h).2) hq
      · rw [if_neg hk]
  · rw [if_neg hi, if_neg hi, if_neg (fun hk => hi (by rw [hk.1, hk.2]; exact (kp_in hc hs h).1))]
theorem hg_set {e : Nat → Int32} {c s : Nat} {v : Int32} (hc : c < 36) (hs : s < 4) (h : ¬ bsD c s = 36) {j z : Nat} (hj : j < 36) (hz : z < 2) : hgI (fun k => if k = edD c s then v else e k) j z = if j = kpD c s ∧ z = wyD s then v else hgI e j z := by
  unfold hgI
  by_cases hi : inB j z = true
  · rw [if_pos hi, if_pos hi]
    dsimp only
    by_cases hq : egN j z = edD c s
    · rw [if_pos hq, if_pos (eg_inj c hc s hs h j hj z hz hi hq)]
    · rw [if_neg hq]
      by_cases hk : j = kpD c s ∧ z = wyD s
      · exact absurd (by rw [hk.1, hk.2]; exact (kp_in hc hs h).2) hq
      · rw [if_neg hk]
  · rw [if_neg hi, if_neg hi, if_neg (fun hk => hi (by rw [hk.1, hk.2]; exact (kp_in hc hs h).1))]
theorem tlN_set {e : Nat → Nat} {c s : Nat} {b : Bool} (h : ¬ bsD c s = 36) : tlN e c s b = fun k => if k = edD c s then (if b = true then 2 else 1) else e k := by
  funext k; simp [tlN, h]
/-- the same change in the row that is written, and in the others -/
theorem mp_row {e : Nat → Nat} {c s v : Nat} (hc : c < 36) (hs : s < 4) (h : ¬ bsD c s = 36) {z : Nat} (hz : z < 2) : upd (fun z => nI (mpN e (kpD c s) z)) (wyD s) (nI v) z = nI (mpN (fun k => if k = edD c s then v else e k) (kpD c s) z) := by
  rw [mp_set hc hs h (kpD_lt hc hs h) hz]
  by_cases hw : z = wyD s <;> simp [upd, hw]
theorem mp_oth {e : Nat → Nat} {c s v : Nat} (hc : c < 36) (hs : s < 4) (h : ¬ bsD c s = 36) {j : Nat} (hj : j < 36) (hn : ¬ j = kpD c s) : mpN (fun k => if k = edD c s then v else e k) j = mpN e j := by
  funext z
  by_cases hz : z = 0
  · subst hz; rw [mp_set hc hs h hj (by decide), if_neg (fun q => hn q.1)]
  · rw [mpN_1 hz, mpN_1 hz, mp_set hc hs h hj (by decide), if_neg (fun q => hn q.1)]
theorem hg_row {e : Nat → Int32} {c s : Nat} {v : Int32} (hc : c < 36) (hs : s < 4) (h : ¬ bsD c s = 36) {z : Nat} (hz : z < 2) : upd (fun z => hgI e (kpD c s) z) (wyD s) v z = hgI (fun k => if k = edD c s then v else e k) (kpD c s) z := by
  rw [hg_set hc hs h (kpD_lt hc hs h) hz]
  by_cases hw : z = wyD s <;> simp [upd, hw]
theorem hg_oth {e : Nat → Int32} {c s : Nat} {v : Int32} (hc : c < 36) (hs : s < 4) (h : ¬ bsD c s = 36) {j : Nat} (hj : j < 36) (hn : ¬ j = kpD c s) : hgI (fun k => if k = edD c s then v else e k) j = hgI e j := by
  funext z
  by_cases hz : z = 0
  · subst hz; rw [hg_set hc hs h hj (by decide), if_neg (fun q => hn q.1)]
  · rw [hgI_1 hz, hgI_1 hz, hg_set hc hs h hj (by decide), if_neg (fun q => hn q.1)]
/-- the hour, a door's being open, an edge's being shut -/
def hrI (mi : Int32) : Int32 := mi / nI 60 - mi / nI 60 / nI 24 * nI 24
def opB (h mi : Int32) : Bool := decide ((h >>> (hrI mi &&& 31)) &&& nI 1 = nI 1)
def shB (k : Nat) (h mi : Int32) : Bool := decide (k = 1) || (decide (k = 2) && !opB h mi)
def swB (kd : Nat → Nat) (hr : Nat → Int32) (mi : Int32) (c s : Nat) : Bool := decide (bsD c s = 36) || shB (kd (edD c s)) (hr (edD c s)) mi
/-- counts over cells and ways -/
def cnt2 (p : Nat → Nat → Bool) : Nat → Nat
  | 0 => 0
  | c + 1 => cnt2 p c + cnt (p c) 2
theorem cnt2_le (p : Nat → Nat → Bool) : ∀ c, cnt2 p c ≤ 2 * c
  | 0 => Nat.le_refl _
  | c + 1 => by have := cnt2_le p c; have := cnt_le (p c) 2; simp only [cnt2]; omega
def cntL (g : Nat → Bool) : List Nat → Nat
  | [] => 0
  | k :: l => cntL g l + bN (g k)
theorem cntL_app (g : Nat → Bool) : ∀ a b, cntL g (a ++ b) = cntL g a + cntL g b
  | [], b => by simp [cntL]
  | k :: a, b => by simp only [List.cons_append, cntL, cntL_app g a b]; omega
theorem cntL_perm (g : Nat → Bool) {a b : List Nat} (h : a.Perm b) : cntL g a = cntL g b := by
  induction h with
  | nil => rfl
  | cons x _ ih => simp only [cntL, ih]
  | swap x y l => simp only [cntL]; omega
  | trans _ _ h1 h2 => rw [h1, h2]
theorem cntL_range (g : Nat → Bool) : ∀ n, cntL g (List.range n) = cnt g n
  | 0 => rfl
  | n + 1 => by rw [List.range_succ, cntL_app, cntL_range g n]; simp [cntL, cnt]
def egL (c : Nat) : List Nat := (if inB c 0 = true then [egN c 0] else []) ++ (if inB c 1 = true then [egN c 1] else [])
theorem cnt2_L (g : Nat → Bool) : ∀ n, cnt2 (fun c z => inB c z && g (egN c z)) n = cntL g ((List.range n).flatMap egL)
  | 0 => rfl
  | n + 1 => by
    rw [List.range_succ, List.flatMap_append, cntL_app, ← cnt2_L g n]
    simp only [cnt2, cnt, List.flatMap_cons, List.flatMap_nil, List.append_nil, egL, cntL_app]
    cases inB n 0 <;> cases inB n 1 <;> simp [cntL, bN]
theorem egL_perm : ((List.range 36).flatMap egL).Perm (List.range 60) := List.isPerm_iff.mp (by decide +kernel)
/-- a count over cells and ways is a count over edges -/
theorem cnt2_eg (g : Nat → Bool) : cnt2 (fun c z => inB c z && g (egN c z)) 36 = cnt g 60 := by
  rw [cnt2_L, cntL_perm g egL_perm, cntL_range]
theorem cnt_congr {f g : Nat → Bool} : ∀ n, (∀ j, j < n → f j = g j) → cnt f n = cnt g n
  | 0, _ => rfl
  | n + 1, h => by rw [cnt, cnt, cnt_congr n (fun j hj => h j (by omega)), h n (by omega)]
theorem cnt2_congr {f g : Nat → Nat → Bool} : ∀ n, (∀ c z, c < n → z < 2 → f c z = g c z) → cnt2 f n = cnt2 g n
  | 0, _ => rfl
  | n + 1, h => by rw [cnt2, cnt2, cnt2_congr n (fun c z hc hz => h c z (by omega) hz), cnt_congr 2 (fun z hz => h n z (by omega) hz)]
/-- refusals -/
def stN (b : Bool) (k : Nat) : Nat := if b = true then k else 0
/-- who is sure -/
def suI (f : Nat → Bool) : Int32 := if cnt f 144 = 1 then nI (first f) else -1
theorem cnt_0 {f : Nat → Bool} : ∀ n, (∀ j, j < n → f j = false) → cnt f n = 0
  | 0, _ => rfl
  | n + 1, h => by rw [cnt, cnt_0 n (fun j hj => h j (by omega)), h n (by omega)]; rfl
theorem first_true {f : Nat → Bool} (h : cnt f 144 = 1) : f (first f) = true := by
  by_cases h1 : first f < 143
  · exact first_at f h1
  · have h2 : first f = 143 := by have := first_le f; omega
    have h3 := cnt_0 (f := f) 143 (fun j hj => first_lt f (by omega))
    rw [show (144 : Nat) = 143 + 1 from rfl, cnt, h3] at h
    rw [h2]
    cases hf : f 143 with
    | true => rfl
    | false => rw [hf] at h; simp [bN] at h
theorem mpN_z : mpN zP = fun _ _ => 0 := by
  funext c w; unfold mpN zP; split <;> rfl
theorem updB_or (f : Nat → Bool) (i : Nat) : updB (fun j => decide (j < i) || f j) i true = fun j => decide (j < i + 1) || f j := by
  funext j
  by_cases h : j = i
  · subst h; simp [updB]
  · have : (j < i) ↔ (j < i + 1) := by omega
    simp [updB, h, this]
theorem kinds_law {kd : Nat → Nat} (x : Nat) : cnt2 (fun c z => inB c z && decide (mpN kd c z = x)) 36 = cnt (fun k => decide (kd k = x)) 60 := by
  rw [← cnt2_eg]
  refine cnt2_congr 36 (fun c z _ _ => ?_)
  cases h : inB c z with
  | true => simp [mpN, h]
  | false => rfl
def rwI (s : Nat) : Int32 := if s = 0 then -1 else if s = 2 then 1 else 0
def clI (s : Nat) : Int32 := if s = 1 then 1 else if s = 3 then -1 else 0
theorem rw_0 {s : Nat} (h : s = 0) : -1 = rwI s := by rw [rwI, if_pos h]
theorem rw_n {s : Nat} (h : ¬ s = 0) : bI (decide (s = 2)) = rwI s := by
  rw [rwI, if_neg h]; unfold bI; simp
theorem cl_1 {s : Nat} (h : s = 1) : nI 1 = clI s := by subst h; rfl
theorem cl_3 {s : Nat} (h : s = 3) : -1 = clI s := by subst h; rfl
theorem cl_n {s : Nat} (h : ¬ s = 1) (h2 : ¬ s = 3) : nI 0 = clI s := by rw [clI, if_neg h, if_neg h2]; rfl
