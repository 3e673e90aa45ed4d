/-! what the calls on the floor answer -/
def oeI (kd : Nat → Nat) (hr : Nat → Int32) (mi : Int32) (c s x : Nat) : Int32 :=
  if bsD c s = 36 then bI (decide (x < 2)) else if x = 0 then nI (kd (edD c s)) else if x = 1 then bI (shB (kd (edD c s)) (hr (edD c s)) mi) else hr (edD c s)
theorem oeI_out {kd : Nat → Nat} {hr : Nat → Int32} {mi : Int32} {c s x : Nat} (h : bsD c s = 36) : bI (decide (x < 2)) = oeI kd hr mi c s x := by rw [oeI, if_pos h]
theorem oeI_in {kd : Nat → Nat} {hr : Nat → Int32} {mi : Int32} {c s x : Nat} {a b d : Int32} (h : ¬ bsD c s = 36) (hx : x < 3) (ha : a = nI (kd (edD c s))) (hb : b = bI (shB (kd (edD c s)) (hr (edD c s)) mi)) (hd : d = hr (edD c s)) : upd (upd (upd (fun _ => 0) 0 a) 1 b) 2 d x = oeI kd hr mi c s x := by
  subst ha hb hd
  have : x = 0 ∨ x = 1 ∨ x = 2 := by omega
  rcases this with h1 | h1 | h1 <;> subst h1 <;> simp [oeI, h, upd]
abbrev ly_T := Int32 × (Nat → Nat) × (Nat → Int32)
/-- a floor that is laid: one edge, a cell's edges, all cells -/
def lyS (S : ly_T) (c w : Nat) : ly_T :=
  if inB c w = true then (nxI S.1, (fun z => if z = egN c w then bN (decide (nxI S.1 < nI 40)) else S.2.1 z), fun z => if z = egN c w then nI 0 else S.2.2 z) else S
def lyW (S : ly_T) (c : Nat) : Nat → ly_T
  | 0 => S
  | w + 1 => lyS (lyW S c w) c w
def lyC (S : ly_T) : Nat → ly_T
  | 0 => S
  | c + 1 => lyW (lyC S c) c 2
theorem ly_no {S : ly_T} {c w : Nat} (h : inB c w = false) : lyW S c w = lyW S c (w + 1) := by
  show lyW S c w = lyS (lyW S c w) c w
  rw [lyS, h]; rfl
theorem ly_1 {S : ly_T} {c w : Nat} (h : inB c w = true) : nxI (lyW S c w).1 = (lyW S c (w + 1)).1 := by
  show _ = (lyS (lyW S c w) c w).1
  rw [lyS, if_pos h]
theorem ly_k {S : ly_T} {c w : Nat} (h : inB c w = true) : (lyW S c (w + 1)).2.1 = fun z => if z = egN c w then bN (decide (nxI (lyW S c w).1 < nI 40)) else (lyW S c w).2.1 z := by
  show (lyS (lyW S c w) c w).2.1 = _
  rw [lyS, if_pos h]
theorem ly_h {S : ly_T} {c w : Nat} (h : inB c w = true) : (lyW S c (w + 1)).2.2 = fun z => if z = egN c w then nI 0 else (lyW S c w).2.2 z := by
  show (lyS (lyW S c w) c w).2.2 = _
  rw [lyS, if_pos h]
theorem ly_S {S : ly_T} {c w : Nat} (h : ∀ k, k < 60 → S.2.1 k < 3) : ∀ k, k < 60 → (lyS S c w).2.1 k < 3 := by
  intro k hk
  unfold lyS
  split
  · show (if k = egN c w then _ else _) < 3
    split
    · have := bN_le (decide (nxI S.1 < nI 40)); omega
    · exact h k hk
  · exact h k hk
theorem ly_W {S : ly_T} {c : Nat} (h : ∀ k, k < 60 → S.2.1 k < 3) : ∀ w, ∀ k, k < 60 → (lyW S c w).2.1 k < 3
  | 0 => h
  | w + 1 => ly_S (ly_W h w)
theorem ly_C {S : ly_T} (h : ∀ k, k < 60 → S.2.1 k < 3) : ∀ c, ∀ k, k < 60 → (lyC S c).2.1 k < 3
  | 0 => h
  | c + 1 => ly_W (ly_C h c) 2
theorem kpw {c w : Nat} (hw : w < 2) : kpD c (wS w) = c ∧ wyD (wS w) = w := by
  have : w = 0 ∨ w = 1 := by omega
  rcases this with h | h <;> subst h <;> exact ⟨rfl, rfl⟩
theorem inw {c w : Nat} (h : inB c w = true) : ¬ bsD c (wS w) = 36 := of_decide_eq_true h
theorem wS_lt (w : Nat) : wS w < 4 := by unfold wS; split <;> decide
theorem mp_rowW {e : Nat → Nat} {c w v : Nat} (hc : c < 36) (hw : w < 2) (h : inB c w = true) {z : Nat} (hz : z < 2) : upd (fun z => nI (mpN e c z)) w (nI v) z = nI (mpN (fun k => if k = egN c w then v else e k) c z) := by
  have := mp_row (e := e) (v := v) hc (wS_lt w) (inw h) hz
  rw [(kpw (c := c) hw).1, (kpw (c := c) hw).2] at this
  exact this
theorem mp_othW {e : Nat → Nat} {c w v : Nat} (hc : c < 36) (hw : w < 2) (h : inB c w = true) {j : Nat} (hj : j < 36) (hn : ¬ j = c) : mpN (fun k => if k = egN c w then v else e k) j = mpN e j :=
  mp_oth hc (wS_lt w) (inw h) hj (by rw [(kpw hw).1]; exact hn)
theorem hg_rowW {e : Nat → Int32} {c w : Nat} {v : Int32} (hc : c < 36) (hw : w < 2) (h : inB c w = true) {z : Nat} (hz : z < 2) : upd (fun z => hgI e c z) w v z = hgI (fun k => if k = egN c w then v else e k) c z := by
  have := hg_row (e := e) (v := v) hc (wS_lt w) (inw h) hz
  rw [(kpw (c := c) hw).1, (kpw (c := c) hw).2] at this
  exact this
theorem hg_othW {e : Nat → Int32} {c w : Nat} {v : Int32} (hc : c < 36) (hw : w < 2) (h : inB c w = true) {j : Nat} (hj : j < 36) (hn : ¬ j = c) : hgI (fun k => if k = egN c w then v else e k) j = hgI e j :=
  hg_oth hc (wS_lt w) (inw h) hj (by rw [(kpw hw).1]; exact hn)
theorem bI_bN (b : Bool) : bI b = nI (bN b) := by cases b <;> rfl
/-- what a plan of cells and ways counts -/
theorem cnt_mp {e : Nat → Nat} {x : Nat} (hx : ¬ x = 0) : cnt2 (fun c z => decide (mpN e c z = x)) 36 = cnt (fun k => decide (e k = x)) 60 := by
  rw [← kinds_law]
  refine cnt2_congr 36 (fun c z _ _ => ?_)
  cases h : inB c z with
  | true => simp
  | false => simp [mpN, h, Ne.symm hx]
