/-! a new class: the edges' array grows -/
section TU
variable {K : gk_K} {X : gk_X} {own nm : String} {cc : ByteArray} {nL : Nat} {ret : Option FieldType} {d mc ms : Nat} {cells slots : Nat} {M : List va_W} {l : List (Nat × Value)} {st : List Value}
theorem as_self (vm : Vm) (c : ClassId) : vm.assignable c c = true := by
  show vm.assignableAux (255 + 1) c c = true
  rw [Vm.assignableAux]
  simp only [beq_self_eq_true, Bool.true_or]
/-- an edge laid into the array of edges -/
theorem g_oastE (pc pc' : Nat) (F : Ok K X own nm cc nL ret d mc ms) {vs : List Value} (hdg : decode cc pc = .ok (.aastore, 1)) (h' : pc + 1 = pc') (bi : Nat) {a n i v : Nat} {f : Nat → Option Nat} (hM : M[bi]? = some [(a, oA X 2 n f)]) (hV : (v, ob 3 vs) ∈ M.flatten) (hn : n < 2 ^ 31) (hi : i < n) {f' : Nat → Option Nat} (hf : va_up f i (some v) = f') {M' : List va_W} (hM' : M.set bi [(a, oA X 2 n f')] = M')
    (kk : G K X nL cells slots M' l pc' st) : G K X nL cells slots M l pc (.ref v :: .int (nI i) :: .ref a :: st) := by
  subst h' hM' hf
  intro H locs ls hP hD hS h
  obtain ⟨q, hq, hs⟩ := fl_set hM
  obtain ⟨q2, hq2⟩ := List.getElem?_of_mem hV
  have hany : va_Any "Bumpward$Edge" (kS K) H v := va_rAny F.hK hP hq2 rfl (fun comp c0 f1 f2 => by
    cases f1.symm.trans f2
    exact as_self _ _)
  refine va_astqM F.hx F.hb F.hK hP hD hS q 2 hq rfl hany (vp_in_nI hi hn) hdg (fun H1 locs1 hP1 hD1 hS1 => ?_)
  rw [nI_clamp (by omega)] at hP1 hD1
  exact kk H1 locs1 ls (by rw [hs]; exact hP1) (by rw [hs]; exact hD1) hS1 h
theorem g_oarr {pc : Nat} (bi : Nat) {a t n : Nat} {f g : Nat → Option Nat} (hM : M[bi]? = some [(a, oA X t n f)]) (hfg : ∀ j, j < n → f j = g j) {M' : List va_W} (hM' : M.set bi [(a, oA X t n g)] = M')
    (kk : G K X nL cells slots M' l pc st) : G K X nL cells slots M l pc st := by
  subst hM'
  intro H locs ls hP hD hS h
  obtain ⟨q, hq, hs⟩ := fl_set hM
  refine kk H locs ls ?_ (by rw [hs]; exact hD.set hq) hS h
  rw [hs]
  refine hP.set hD hq ?_ (fun _ _ => rfl)
  have h1 : H[a]? = some (vp_cell (X.1.2 t) (n, .inr (.inr (.inr (.inr f))))) := hP q _ hq
  show H[a]? = some (vp_cell (X.1.2 t) (n, .inr (.inr (.inr (.inr g)))))
  rw [h1]
  refine congrArg some ?_
  show arrV (X.1.2 t) n (fun j => va_rf (f j)) = arrV (X.1.2 t) n (fun j => va_rf (g j))
  unfold arrV
  congr 1
  refine congrArg Array.ofFn (funext fun j => ?_)
  show va_rf (f j.val) = va_rf (g j.val)
  rw [hfg j.val j.isLt]
end TU
theorem wl_up {n q : Nat} {er : Nat → Nat} : va_up (wlF n er) n (some q) = wlF (n + 1) (va_up er n q) := by
  funext j
  unfold wlF
  by_cases h : j = n
  · subst h; rw [va_up_self, va_up_self, if_pos (by omega)]
  · rw [va_up_ne _ _ h, va_up_ne _ _ h]
    by_cases h2 : j < n
    · rw [if_pos h2, if_pos (by omega)]
    · rw [if_neg h2, if_neg (by omega)]
theorem wl_full {n : Nat} {er : Nat → Nat} : ∀ j, j < n → wlF n er j = some (er j) := fun j hj => wlF_at hj
theorem wl_none {er : Nat → Nat} : (fun _ => none) = wlF 0 er := by
  funext j
  unfold wlF
  rw [if_neg (by omega)]
