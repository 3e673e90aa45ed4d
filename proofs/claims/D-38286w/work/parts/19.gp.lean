/-! G: pools of cells, grids, arrays of int arrays, constants -/
def poolW (n : Nat) (f : Nat → va_W) : va_W := (List.range n).flatMap f
/-- a pool without its c-th -/
def poolX (n : Nat) (f : Nat → va_W) (c : Nat) : va_W := ((List.range n).filter (fun j => decide (¬ j = c))).flatMap f
theorem mem_pool {n : Nat} {f : Nat → va_W} {c : Nat} (h : c < n) {q : Nat × va_E} (hq : q ∈ f c) : q ∈ poolW n f := List.mem_flatMap.mpr ⟨c, List.mem_range.mpr h, hq⟩
theorem poolX_self (n : Nat) (f : Nat → va_W) : poolX n f n = poolW n f := by
  unfold poolX poolW
  rw [List.filter_eq_self.mpr]
  intro a ha
  have := List.mem_range.mp ha
  exact decide_eq_true (by omega)
theorem poolW_succ (n : Nat) (f : Nat → va_W) : poolW (n + 1) f = poolW n f ++ f n := by
  unfold poolW
  rw [List.range_succ, List.flatMap_append]
  simp
theorem poolX_succ (n : Nat) (f : Nat → va_W) (c : Nat) : poolX (n + 1) f c = poolX n f c ++ (if n = c then [] else f n) := by
  unfold poolX
  rw [List.range_succ, List.filter_append, List.flatMap_append]
  by_cases h : n = c <;> simp [h]
theorem pool_perm (f : Nat → va_W) (c : Nat) : ∀ n, c < n → (poolW n f).Perm (f c ++ poolX n f c)
  | 0, h => absurd h (Nat.not_lt_zero _)
  | n + 1, h => by
    rw [poolW_succ, poolX_succ]
    by_cases hc : n = c
    · subst hc
      rw [if_pos rfl, List.append_nil, poolX_self]
      exact List.perm_append_comm
    · rw [if_neg hc, ← List.append_assoc]
      exact (pool_perm f c n (by omega)).append_right _
theorem poolX_congr {n : Nat} {f g : Nat → va_W} {c : Nat} (h : ∀ j, j < n → ¬ j = c → f j = g j) : poolX n f c = poolX n g c := by
  unfold poolX
  have : ∀ l : List Nat, (∀ j ∈ l, f j = g j) → l.flatMap f = l.flatMap g := by
    intro l
    induction l with
    | nil => intro _; rfl
    | cons a l ih =>
      intro hl
      rw [List.flatMap_cons, List.flatMap_cons, hl a List.mem_cons_self, ih (fun j hj => hl j (List.mem_cons_of_mem _ hj))]
  refine this _ (fun j hj => ?_)
  rw [List.mem_filter] at hj
  exact h j (List.mem_range.mp hj.1) (of_decide_eq_true hj.2)
theorem poolW_congr {n : Nat} {f g : Nat → va_W} (h : ∀ j, j < n → f j = g j) : poolW n f = poolW n g := by
  rw [← poolX_self n f, ← poolX_self n g]
  exact poolX_congr (fun j hj _ => h j hj)
section POOL
variable {K : gk_K} {X : gk_X} {own nm : String} {cc : ByteArray} {nL : Nat} {ret : Option FieldType} {d mc ms : Nat} {cells slots : Nat} {l : List (Nat × Value)} {st : List Value}
/-- the c-th of a pool (it stands first) in blocks of its own -/
theorem g_popen {pc n : Nat} {f : Nat → va_W} (c : Nat) (hc : c < n) (Bs rest : List va_W) (hB : Bs.flatten = f c) (k : G K X nL cells slots (Bs ++ poolX n f c :: rest) l pc st) : G K X nL cells slots (poolW n f :: rest) l pc st := by
  refine g_perm _ ?_ k
  rw [List.flatten_append, List.flatten_cons, List.flatten_cons, hB, ← List.append_assoc]
  exact (pool_perm f c n hc).symm.append_right _
/-- .. and back -/
theorem g_pclose {pc n : Nat} {f : Nat → va_W} (c : Nat) (hc : c < n) (Bs rest : List va_W) {M : List va_W} (hM : M = Bs ++ poolX n f c :: rest) (g : Nat → va_W) (hB : Bs.flatten = g c) (hg : ∀ j, j < n → ¬ j = c → f j = g j) (k : G K X nL cells slots (poolW n g :: rest) l pc st) : G K X nL cells slots M l pc st := by
  subst hM
  refine g_perm _ ?_ k
  rw [List.flatten_append, List.flatten_cons, List.flatten_cons, hB, ← List.append_assoc, poolX_congr hg]
  exact (pool_perm g c n hc).append_right _
variable {M : List va_W}
theorem g_getM (pc pc' : Nat) (F : Ok K X own nm cc nL ret d mc ms) {C ref : String} {T : u_T} {N ci index : Nat} (hin : ∀ w ∈ u_ws C T N, w ∈ lw_all) (hc : gl_cl[ci]? = some (C, T, N)) (k : Nat) (hk : k < N) (hlink : Cond.fieldLink own index ref (T k).2.1 (T k).2.2.1 ∈ lw_all)
    (hsame : ∀ x, (kS K).fieldFound? (T k).1 (T k).2.1 (T k).2.2.1 = some x → (kS K).fieldFound? ref (T k).2.1 (T k).2.2.1 = some x) (hdg : decode cc pc = .ok (.getfield index, 3)) (h' : pc + 3 = pc') {a : Nat} {fs : List Value} (hM : (a, ob ci fs) ∈ M.flatten) {v : Value} (hv : fs[k]? = some v)
    (kk : G K X nL cells slots M l pc' (v :: st)) : G K X nL cells slots M l pc (.ref a :: st) := by
  subst h'
  intro H locs ls hP hD hS h
  obtain ⟨q, hq⟩ := List.getElem?_of_mem hM
  exact va_get F.hx F.hb F.hts hin F.hown F.hK hP q hq hc k hk (F.hts _ hlink) hsame hv hdg (kk H locs ls hP hD hS h)
theorem g_ialdM (pc pc' : Nat) (F : Ok K X own nm cc nL ret d mc ms) (hdg : decode cc pc = .ok (.iaload, 1)) (h' : pc + 1 = pc') {a n i : Nat} {f : Nat → Int32} (hM : (a, iA X n f) ∈ M.flatten) (hn : n < 2 ^ 31) (hi : i < n)
    (kk : G K X nL cells slots M l pc' (.int (f i) :: st)) : G K X nL cells slots M l pc (.int (nI i) :: .ref a :: st) := by
  subst h'
  intro H locs ls hP hD hS h
  obtain ⟨q, hq⟩ := List.getElem?_of_mem hM
  refine va_iald F.hx F.hb F.hK hP q 1 hq rfl (vp_in_nI hi hn) hdg ?_
  rw [nI_clamp (by omega)]
  exact kk H locs ls hP hD hS h
/-- a row of an array of int arrays -/
theorem g_rald (pc pc' : Nat) (F : Ok K X own nm cc nL ret d mc ms) (hdg : decode cc pc = .ok (.aaload, 1)) (h' : pc + 1 = pc') (bi : Nat) {a n i : Nat} {f : Nat → Option Nat} (hM : M[bi]? = some [(a, oA X 5 n f)]) (hn : n < 2 ^ 31) (hi : i < n) {w : Nat} (hw : f i = some w)
    (kk : G K X nL cells slots M l pc' (.ref w :: st)) : G K X nL cells slots M l pc (.int (nI i) :: .ref a :: st) := by
  subst h'
  intro H locs ls hP hD hS h
  obtain ⟨q, hq, -⟩ := fl_set hM
  have hv : (arrV (X.1.2 5) n (fun j => va_rf (f j))).slots[(nI i).toNatClampNeg]? = some (.ref w) := by
    rw [nI_clamp (by omega), arrV_read _ _ hi, hw]; rfl
  exact W.aald (v := .ref w) F.hx F.hb (hP q _ hq) ((F.hK.2 5 _ rfl).1 n (fun j => va_rf (f j))) rfl (fun q => by cases q) (by show ¬ (nI i < 0 ∨ (arrV _ _ _).slots.size ≤ _); rw [arrV_size]; exact vp_in_nI hi hn) hv rfl rfl hdg (kk H locs ls hP hD hS h)
/-- n arrays of k ints, and the array of them -/
theorem g_newG (pc pc' : Nat) (F : Ok K X own nm cc nL ret d mc ms) {index : Nat} (hcl : Cond.classLink own index "[[I" ∈ lw_all) (hdg : decode cc pc = .ok (.multianewarray index 2, 4)) (h' : pc + 4 = pc') {n k : Nat} (hn : n ≤ 1000) (hk : k ≤ 1000) {c2 s2 : Nat} (hc : c2 ≤ mc) (hs : s2 ≤ ms) (hc2 : cells + 1 + n = c2) (hs2 : slots + n + n * k = s2) {M' : Nat → (Nat → Nat) → List va_W}
    (hM' : ∀ q r, M ++ [[(q, oA X 5 n (fun j => some (r j)))], poolW n (fun j => [(r j, iA X k (fun _ => 0))])] = M' q r)
    (kk : ∀ q r, G K X nL c2 s2 (M' q r) l pc' (.ref q :: st)) : G K X nL cells slots M l pc (.int (nI k) :: .int (nI n) :: st) := by
  subst h' hc2 hs2
  intro H locs ls hP hD hS hl T hT Xs
  have en : (nI n).toNatClampNeg = n := nI_clamp (by omega)
  have ek : (nI k).toNatClampNeg = k := nI_clamp (by omega)
  have hR := F.hR
  obtain ⟨vm₁, cA, comp, hW, hfA, hfC, hO, hI, X1, step⟩ := Xs.multianewarray2F F.hx (own := own) (index := index) (ty := .int) F.hown (F.hts _ hcl) F.hG.2.2.2.2.2.2.2 (F.hts _ q494)
    (g := F0 (kM K) pc ls (.int (nI k) :: .int (nI n) :: st)) rfl (by rw [F.hb]; exact hdg) (n := nI n) (k := nI k) (rest := st) rfl (nI_pos (by omega)) (nI_pos (by omega)) (by rw [en]; omega) (by rw [ek]; show k * 4 ≤ _; omega) (by rw [ek]; omega) rfl rfl (by rw [en]; omega) (by rw [en, ek]; omega)
  rw [en, ek] at X1 step
  have e5 : cA = X.1.2 5 := by
    have h2 := (F.hK.2 5 _ rfl).2.nm
    exact Option.some.inj (hfA.symm.trans h2)
  have e1 : comp = X.1.2 1 := by
    have h2 := (F.hK.2 1 _ rfl).2.nm
    exact Option.some.inj (hfC.symm.trans h2)
  obtain ⟨f1, f2, -⟩ := Jvm.Free.Multi.fill_facts (T.setVm vm₁) cA comp n k (defaultValue .int) n
  have hsz : (T.setVm vm₁).heap.size = H.size := by show T.heap.size = _; rw [hT]
  rw [hsz] at f1 f2
  have fo : ∀ a, a < H.size → (Jvm.Free.Multi.fill (T.setVm vm₁) cA comp n k (defaultValue .int) n).heap[a]? = H[a]? := fun a ha => by
    rw [Jvm.Free.Multi.fill_old (T.setVm vm₁) cA comp n k (defaultValue .int) (a := a) (by rw [hsz]; exact ha) n]
    show T.heap[a]? = _
    rw [hT]
  have fi : ∀ j, j < n → (Jvm.Free.Multi.fill (T.setVm vm₁) cA comp n k (defaultValue .int) n).heap[H.size + 1 + j]? = some (Jvm.Free.Multi.innerC comp k (defaultValue .int)) := fun j hj => by
    have := Jvm.Free.Multi.fill_inner (T.setVm vm₁) cA comp n k (defaultValue .int) n j hj
    rw [hsz] at this
    exact this
  have eO : Jvm.Free.Multi.outerC cA n H.size n = arrV cA n (fun j => va_rf (some (H.size + 1 + j))) := by
    have hsl := fun j hj => Jvm.Free.Multi.outerC_slot cA n H.size n j hj
    have key : ∀ i, ∃ sl, Jvm.Free.Multi.outerC cA n H.size i = { cls := cA, slots := sl, vm := .none } := by
      intro i
      induction i with
      | zero => exact ⟨_, rfl⟩
      | succ i ih =>
        obtain ⟨sl, e⟩ := ih
        refine ⟨sl.setIfInBounds i (.ref (H.size + 1 + i)), ?_⟩
        show (Jvm.Free.Multi.outerC cA n H.size i).setSlot i _ = _
        rw [e]
        rfl
    obtain ⟨sl, e⟩ := key n
    obtain ⟨-, -, hss⟩ := Jvm.Free.Multi.outerC_facts cA n H.size n
    rw [e] at hsl hss ⊢
    have hss : sl.size = n := hss
    unfold arrV
    congr 1
    apply Array.ext_getElem?
    intro j
    by_cases hj : j < n
    · rw [hsl j hj, if_pos hj]
      simp [hj, va_rf]
    · have h1 : sl[j]? = none := Array.getElem?_eq_none (by omega)
      rw [h1]
      simp [hj]
  have eI : Jvm.Free.Multi.innerC comp k (defaultValue .int) = arrV comp k (fun _ => .int 0) := arrV_new comp k (.int 0)
  have hdef : (M ++ [[(H.size, oA X 5 n (fun j => some (H.size + 1 + j)))], poolW n (fun j => [(H.size + 1 + j, iA X k (fun _ => 0))])]).flatten = M.flatten ++ ((H.size, oA X 5 n (fun j => some (H.size + 1 + j))) :: poolW n (fun j => [(H.size + 1 + j, iA X k (fun _ => 0))])) := by simp
  have hall : ∀ q ∈ poolW n (fun j => [(H.size + 1 + j, iA X k (fun _ => 0))]), ∃ j, j < n ∧ q = (H.size + 1 + j, iA X k (fun _ => 0)) := by
    intro q hq
    obtain ⟨j, hj, hq⟩ := List.mem_flatMap.mp hq
    exact ⟨j, List.mem_range.mp hj, List.mem_singleton.mp hq⟩
  have hP' : va_P X.1.1 gl_cl (M' H.size (fun j => H.size + 1 + j)).flatten (Jvm.Free.Multi.fill (T.setVm vm₁) cA comp n k (defaultValue .int) n).heap := by
    rw [← hM', hdef]
    refine vaP_iff.mpr fun q hq => ?_
    rcases List.mem_append.mp hq with h | h
    · have h1 := vaP_iff.mp hP q h
      exact h1.kept (fo q.1 h1.lt)
    · rcases List.mem_cons.mp h with h | h
      · subst h
        show _ = some (arrV (X.1.2 5) n (fun j => va_rf (some (H.size + 1 + j))))
        rw [← e5, ← eO]
        exact f2
      · obtain ⟨j, hj, rfl⟩ := hall q h
        show _ = some (arrV (X.1.2 1) k (fun _ => .int 0))
        rw [← e1, ← eI]
        exact fi j hj
  have hD' : va_D (kA K) (M' H.size (fun j => H.size + 1 + j)).flatten := by
    rw [← hM', hdef]
    refine vaD_iff.mpr ⟨?_, fun q hq => ?_⟩
    · refine List.pairwise_append.mpr ⟨(vaD_iff.mp hD).1, List.pairwise_cons.mpr ⟨fun q hq => ?_, ?_⟩, fun p hp q hq => ?_⟩
      · obtain ⟨j, hj, rfl⟩ := hall q hq
        show H.size ≠ H.size + 1 + j
        omega
      · unfold poolW
        have : ∀ m, ((List.range m).flatMap (fun j => [(H.size + 1 + j, iA X k (fun _ => 0))])).Pairwise (fun (p q : Nat × va_E) => p.1 ≠ q.1) := by
          intro m
          induction m with
          | zero => exact List.Pairwise.nil
          | succ m ih =>
            rw [List.range_succ, List.flatMap_append]
            refine List.pairwise_append.mpr ⟨ih, by simp, fun p hp q hq => ?_⟩
            obtain ⟨i, hi, hp⟩ := List.mem_flatMap.mp hp
            have hi := List.mem_range.mp hi
            rw [List.mem_singleton.mp hp]
            simp at hq
            rw [hq]
            show H.size + 1 + i ≠ H.size + 1 + m
            omega
        exact this n
      · have h1 := (vaP_iff.mp hP p hp).lt
        rcases List.mem_cons.mp hq with h | h
        · rw [h]; show p.1 ≠ H.size; omega
        · obtain ⟨j, hj, rfl⟩ := hall q h
          show p.1 ≠ H.size + 1 + j
          omega
    · rcases List.mem_append.mp hq with h | h
      · exact (vaD_iff.mp hD).2 q h
      · rcases List.mem_cons.mp h with h | h
        · rw [h]; exact F.hA _ hS.1
        · obtain ⟨j, hj, rfl⟩ := hall q h
          refine F.hA _ ?_
          have := hS.1
          show (kS K).heap.size ≤ H.size + 1 + j
          omega
  have hS' : va_S (kA K) (kS K).heap (Jvm.Free.Multi.fill (T.setVm vm₁) cA comp n k (defaultValue .int) n).heap locs := by
    refine ⟨by have := hS.1; omega, fun q h1 h2 => ?_, hS.2.2⟩
    rw [fo q (Nat.lt_of_lt_of_le h1 hS.1)]
    exact hS.2.1 q h1 h2
  obtain ⟨t, a1, b1⟩ := kk H.size (fun j => H.size + 1 + j) _ locs ls hP' hD' hS' hl _ rfl X1
  refine ⟨t, step t ?_, b1⟩
  rw [hT]
  exact a1
/-! constants -/
theorem Ok.con (F : Ok K X own nm cc nL ret d mc ms) : gl_con X (kA K) (kS K) (kS K).heap := ((F.hG.2.2.2.2.2.1).kept (fun a h1 _ => F.hW.2 a h1)).narrow F.hA0
theorem Ok.tx (F : Ok K X own nm cc nL ret d mc ms) {o t : String} {i c : Nat} (h : (o, i, t, c) ∈ gl_tx) : vk_R o i t (X.2.2 c) (kS K) := F.hG.2.2.2.2.2.2.1 _ h
theorem g_gets (pc pc' : Nat) (F : Ok K X own nm cc nL ret d mc ms) {C n de ref : String} {v : Value} {index : Nat} (hZ : va_Z C n de v (kA K) (kS K) (kS K).heap) (hlink : Cond.fieldLink own index ref n de ∈ lw_all) (hsame : ∀ x, (kS K).fieldFound? C n de = some x → (kS K).fieldFound? ref n de = some x) (hdg : decode cc pc = .ok (.getstatic index, 3)) (h' : pc + 3 = pc')
    (kk : G K X nL cells slots M l pc' (v :: st)) : G K X nL cells slots M l pc st := by
  subst h'
  intro H locs ls hP hD hS h
  exact va_gets F.hx F.hb hZ hS F.hown (F.hts _ hlink) hsame hdg (kk H locs ls hP hD hS h)
/-- a field of a constant object -/
theorem g_getO (pc pc' : Nat) (F : Ok K X own nm cc nL ret d mc ms) {o n de ref : String} {v : Value} {index t : Nat} (hO : va_OF o n de v t (kA K) (kS K) (kS K).heap) (hlink : Cond.fieldLink own index ref n de ∈ lw_all) (hsame : ∀ x, (kS K).fieldFound? o n de = some x → (kS K).fieldFound? ref n de = some x) (hdg : decode cc pc = .ok (.getfield index, 3)) (h' : pc + 3 = pc')
    (kk : G K X nL cells slots M l pc' (v :: st)) : G K X nL cells slots M l pc (.ref t :: st) := by
  subst h'
  intro H locs ls hP hD hS h
  obtain ⟨cf, k, fi, f, cell, h1, h2, h3, h4, h5, h6⟩ := hO.kept hS.2.1
  exact W.getf F.hx F.hb F.hown (F.hts _ hlink) (hsame _ h1) h2 h3 h4 h5 rfl rfl hdg (kk H locs ls hP hD hS h)
/-- a constant object as a receiver: in any heap of the walk -/
theorem rc_con {C : String} {t : Nat} {H : Heap} {locs : List Loc} (hO : va_O C t (kA K) (kS K) (kS K).heap) (hS : va_S (kA K) (kS K).heap H locs) : rcV K C t H := by
  obtain ⟨cell, h1, h2, h3, -⟩ := hO.kept hS.2.1
  exact ⟨cell, h1, h2, h3⟩
end POOL
