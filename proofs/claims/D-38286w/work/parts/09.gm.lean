/-! G: fields, arrays, new cells -/
theorem va_RA.nm {U : State} {cA : ClassId} {ty : FieldType} (h : va_RA U cA ty) : U.vm.findClass ("[" ++ ty.toString) = some cA := by
  cases ty with
  | object C =>
    obtain ⟨kA, comp, h1, h2, h3, h4⟩ := h
    exact h4
  | _ => exact h
theorem ra_eq {X : gk_X} {cl : List vw_C} {D : va_G} {s : State} {cA : ClassId} {ty : FieldType} (hK : va_K D cl (gl_ty X ++ [(cA, ty)]) s) (t : Nat) {cT : ClassId} (ht : (gl_ty X)[t]? = some (cT, ty)) : cA = cT := by
  have h1 := (hK.2 (gl_ty X).length (cA, ty) (by simp)).2.nm
  have hl := (List.getElem?_eq_some_iff.mp ht).1
  have h2 := (hK.2 t (cT, ty) (by rw [List.getElem?_append_left hl]; exact ht)).2.nm
  exact Option.some.inj (h1.symm.trans h2)
theorem bI_fn (f : Nat → Bool) (j : Nat) : (fun j => bI (f j)) j = bI (f j) := rfl
/-- a boolean as a number -/
def bN (b : Bool) : Nat := if b = true then 1 else 0
theorem nI_addB (a : Nat) (b : Bool) : nI a + bI b = nI (a + bN b) := by
  cases b with
  | true => exact nI_1 a
  | false => show nI a + nI 0 = _; rw [nI_add]; rfl
theorem bN_le (b : Bool) : bN b ≤ 1 := by cases b <;> decide
section MEM
variable {K : gk_K} {X : gk_X} {own nm : String} {cc : ByteArray} {nL : Nat} {ret : Option FieldType} {d mc ms : Nat} {cells slots : Nat} {M : List va_W} {l : List (Nat × Value)} {st : List Value}
theorem g_get (pc pc' : Nat) (F : Ok K X own nm cc nL ret d mc ms) {C ref : String} {T : u_T} {N ci index : Nat} (hin : ∀ w ∈ u_ws C T N, w ∈ lw_all) (hc : gl_cl[ci]? = some (C, T, N)) (k : Nat) (hk : k < N) (hlink : Cond.fieldLink own index ref (T k).2.1 (T k).2.2.1 ∈ lw_all)
    (hsame : ∀ x, (kS K).fieldFound? (T k).1 (T k).2.1 (T k).2.2.1 = some x → (kS K).fieldFound? ref (T k).2.1 (T k).2.2.1 = some x) (hdg : decode cc pc = .ok (.getfield index, 3)) (h' : pc + 3 = pc') (bi : Nat) {a : Nat} {fs : List Value} (hM : M[bi]? = some [(a, ob ci fs)]) {v : Value} (hv : fs[k]? = some v)
    (kk : G K X nL cells slots M l pc' (v :: st)) : G K X nL cells slots M l pc (.ref a :: st) := by
  subst h'
  intro H locs ls hP hD hS h
  obtain ⟨q, hq, -⟩ := fl_set hM
  exact va_get F.hx F.hb F.hts hin F.hown F.hK hP q hq hc k hk (F.hts _ hlink) hsame hv hdg (kk H locs ls hP hD hS h)
theorem g_getN (pc pc' : Nat) (F : Ok K X own nm cc nL ret d mc ms) {C ref host : String} {T : u_T} {N ci index : Nat} (hin : ∀ w ∈ u_ws C T N, w ∈ lw_all) (hc : gl_cl[ci]? = some (C, T, N)) (k : Nat) (hk : k < N) (hlink : Cond.fieldLinkNest own index ref (T k).2.1 (T k).2.2.1 host ∈ lw_tbl)
    (hsame : ∀ x, (kS K).fieldFound? (T k).1 (T k).2.1 (T k).2.2.1 = some x → (kS K).fieldFound? ref (T k).2.1 (T k).2.2.1 = some x) (hdg : decode cc pc = .ok (.getfield index, 3)) (h' : pc + 3 = pc') (bi : Nat) {a : Nat} {fs : List Value} (hM : M[bi]? = some [(a, ob ci fs)]) {v : Value} (hv : fs[k]? = some v)
    (kk : G K X nL cells slots M l pc' (v :: st)) : G K X nL cells slots M l pc (.ref a :: st) := by
  subst h'
  intro H locs ls hP hD hS h
  obtain ⟨q, hq, -⟩ := fl_set hM
  exact va_getN F.hx F.hb F.hts hin F.hown F.hK hP q hq hc k hk (va_Nw.use rfl (F.tw hlink rfl)) hsame hv hdg (kk H locs ls hP hD hS h)
theorem g_put (pc pc' : Nat) (F : Ok K X own nm cc nL ret d mc ms) {C ref : String} {T : u_T} {N ci index : Nat} (hin : ∀ w ∈ u_ws C T N, w ∈ lw_all) (ty0 : Nat → FieldType) (hty : ∀ k, k < N → parseFieldDescriptor (T k).2.2.1 = some (ty0 k)) (hnm : ∀ a, a < N → ∀ b, b < N → a ≠ b → (T a).2.1 ≠ (T b).2.1) (hc : gl_cl[ci]? = some (C, T, N)) (k : Nat) (hk : k < N) (hlink : Cond.fieldLink own index ref (T k).2.1 (T k).2.2.1 ∈ lw_all)
    (hsame : ∀ x, (kS K).fieldFound? (T k).1 (T k).2.1 (T k).2.2.1 = some x → (kS K).fieldFound? ref (T k).2.1 (T k).2.2.1 = some x) (hfin : (T k).2.2.2 = false) (hdg : decode cc pc = .ok (.putfield index, 3)) (h' : pc + 3 = pc') (bi : Nat) {a : Nat} {fs : List Value} {v : Value} (hn : narrow (ty0 k) v = v) (hfit : fits (ty0 k) v = true) (hl : k < fs.length) (hM : M[bi]? = some [(a, ob ci fs)]) {M' : List va_W} (hM' : M.set bi [(a, ob ci (fs.set k v))] = M')
    (kk : G K X nL cells slots M' l pc' st) : G K X nL cells slots M l pc (v :: .ref a :: st) := by
  subst h' hM'
  intro H locs ls hP hD hS h
  obtain ⟨q, hq, hs⟩ := fl_set hM
  refine va_put F.hx F.hb F.hts hin ty0 hty hnm F.hown F.hK hP hD hS q hq hc k hk (F.hts _ hlink) hsame hfin (hty k hk) hn hfit hl hdg (fun H1 locs1 hP1 hD1 hS1 => ?_)
  exact kk H1 locs1 ls (by rw [hs]; exact hP1) (by rw [hs]; exact hD1) hS1 h
theorem g_putN (pc pc' : Nat) (F : Ok K X own nm cc nL ret d mc ms) {C ref host : String} {T : u_T} {N ci index : Nat} (hin : ∀ w ∈ u_ws C T N, w ∈ lw_all) (ty0 : Nat → FieldType) (hty : ∀ k, k < N → parseFieldDescriptor (T k).2.2.1 = some (ty0 k)) (hnm : ∀ a, a < N → ∀ b, b < N → a ≠ b → (T a).2.1 ≠ (T b).2.1) (hc : gl_cl[ci]? = some (C, T, N)) (k : Nat) (hk : k < N) (hlink : Cond.fieldLinkNest own index ref (T k).2.1 (T k).2.2.1 host ∈ lw_tbl)
    (hsame : ∀ x, (kS K).fieldFound? (T k).1 (T k).2.1 (T k).2.2.1 = some x → (kS K).fieldFound? ref (T k).2.1 (T k).2.2.1 = some x) (hfin : (T k).2.2.2 = false) (hdg : decode cc pc = .ok (.putfield index, 3)) (h' : pc + 3 = pc') (bi : Nat) {a : Nat} {fs : List Value} {v : Value} (hn : narrow (ty0 k) v = v) (hfit : fits (ty0 k) v = true) (hl : k < fs.length) (hM : M[bi]? = some [(a, ob ci fs)]) {M' : List va_W} (hM' : M.set bi [(a, ob ci (fs.set k v))] = M')
    (kk : G K X nL cells slots M' l pc' st) : G K X nL cells slots M l pc (v :: .ref a :: st) := by
  subst h' hM'
  intro H locs ls hP hD hS h
  obtain ⟨q, hq, hs⟩ := fl_set hM
  refine va_putN F.hx F.hb F.hts hin ty0 hty hnm F.hown F.hK hP hD hS q hq hc k hk (va_Nw.use rfl (F.tw hlink rfl)) hsame hfin (hd := hty k hk) hn hfit hl hdg (fun H1 locs1 hP1 hD1 hS1 => ?_)
  exact kk H1 locs1 ls (by rw [hs]; exact hP1) (by rw [hs]; exact hD1) hS1 h
theorem g_putF (pc pc' : Nat) (F : Ok K X own "<init>" cc nL ret d mc ms) {C ref : String} {T : u_T} {N ci index : Nat} (hin : ∀ w ∈ u_ws C T N, w ∈ lw_all) (ty0 : Nat → FieldType) (hty : ∀ k, k < N → parseFieldDescriptor (T k).2.2.1 = some (ty0 k)) (hnm : ∀ a, a < N → ∀ b, b < N → a ≠ b → (T a).2.1 ≠ (T b).2.1) (hc : gl_cl[ci]? = some (C, T, N)) (k : Nat) (hk : k < N) (hlink : Cond.fieldLink own index ref (T k).2.1 (T k).2.2.1 ∈ lw_all)
    (hsame : ∀ x, (kS K).fieldFound? (T k).1 (T k).2.1 (T k).2.2.1 = some x → (kS K).fieldFound? ref (T k).2.1 (T k).2.2.1 = some x) (hfin : (T k).2.2.2 = true) (hdecl : (T k).1 = own) (hdg : decode cc pc = .ok (.putfield index, 3)) (h' : pc + 3 = pc') (bi : Nat) {a : Nat} {fs : List Value} {v : Value} (hn : narrow (ty0 k) v = v) (hfit : fits (ty0 k) v = true) (hl : k < fs.length) (hM : M[bi]? = some [(a, ob ci fs)]) {M' : List va_W} (hM' : M.set bi [(a, ob ci (fs.set k v))] = M')
    (kk : G K X nL cells slots M' l pc' st) : G K X nL cells slots M l pc (v :: .ref a :: st) := by
  subst h' hM'
  intro H locs ls hP hD hS h
  obtain ⟨q, hq, hs⟩ := fl_set hM
  refine va_putF F.hx F.hb F.hts hin ty0 hty hnm F.hown F.hK hP hD hS q hq hc k hk (F.hts _ hlink) hsame hfin F.hnm hdecl (hty k hk) hn hfit hl hdg (fun H1 locs1 hP1 hD1 hS1 => ?_)
  exact kk H1 locs1 ls (by rw [hs]; exact hP1) (by rw [hs]; exact hD1) hS1 h
theorem g_iald (pc pc' : Nat) (F : Ok K X own nm cc nL ret d mc ms) (hdg : decode cc pc = .ok (.iaload, 1)) (h' : pc + 1 = pc') (bi : Nat) {a n i : Nat} {f : Nat → Int32} (hM : M[bi]? = some [(a, iA X n f)]) (hn : n < 2 ^ 31) (hi : i < n)
    (kk : G K X nL cells slots M l pc' (.int (f i) :: st)) : G K X nL cells slots M l pc (.int (nI i) :: .ref a :: st) := by
  subst h'
  intro H locs ls hP hD hS h
  obtain ⟨q, hq, -⟩ := fl_set hM
  refine va_iald F.hx F.hb F.hK hP q 1 hq rfl (vp_in_nI hi hn) hdg ?_
  rw [nI_clamp (by omega)]
  exact kk H locs ls hP hD hS h
theorem g_zald (pc pc' : Nat) (F : Ok K X own nm cc nL ret d mc ms) (hdg : decode cc pc = .ok (.baload, 1)) (h' : pc + 1 = pc') (bi : Nat) {a n i : Nat} {f : Nat → Bool} (hM : M[bi]? = some [(a, zA X n f)]) (hn : n < 2 ^ 31) (hi : i < n)
    (kk : G K X nL cells slots M l pc' (.int (bI (f i)) :: st)) : G K X nL cells slots M l pc (.int (nI i) :: .ref a :: st) := by
  subst h'
  intro H locs ls hP hD hS h
  obtain ⟨q, hq, -⟩ := fl_set hM
  refine va_zald F.hx F.hb F.hK hP q 0 hq rfl (vp_in_nI hi hn) hdg ?_
  rw [nI_clamp (by omega)]
  exact kk H locs ls hP hD hS h
theorem g_yald (pc pc' : Nat) (F : Ok K X own nm cc nL ret d mc ms) (hdg : decode cc pc = .ok (.baload, 1)) (h' : pc + 1 = pc') (bi : Nat) {a n i : Nat} {f : Nat → Int32} (hM : M[bi]? = some [(a, yA X n f)]) (hn : n < 2 ^ 31) (hi : i < n)
    (kk : G K X nL cells slots M l pc' (.int (f i) :: st)) : G K X nL cells slots M l pc (.int (nI i) :: .ref a :: st) := by
  subst h'
  intro H locs ls hP hD hS h
  obtain ⟨q, hq, -⟩ := fl_set hM
  refine va_bald F.hx F.hb F.hK hP q 6 hq rfl (vp_in_nI hi hn) hdg ?_
  rw [nI_clamp (by omega)]
  exact kk H locs ls hP hD hS h
theorem g_oald (pc pc' : Nat) (F : Ok K X own nm cc nL ret d mc ms) {C : String} {t : Nat} (hdg : decode cc pc = .ok (.aaload, 1)) (h' : pc + 1 = pc') (bi : Nat) {a n i : Nat} {f : Nat → Option Nat} (hM : M[bi]? = some [(a, oA X t n f)]) (ht : (gl_ty X)[t]? = some (X.1.2 t, .object C)) (hn : n < 2 ^ 31) (hi : i < n) {w : Nat} (hw : f i = some w)
    (kk : G K X nL cells slots M l pc' (.ref w :: st)) : G K X nL cells slots M l pc (.int (nI i) :: .ref a :: st) := by
  subst h'
  intro H locs ls hP hD hS h
  obtain ⟨q, hq, -⟩ := fl_set hM
  refine va_aldq F.hx F.hb F.hK hP q t hq ht (vp_in_nI hi hn) hdg ?_
  rw [nI_clamp (by omega), hw]
  exact kk H locs ls hP hD hS h
theorem g_iast (pc pc' : Nat) (F : Ok K X own nm cc nL ret d mc ms) (hdg : decode cc pc = .ok (.iastore, 1)) (h' : pc + 1 = pc') (bi : Nat) {a n i : Nat} {x : Int32} {f : Nat → Int32} (hM : M[bi]? = some [(a, iA X n f)]) (hn : n < 2 ^ 31) (hi : i < n) {f' : Nat → Int32} (hf : upd f i x = f') {M' : List va_W} (hM' : M.set bi [(a, iA X n f')] = M')
    (kk : G K X nL cells slots M' l pc' st) : G K X nL cells slots M l pc (.int x :: .int (nI i) :: .ref a :: st) := by
  subst h' hM' hf
  intro H locs ls hP hD hS h
  obtain ⟨q, hq, hs⟩ := fl_set hM
  refine va_iast F.hx F.hb F.hK hP hD hS q 1 hq rfl (vp_in_nI hi hn) hdg (fun H1 locs1 hP1 hD1 hS1 => ?_)
  rw [nI_clamp (by omega)] at hP1 hD1
  exact kk H1 locs1 ls (by rw [hs]; exact hP1) (by rw [hs]; exact hD1) hS1 h
theorem g_zast (pc pc' : Nat) (F : Ok K X own nm cc nL ret d mc ms) (hdg : decode cc pc = .ok (.bastore, 1)) (h' : pc + 1 = pc') (bi : Nat) {a n i : Nat} {x : Bool} {f : Nat → Bool} (hM : M[bi]? = some [(a, zA X n f)]) (hn : n < 2 ^ 31) (hi : i < n) {f' : Nat → Bool} (hf : updB f i x = f') {M' : List va_W} (hM' : M.set bi [(a, zA X n f')] = M')
    (kk : G K X nL cells slots M' l pc' st) : G K X nL cells slots M l pc (.int (bI x) :: .int (nI i) :: .ref a :: st) := by
  subst h' hM' hf
  intro H locs ls hP hD hS h
  obtain ⟨q, hq, hs⟩ := fl_set hM
  refine va_zast F.hx F.hb F.hK hP hD hS q 0 hq rfl (vp_in_nI hi hn) hdg (fun H1 locs1 hP1 hD1 hS1 => ?_)
  rw [nI_clamp (by omega), bI_nar, updB_I] at hP1 hD1
  exact kk H1 locs1 ls (by rw [hs]; exact hP1) (by rw [hs]; exact hD1) hS1 h
theorem g_oast (pc pc' : Nat) (F : Ok K X own nm cc nL ret d mc ms) {ci t : Nat} {r : vw_C} {vs : List Value} (hdg : decode cc pc = .ok (.aastore, 1)) (h' : pc + 1 = pc') (bi bv : Nat) {a n i v : Nat} {f : Nat → Option Nat} (hM : M[bi]? = some [(a, oA X t n f)]) (hV : M[bv]? = some [(v, ob ci vs)]) (hc : gl_cl[ci]? = some r) (ht : (gl_ty X)[t]? = some (X.1.2 t, .object r.1)) (hn : n < 2 ^ 31) (hi : i < n) {f' : Nat → Option Nat} (hf : va_up f i (some v) = f') {M' : List va_W} (hM' : M.set bi [(a, oA X t n f')] = M')
    (kk : G K X nL cells slots M' l pc' st) : G K X nL cells slots M l pc (.ref v :: .int (nI i) :: .ref a :: st) := by
  subst h' hM' hf
  intro H locs ls hP hD hS h
  obtain ⟨q, hq, hs⟩ := fl_set hM
  obtain ⟨q2, hq2, -⟩ := fl_set hV
  refine va_astq F.hx F.hb F.hK hP hD hS q t q2 ci hq ht hq2 hc (vp_in_nI hi hn) hdg (fun H1 locs1 hP1 hD1 hS1 => ?_)
  rw [nI_clamp (by omega)] at hP1 hD1
  exact kk H1 locs1 ls (by rw [hs]; exact hP1) (by rw [hs]; exact hD1) hS1 h
theorem g_alen (pc pc' : Nat) (F : Ok K X own nm cc nL ret d mc ms) (hdg : decode cc pc = .ok (.arraylength, 1)) (h' : pc + 1 = pc') (bi t : Nat) {a : Nat} {x : vp_A} {cT : ClassId} {ty : FieldType} (hM : M[bi]? = some [(a, .inl (cT, x))]) (ht : (gl_ty X)[t]? = some (cT, ty)) {n : Nat} (hx : x.1 = n)
    (kk : G K X nL cells slots M l pc' (.int (nI n) :: st)) : G K X nL cells slots M l pc (.ref a :: st) := by
  subst h' hx
  intro H locs ls hP hD hS h
  obtain ⟨q, hq, -⟩ := fl_set hM
  exact va_alen F.hx F.hb F.hK hP q t hq ht rfl hdg (kk H locs ls hP hD hS h)
/-- an array's contents count within its length alone -/
theorem g_arr {pc : Nat} (bi : Nat) {a n : Nat} {cT : ClassId} {f g : Nat → Int32} (hM : M[bi]? = some [(a, .inl (cT, n, .inl f))]) (hfg : ∀ j, j < n → f j = g j) {M' : List va_W} (hM' : M.set bi [(a, .inl (cT, n, .inl g))] = M')
    (kk : G K X nL cells slots M' l pc st) : G K X nL cells slots M l pc st := by
  subst hM'
  intro H locs ls hP hD hS h
  obtain ⟨q, hq, hs⟩ := fl_set hM
  refine kk H locs ls ?_ (by rw [hs]; exact hD.set hq) hS h
  rw [hs]
  refine hP.set hD hq ?_ (fun _ _ => rfl)
  have h1 : H[a]? = some (vp_cell cT (n, .inl f)) := hP q _ hq
  show H[a]? = some (vp_cell cT (n, .inl g))
  rw [h1]
  refine congrArg some ?_
  show arrV cT n (fun j => .int (f j)) = arrV cT n (fun j => .int (g j))
  unfold arrV
  congr 1
  refine congrArg Array.ofFn (funext fun j => ?_)
  show Value.int (f j.val) = Value.int (g j.val)
  rw [hfg j.val j.isLt]
theorem g_arrZ {pc : Nat} (bi : Nat) {a n : Nat} {f g : Nat → Bool} (hM : M[bi]? = some [(a, zA X n f)]) (hfg : ∀ j, j < n → f j = g j) {M' : List va_W} (hM' : M.set bi [(a, zA X n g)] = M')
    (kk : G K X nL cells slots M' l pc st) : G K X nL cells slots M l pc st :=
  g_arr bi hM (g := fun j => bI (g j)) (fun j hj => by rw [hfg j hj]) hM' kk
/-- new arrays of small known length -/
theorem g_newZ (pc pc' : Nat) (F : Ok K X own nm cc nL ret d mc ms) (hdg : decode cc pc = .ok (.newarray .boolean, 2)) (h' : pc + 2 = pc') {n : Nat} (hn : n ≤ 100000) {c2 s2 : Nat} (hc : c2 ≤ mc) (hs : s2 ≤ ms) (hc2 : cells + 1 = c2) (hs2 : slots + n = s2) {M' : Nat → List va_W} (hM' : ∀ q, M ++ [[(q, zA X n (fun _ => false))]] = M' q)
    (kk : ∀ q, G K X nL c2 s2 (M' q) l pc' (.ref q :: st)) : G K X nL cells slots M l pc (.int (nI n) :: st) := by
  subst h' hc2 hs2
  intro H locs ls hP hD hS h
  refine va_newa (atype := .boolean) (ty := .boolean) F.hx F.hb (F.hts _ q126) rfl F.hK hP hD hS F.hA (a0 := (n, .inl fun _ => bI false)) (fun cA => rfl) (nI_pos (by omega)) (nI_clamp (by omega)) (by show n * 1 ≤ _; omega) (Nat.le_trans hc F.hR.2.2.1) (Nat.le_trans hs F.hR.2.2.2) hdg (fun q cA H1 hK1 hP1 hD1 hS1 => ?_)
  have e := ra_eq hK1 0 rfl
  subst e
  exact kk q H1 locs ls (by rw [← hM' q, fl_snoc]; exact hP1) (by rw [← hM' q, fl_snoc]; exact hD1) hS1 h
theorem g_newI (pc pc' : Nat) (F : Ok K X own nm cc nL ret d mc ms) (hdg : decode cc pc = .ok (.newarray .int, 2)) (h' : pc + 2 = pc') {n : Nat} (hn : n ≤ 100000) {c2 s2 : Nat} (hc : c2 ≤ mc) (hs : s2 ≤ ms) (hc2 : cells + 1 = c2) (hs2 : slots + n = s2) {M' : Nat → List va_W} (hM' : ∀ q, M ++ [[(q, iA X n (fun _ => 0))]] = M' q)
    (kk : ∀ q, G K X nL c2 s2 (M' q) l pc' (.ref q :: st)) : G K X nL cells slots M l pc (.int (nI n) :: st) := by
  subst h' hc2 hs2
  intro H locs ls hP hD hS h
  refine va_newa (atype := .int) (ty := .int) F.hx F.hb (F.hts _ q494) rfl F.hK hP hD hS F.hA (a0 := (n, .inl fun _ => 0)) (fun cA => rfl) (nI_pos (by omega)) (nI_clamp (by omega)) (by show n * 4 ≤ _; omega) (Nat.le_trans hc F.hR.2.2.1) (Nat.le_trans hs F.hR.2.2.2) hdg (fun q cA H1 hK1 hP1 hD1 hS1 => ?_)
  have e := ra_eq hK1 1 rfl
  subst e
  exact kk q H1 locs ls (by rw [← hM' q, fl_snoc]; exact hP1) (by rw [← hM' q, fl_snoc]; exact hD1) hS1 h
theorem g_newY (pc pc' : Nat) (F : Ok K X own nm cc nL ret d mc ms) (hdg : decode cc pc = .ok (.newarray .byte, 2)) (h' : pc + 2 = pc') {n : Nat} (hn : n ≤ 100000) {c2 s2 : Nat} (hc : c2 ≤ mc) (hs : s2 ≤ ms) (hc2 : cells + 1 = c2) (hs2 : slots + n = s2) {M' : Nat → List va_W} (hM' : ∀ q, M ++ [[(q, yA X n (fun _ => 0))]] = M' q)
    (kk : ∀ q, G K X nL c2 s2 (M' q) l pc' (.ref q :: st)) : G K X nL cells slots M l pc (.int (nI n) :: st) := by
  subst h' hc2 hs2
  intro H locs ls hP hD hS h
  refine va_newa (atype := .byte) (ty := .byte) F.hx F.hb (F.hts _ q619) rfl F.hK hP hD hS F.hA (a0 := (n, .inl fun _ => 0)) (fun cA => rfl) (nI_pos (by omega)) (nI_clamp (by omega)) (by show n * 1 ≤ _; omega) (Nat.le_trans hc F.hR.2.2.1) (Nat.le_trans hs F.hR.2.2.2) hdg (fun q cA H1 hK1 hP1 hD1 hS1 => ?_)
  have e := ra_eq hK1 6 rfl
  subst e
  exact kk q H1 locs ls (by rw [← hM' q, fl_snoc]; exact hP1) (by rw [← hM' q, fl_snoc]; exact hD1) hS1 h
theorem g_newO (pc pc' : Nat) (F : Ok K X own nm cc nL ret d mc ms) {C : String} {index : Nat} (t : Nat) (ht : (gl_ty X)[t]? = some (X.1.2 t, .object C)) (hcl : Cond.classLink own index C ∈ lw_all) (hao : va_AO C (kS K)) (hdg : decode cc pc = .ok (.anewarray index, 3)) (h' : pc + 3 = pc') {n : Nat} (hn : n ≤ 100000) {c2 s2 : Nat} (hc : c2 ≤ mc) (hs : s2 ≤ ms) (hc2 : cells + 1 = c2) (hs2 : slots + n = s2) {M' : Nat → List va_W} (hM' : ∀ q, M ++ [[(q, oA X t n (fun _ => none))]] = M' q)
    (kk : ∀ q, G K X nL c2 s2 (M' q) l pc' (.ref q :: st)) : G K X nL cells slots M l pc (.int (nI n) :: st) := by
  subst h' hc2 hs2
  intro H locs ls hP hD hS h
  refine va_newq F.hx F.hb F.hown (F.hts _ hcl) hao F.hK hP hD hS F.hA (nI_pos (by omega)) (nI_clamp (by omega)) (by omega) (Nat.le_trans hc F.hR.2.2.1) (Nat.le_trans hs F.hR.2.2.2) hdg (fun q cA H1 hK1 hP1 hD1 hS1 => ?_)
  have e := ra_eq hK1 t ht
  subst e
  exact kk q H1 locs ls (by rw [← hM' q, fl_snoc]; exact hP1) (by rw [← hM' q, fl_snoc]; exact hD1) hS1 h
theorem g_new (pc pc' : Nat) (F : Ok K X own nm cc nL ret d mc ms) {C : String} {T : u_T} {N ci index : Nat} (hin : ∀ w ∈ u_ws C T N, w ∈ lw_all) (ty : Nat → FieldType) (hty : ∀ k, k < N → parseFieldDescriptor (T k).2.2.1 = some (ty k)) (hcl : Cond.classLink own index C ∈ lw_all) (hinst : Cond.instantiable C N ∈ lw_all) (hini : Cond.initialized C ∈ lw_all) (hc : gl_cl[ci]? = some (C, T, N)) {fs : List Value} (hfs : ∀ j, j < N → defaultValue (ty j) = vp_V fs j)
    (hdg : decode cc pc = .ok (.new index, 3)) (h' : pc + 3 = pc') {c2 s2 : Nat} (hcs : c2 ≤ mc) (hss : s2 ≤ ms) (hc2 : cells + 1 = c2) (hs2 : slots + N = s2) {M' : Nat → List va_W} (hM' : ∀ q, M ++ [[(q, ob ci fs)]] = M' q)
    (kk : ∀ q, G K X nL c2 s2 (M' q) l pc' (.ref q :: st)) : G K X nL cells slots M l pc st := by
  subst h' hc2 hs2
  intro H locs ls hP hD hS h
  refine va_new F.hx F.hb F.hts hin ty hty F.hown (F.hts _ hcl) (F.hts _ hinst) (F.hts _ hini) F.hK hP hD hS F.hA hc hfs (Nat.le_trans hcs F.hR.2.2.1) (Nat.le_trans hss F.hR.2.2.2) hdg (fun q H1 hP1 hD1 hS1 => ?_)
  exact kk q H1 locs ls (by rw [← hM' q, fl_snoc]; exact hP1) (by rw [← hM' q, fl_snoc]; exact hD1) hS1 h
theorem g_objInit (pc pc' : Nat) (F : Ok K X own nm cc nL ret d mc ms) {idx : Nat} (h1 : Cond.methodLink own idx objectInit ∈ lw_all) (h2 : Cond.instanceMethod objectInit ∈ lw_all) (h3 : Cond.code objectInit ⟨#[0xb1]⟩ 1 none ∈ lw_all) (hdg : decode cc pc = .ok (.invokespecial idx, 3)) (h' : pc + 3 = pc') (hd1 : 1 ≤ d) {a : Nat}
    (hr : (st.map fun v => v.category).sum ≤ 8) (kk : G K X nL cells slots M l pc' st) : G K X nL cells slots M l pc (.ref a :: st) := by
  subst h'
  intro H locs ls hP hD hS h
  refine W.objInit F.hx F.hb F.hown (F.hts _ h1) (F.hts _ h2) (F.hts _ h3) rfl (by rw [F.hml]; exact h.1) rfl hdg ?_ ?_ (kk H locs ls hP hD hS h)
  · have := F.hR.1; omega
  · have := F.hR.2.1
    show 2 * 0 + (st.map fun v => v.category).sum + 12 ≤ (kR K).locals
    omega
theorem g_mmax (pc pc' : Nat) (F : Ok K X own nm cc nL ret d mc ms) {index : Nat} {x y v : Int32} (h1 : Cond.methodLink own index Lib.Math.max.name ∈ lw_all) (h2 : Cond.static Lib.Math.max.name ∈ lw_all) (h3 : Cond.initialized "java/lang/Math" ∈ lw_all) (h4 : Cond.code Lib.Math.max.name Lib.Math.max.code 2 (some .int) ∈ lw_all) (hdg : decode cc pc = .ok (.invokestatic index, 3)) (h' : pc + 3 = pc') (hd1 : 1 ≤ d) (hr : (st.map fun v => v.category).sum ≤ 8) (hc : cells ≤ mc) (hs : slots ≤ ms) (hv : (if x < y then y else x) = v) (k : G K X nL cells slots M l pc' (.int v :: st)) : G K X nL cells slots M l pc (.int y :: .int x :: st) := by
  subst h' hv
  intro H locs ls hP hD hS h
  exact va_mmax F.hx F.hb (by rw [F.hml]; exact h.1.symm) F.hown (F.hts _ h1) (F.hts _ h2) (F.hts _ h3) (F.hts _ h4) (by have := F.hR.1; omega) (by have := F.hR.2.1; omega) (Nat.le_trans hc F.hR.2.2.1) (Nat.le_trans hs F.hR.2.2.2) hdg (k H locs ls hP hD hS h)
theorem g_mmin (pc pc' : Nat) (F : Ok K X own nm cc nL ret d mc ms) {index : Nat} {x y v : Int32} (h1 : Cond.methodLink own index Lib.Math.min.name ∈ lw_all) (h2 : Cond.static Lib.Math.min.name ∈ lw_all) (h3 : Cond.initialized "java/lang/Math" ∈ lw_all) (h4 : Cond.code Lib.Math.min.name Lib.Math.min.code 2 (some .int) ∈ lw_all) (hdg : decode cc pc = .ok (.invokestatic index, 3)) (h' : pc + 3 = pc') (hd1 : 1 ≤ d) (hr : (st.map fun v => v.category).sum ≤ 8) (hc : cells ≤ mc) (hs : slots ≤ ms) (hv : (if y < x then y else x) = v) (k : G K X nL cells slots M l pc' (.int v :: st)) : G K X nL cells slots M l pc (.int y :: .int x :: st) := by
  subst h' hv
  intro H locs ls hP hD hS h
  exact va_mmin F.hx F.hb (by rw [F.hml]; exact h.1.symm) F.hown (F.hts _ h1) (F.hts _ h2) (F.hts _ h3) (F.hts _ h4) (by have := F.hR.1; omega) (by have := F.hR.2.1; omega) (Nat.le_trans hc F.hR.2.2.1) (Nat.le_trans hs F.hR.2.2.2) hdg (k H locs ls hP hD hS h)
theorem g_mabs (pc pc' : Nat) (F : Ok K X own nm cc nL ret d mc ms) {index : Nat} {x v : Int32} (h1 : Cond.methodLink own index Lib.Math.abs.name ∈ lw_all) (h2 : Cond.static Lib.Math.abs.name ∈ lw_all) (h3 : Cond.initialized "java/lang/Math" ∈ lw_all) (h4 : Cond.code Lib.Math.abs.name Lib.Math.abs.code 1 (some .int) ∈ lw_all) (hdg : decode cc pc = .ok (.invokestatic index, 3)) (h' : pc + 3 = pc') (hd1 : 1 ≤ d) (hr : (st.map fun v => v.category).sum ≤ 8) (hc : cells ≤ mc) (hs : slots ≤ ms) (hv : (if 0 ≤ x then x else 0 - x) = v) (k : G K X nL cells slots M l pc' (.int v :: st)) : G K X nL cells slots M l pc (.int x :: st) := by
  subst h' hv
  intro H locs ls hP hD hS h
  exact va_mabs F.hx F.hb (by rw [F.hml]; exact h.1.symm) F.hown (F.hts _ h1) (F.hts _ h2) (F.hts _ h3) (F.hts _ h4) (by have := F.hR.1; omega) (by have := F.hR.2.1; omega) (Nat.le_trans hc F.hR.2.2.1) (Nat.le_trans hs F.hR.2.2.2) hdg (k H locs ls hP hD hS h)
end MEM
