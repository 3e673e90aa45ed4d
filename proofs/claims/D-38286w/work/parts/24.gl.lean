/-! G: interface calls, casts, places for objects, the empty array, pools that grow -/
section GLS
variable {K : gk_K} {X : gk_X} {own nm : String} {cc : ByteArray} {nL : Nat} {ret : Option FieldType} {d mc ms : Nat} {cells slots : Nat} {M : List va_W} {l : List (Nat × Value)} {st : List Value}
theorem lw_F {own : String} {idx : Nat} {C : String} {x y : MethodName} {b : ByteArray} {L : Nat} {r : Option FieldType} (h1 : Cond.methodLink own idx x ∈ lw_all) (h2 : Cond.selects C x y ∈ lw_all) (h3 : Cond.instanceMethod y ∈ lw_all) (h4 : Cond.initialized y.cls ∈ lw_all) (h5 : Cond.code y b L r ∈ lw_all) : GoodIn lw_all (va_wsF own idx C x y (ws_ y b L r)) := by
  refine lw_app ?_ (lw_meth h5)
  intro w hw
  simp only [List.mem_cons, List.not_mem_nil, or_false] at hw
  rcases hw with e | e | e | e
  · rw [e]; exact h1
  · rw [e]; exact h2
  · rw [e]; exact h3
  · rw [e]; exact h4
theorem CallOk.F (F : Ok K X own nm cc nL ret d mc ms) {C : String} {T : u_T} {N ci : Nat} {b : Nat} {x y : MethodName} {cc' : ByteArray} {nL' : Nat} {ret' : Option FieldType} {idx count pc : Nat} {As rest st0 : List Value} (n : Nat) (hci : gl_cl[ci]? = some (C, T, N)) (h1 : Cond.methodLink own idx x ∈ lw_all) (h2 : Cond.selects C x y ∈ lw_all) (h3 : Cond.instanceMethod y ∈ lw_all) (h4 : Cond.initialized y.cls ∈ lw_all) (h5 : Cond.code y cc' nL' ret' ∈ lw_all) (hF : va_Fw C x y (kS K))
    (hd : x.cls ≠ "java/lang/invoke/MethodHandle" ∧ x.cls ≠ "java/lang/invoke/VarHandle" ∧ (parseMethodDescriptor x.desc).map (fun d => d.parameters.length) = some n) (hn : As.length = n) (hst : st0 = As.reverse ++ .ref b :: rest) (hr : (rest.map fun v => v.category).sum ≤ 8) (hl : nL' ≤ 40) (hdg : decode cc pc = .ok (.invokeinterface idx count, 5)) :
    CallOk K 5 nL pc st0 rest (.ref b :: As) y (ws_ y cc' nL' ret') d (rcV K C b) := by
  intro d' mc' ms' Pc Qc free hM hbl hdd H locs cells slots ls hsz hrc hpre hc hs
  exact va_runF (F.hK.1 ci _ hci).2 F.fx hM (va_cwF n F.hts (lw_F h1 h2 h3 h4 h5) rfl rfl rfl hF hd (rm_fits F hdd hl)) ⟨hbl, hrc, hpre⟩ rfl hn hsz hst (lv_room (rest := st0) hr) hdg ⟨hc, hs⟩
/-- a class table's row stands for a checked cast to its own class -/
theorem g_cast (pc pc' : Nat) (F : Ok K X own nm cc nL ret d mc ms) {C : String} {T : u_T} {N ci index : Nat} (hci : gl_cl[ci]? = some (C, T, N)) (hcl : Cond.classLink own index C ∈ lw_all) (hdg : decode cc pc = .ok (.checkcast index, 3)) (h' : pc + 3 = pc') {a : Nat} {fs : List Value} (hM : (a, ob ci fs) ∈ M.flatten)
    (kk : G K X nL cells slots M l pc' (.ref a :: st)) : G K X nL cells slots M l pc (.ref a :: st) := by
  subst h'
  intro H locs ls hP hD hS h
  obtain ⟨q, hq⟩ := List.getElem?_of_mem hM
  exact va_castS F.hx F.hb F.hown (F.hts _ hcl) (F.hK.1 ci _ hci).2 (va_recv F.hK hP hci hq) hdg (kk H locs ls hP hD hS h)
/-- an object laid into an array of Objects -/
theorem g_oastO (pc pc' : Nat) (F : Ok K X own nm cc nL ret d mc ms) {C : String} {T : u_T} {N ci : Nat} {vs : List Value} (hdg : decode cc pc = .ok (.aastore, 1)) (h' : pc + 1 = pc') (bi : Nat) {a n i v : Nat} {f : Nat → Option Nat} (hM : M[bi]? = some [(a, oA X 4 n f)]) (hV : (v, ob ci vs) ∈ M.flatten) (hci : gl_cl[ci]? = some (C, T, N)) (hca : Cond.castable C "java/lang/Object" ∈ lw_tbl) (hn : n < 2 ^ 31) (hi : i < n) {f' : Nat → Option Nat} (hf : va_up f i (some v) = f') {M' : List va_W} (hM' : M.set bi [(a, oA X 4 n f')] = M')
    (kk : G K X nL cells slots M' l pc' st) : G K X nL cells slots M l pc (.ref v :: .int (nI i) :: .ref a :: st) := by
  subst h' hM' hf
  intro H locs ls hP hD hS h
  obtain ⟨q, hq, hs⟩ := fl_set hM
  obtain ⟨q2, hq2⟩ := List.getElem?_of_mem hV
  have hany : va_Any "java/lang/Object" (kS K) H v := va_rAny F.hK hP hq2 hci (fun comp c0 f1 f2 => by
    obtain ⟨c1, t1, g1, g2, g3⟩ := Cond.castable_spec (va_Nw.use (A := kAr K) rfl (F.tw hca rfl))
    cases f1.symm.trans g2
    cases f2.symm.trans g1
    exact g3)
  refine va_astqM F.hx F.hb F.hK hP hD hS q 4 hq rfl hany (vp_in_nI hi hn) hdg (fun H1 locs1 hP1 hD1 hS1 => ?_)
  rw [nI_clamp (by omega)] at hP1 hD1
  exact kk H1 locs1 ls (by rw [hs]; exact hP1) (by rw [hs]; exact hD1) hS1 h
/-- the length of a constant array -/
theorem g_tlen (pc pc' : Nat) (F : Ok K X own nm cc nL ret d mc ms) {ty : FieldType} {t N : Nat} {f : Nat → Value} (hT : va_T ty t N f (kA K) (kS K) (kS K).heap) (hdg : decode cc pc = .ok (.arraylength, 1)) (h' : pc + 1 = pc')
    (kk : G K X nL cells slots M l pc' (.int (nI N) :: st)) : G K X nL cells slots M l pc (.ref t :: st) := by
  subst h'
  intro H locs ls hP hD hS h
  exact va_tlen F.hx F.hb hT hS rfl hdg (kk H locs ls hP hD hS h)
/-- one more element of a pool -/
theorem g_padd {pc n : Nat} {f : Nat → va_W} (Bs rest : List va_W) {M0 : List va_W} (hM : M0 = Bs ++ poolW n f :: rest) (g : Nat → va_W) (hB : Bs.flatten = g n) (hg : ∀ j, j < n → f j = g j) (k : G K X nL cells slots (poolW (n + 1) g :: rest) l pc st) : G K X nL cells slots M0 l pc st := by
  subst hM
  refine g_perm _ ?_ k
  simp only [List.flatten_append, List.flatten_cons, hB, poolW_succ, poolW_congr hg]
  rw [← List.append_assoc]
  exact (List.perm_append_comm).append_right _
/-- no element at all -/
theorem g_pnil {pc : Nat} (f : Nat → va_W) (k : G K X nL cells slots (poolW 0 f :: M) l pc st) : G K X nL cells slots M l pc st := by
  refine g_perm _ ?_ k
  show ((poolW 0 f :: M).flatten).Perm M.flatten
  exact List.Perm.refl _
end GLS
