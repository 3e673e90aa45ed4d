/-! contracts of callees whose class is not known to be initialised; the kinds' calls and their array; edges in a pool -/
def CtPU (l : Launch) (X : gk_X) (y : MethodName) (cc : ByteArray) (nL : Nat) (ret : Option FieldType) (d mc ms : Nat) (As : List Value) (r : Option Value) : Prop :=
  ∀ sz : Nat, uMet l y (ws_ y cc nL ret) (rmD d mc ms) (va_Pc As (Pst l X [] sz)) (Qst X (va_A ([] : List va_W).flatten sz) (fun v M' => v = r ∧ M' = [])) mc ms (va_A ([] : List va_W).flatten sz)
theorem CtPU.of {l : Launch} {X : gk_X} {y : MethodName} {cc : ByteArray} {nL : Nat} {ret : Option FieldType} {d mc ms : Nat} {As : List Value} {r : Option Value} (hy : plainName y.cls = true) (hn : (lg_sl As).length ≤ nL) (own nm : String) (ho : y.cls = own) (hnm : y.name = nm)
    (body : ∀ K : gk_K, Ok K X own nm cc nL ret d mc ms → kL K = l → Rt K X (fun v M' => v = r ∧ M' = []) mc ms → G K X nL 0 0 [] (lv_args 0 As) 0 []) : CtPU l X y cc nL ret d mc ms As r := by
  intro sz
  refine uMet.ofW (cc := cc) (maxL := nL) (ret := ret) hy rfl ?_
  intro p e s m args below meth c hx hnamed hmeth hb hml hr hlk hws hv
  obtain ⟨rfl, hsz, hP, hD, hW, hS⟩ := hv
  have hts : ∀ w ∈ lw_all, w.before As.toArray s = true := fun w h => hws w (List.mem_cons_of_mem _ h)
  have hown : s.vm.findClass y.cls = some m.cls := findClass_of_methodNamed hnamed
  have hin : meth.name = y.name := (name_of_methodNamed hnamed hmeth).1
  have hA0 : ∀ q, va_A ([] : List va_W).flatten sz q → gl_A X q := by
    intro q h
    rcases h with ⟨k, e, h⟩ | h
    · exact hD.2 k (q, e) h
    · exact Nat.le_trans hW.1 (by rw [hsz]; exact h)
  have h1 := body ((p, l, e, rmD d mc ms), (s, m, As.toArray, below), (meth, c), va_A ([] : List va_W).flatten sz, MQ below (Qst X (va_A ([] : List va_W).flatten sz) (fun v M' => v = r ∧ M' = [])) As.toArray s mc ms (va_A ([] : List va_W).flatten sz))
    ⟨⟨hx, hb, hml, hr, hlk, by rw [← ho]; exact hown, hts⟩, ⟨fun q h => Or.inr (by rw [← hsz]; exact h), hA0⟩, hW, hS, ⟨Nat.le_refl _, Nat.le_refl _, Nat.le_refl _, Nat.le_refl _⟩, by rw [← hnm]; exact hin⟩ rfl (fun H locs g h => h)
  rw [lg_entry_eq]
  exact h1 s.heap [] _ hP hD.self va_S.rf (lv_entry As hn)
theorem u_X12_isShut (l : Launch) (X : gk_X) (a : Nat) (h u : Int32) : CtPU l X yX12_isShut cX12_isShut 3 (some .boolean) 1 0 0 [.ref a, .int (h), .int (u)] (some (.int (bI (false)))) := by
  refine CtPU.of (by decide) (Nat.le_of_ble_eq_true rfl) "Bumpward$Kind$1" "isShut" rfl rfl (fun K F eL R => ?_)
  show G K X 3 0 0 [] [(0, .ref a), (1, .int (h)), (2, .int (u))] 0 []
  refine g_iconst 0 1 F (nI (0)) dX12_isShut_0 rfl (by decide) ?_
  exact g_zret 1 F R dX12_isShut_1 (Nat.zero_le _) (Nat.zero_le _) (by decide) (⟨congrArg (fun z => some (Value.int z)) (rfl), rfl⟩)
theorem u_X13_isShut (l : Launch) (X : gk_X) (a : Nat) (h u : Int32) : CtPU l X yX13_isShut cX13_isShut 3 (some .boolean) 1 0 0 [.ref a, .int (h), .int (u)] (some (.int (bI (decide ((h >>> (u &&& 31)) &&& nI 1 = 0))))) := by
  refine CtPU.of (by decide) (Nat.le_of_ble_eq_true rfl) "Bumpward$Kind$2" "isShut" rfl rfl (fun K F eL R => ?_)
  show G K X 3 0 0 [] [(0, .ref a), (1, .int (h)), (2, .int (u))] 0 []
  refine g_iload_n 0 1 F dX13_isShut_0 rfl rfl 1 rfl ?_
  refine g_iload_n 1 2 F dX13_isShut_1 rfl rfl 2 rfl ?_
  refine g_ishr 2 3 F (v := h >>> (u &&& 31)) dX13_isShut_2 rfl (rfl) ?_
  refine g_iconst 3 4 F (nI (1)) dX13_isShut_3 rfl (by decide) ?_
  refine g_iand 4 5 F (v := (h >>> (u &&& 31)) &&& (nI (1))) dX13_isShut_4 rfl (rfl) ?_
  refine g_diaZ_ne 5 12 13 F dX13_isShut_5 (by decide) dX13_isShut_8 dX13_isShut_9 (by decide) dX13_isShut_12 rfl ?_
  exact g_bret 13 F R dX13_isShut_13 (Nat.zero_le _) (Nat.zero_le _) (⟨congrArg (fun z => some (Value.int z)) (rfl), rfl⟩)
section GCU
variable {K : gk_K} {X : gk_X} {own nm : String} {cc : ByteArray} {nL : Nat} {ret : Option FieldType} {d mc ms : Nat} {pc : Nat} {rest As st0 : List Value} {y : MethodName} {cc' : ByteArray} {nL' : Nat} {ret' : Option FieldType} {idx : Nat}
/-- a call of an overriding method on a constant object, its class not known to be initialised -/
theorem g_callCU (pc' : Nat) (F : Ok K X own nm cc nL ret d mc ms) {C owner : String} {x : MethodName} {b : Nat} (hO : va_O C b (kA K) (kS K) (kS K).heap) (n : Nat) (h1 : Cond.methodLink own idx x ∈ lw_all) (h2 : Cond.sameMethod x.cls owner x.name x.desc ∈ lw_all) (h0 : Cond.instanceMethod ⟨owner, x.name, x.desc⟩ ∈ lw_all) (h3 : Cond.selects C x y ∈ lw_all) (h4 : Cond.instanceMethod y ∈ lw_all) (h6 : Cond.code y cc' nL' ret' ∈ lw_all)
    {b0 : ByteArray} {m0 : Nat} {r0 : Option FieldType} (hx : Cond.code ⟨owner, x.name, x.desc⟩ b0 m0 r0 ∈ lw_all)
    (hd : owner ≠ "java/lang/invoke/MethodHandle" ∧ owner ≠ "java/lang/invoke/VarHandle" ∧ (parseMethodDescriptor x.desc).map (fun d => d.parameters.length) = some n) (hn : As.length = n) (hst : st0 = As.reverse ++ .ref b :: rest) (hr : (rest.map fun v => v.category).sum ≤ 8) (hl : nL' ≤ 40) (hdg : decode cc pc = .ok (.invokevirtual idx, 3))
    {d' : Nat} {r : Option Value} (hM : CtPU (kL K) X y cc' nL' ret' d' 0 0 (.ref b :: As) r) (h' : pc + 3 = pc')
    {M : List va_W} (isR : List Nat) (hnd : va_nd isR = true) (hR : isR.map (fun i => M[i]?) = M.map some) (hdd : d' + 1 ≤ d) {cells slots : Nat} (hc1 : cells ≤ mc) (hs1 : slots ≤ ms) {st1 : List Value} (hst1 : r.toList ++ rest = st1) {l : List (Nat × Value)}
    (k : G K X nL cells slots M l pc' st1) : G K X nL cells slots M l pc st0 := by
  subst h' hst1
  intro H locs ls hP hD hS hl0
  obtain ⟨hpre, hF⟩ := g_call_pre (M := M) (Mc := []) (As := .ref b :: As) F [] rfl rfl hP hD hS
  have fit := rm_fits (d' := d') (mc' := 0) (ms' := 0) F hdd hl
  have run : va_Run (kP K) (kL K) (kE K) (kR K) (kS K) (kM K) (kAr K) (kBe K) (kMe K) (kC K) H locs cells slots 0 0 (F0 (kM K) pc ls st0) rest (Qst X (va_A ([] : List va_W).flatten H.size) (fun v M' => v = r ∧ M' = []) (Value.ref b :: As).toArray) (va_A ([] : List va_W).flatten H.size) :=
    uRunO (bytes := cc') (maxL := nL') (ret := ret') (owner := owner) (x := x) (n := n) F.fx (hM H.size) rfl rfl fit.1 fit.2 (pay_in F.hts (lw_meth h6)) List.mem_cons_self (F.hts _ h6) (F.hts _ h1) (F.hts _ h2) (va_Decl.of (F.hts _ h0) (F.hts _ hx)) ⟨hd.1, hd.2.1⟩ (F.hts _ h3) (F.hts _ h4) (fun sig h => by
      have h9 := hd.2.2
      rw [h] at h9
      exact (Option.some.inj h9).symm) ⟨pst_blind _ _ _ _ _, rc_con hO hS, hpre⟩ rfl hn hl0.1 hst (lv_room (rest := st0) hr) hdg ⟨Nat.le_trans hc1 F.hR.2.2.1, Nat.le_trans hs1 F.hR.2.2.2⟩
  intro T hT Xs
  obtain ⟨v, st₀, t, T', L, h0, X', hL, e1, e2, ⟨⟨v', M1, hv, ⟨hp1, hp2⟩, hP1, hD1⟩, hFr⟩, stp⟩ := run T hT Xs
  cases hv
  subst hp1 hp2
  obtain ⟨k1, k2, k3⟩ := vx_keep h0 e1 hS (fun q _ h => hF q h) hF hL hFr
  obtain ⟨j1, j2⟩ := g_joined (M := M) (Mc := []) (Mr := M) [] isR rfl hR hnd hP hD hF k2 (by rw [e1]; exact hP1) hD1
  rw [List.append_nil] at j1 j2
  obtain ⟨t2, a1, b1⟩ := k T'.heap (locs ++ L) ls j1 j2 k3 hl0 T' rfl X'
  exact ⟨t2, stp t2 a1, b1⟩
end GCU
section GKC
variable {K : gk_K} {X : gk_X} {own nm : String} {cc : ByteArray} {nL : Nat} {ret : Option FieldType} {d mc ms : Nat} {cells slots : Nat} {M : List va_W} {l : List (Nat × Value)} {st : List Value}
theorem k3 {k : Nat} (hk : k < 3) : k = 0 ∨ k = 1 ∨ k = 2 := by omega
/-- kind.ordinal() -/
theorem g_ordK (pc pc' : Nat) (F : Ok K X own nm cc nL ret d mc ms) {k idx : Nat} (hk : k < 3) (h1 : Cond.methodLink own idx ⟨"Bumpward$Kind", "ordinal", "()I"⟩ ∈ lw_all) (hdg : decode cc pc = .ok (.invokevirtual idx, 3)) (h' : pc + 3 = pc') (hr : (st.map fun v => v.category).sum ≤ 8) (hd : 2 ≤ d) (isR : List Nat) (hnd : va_nd isR = true) (hR : isR.map (fun i => M[i]?) = M.map some) (hc : cells ≤ mc) (hs : slots ≤ ms)
    (kk : G K X nL cells slots M l pc' (.int (nI k) :: st)) : G K X nL cells slots M l pc (.ref (X.2.2 k) :: st) := by
  have hp : "java/lang/Enum" ≠ "java/lang/invoke/MethodHandle" ∧ "java/lang/Enum" ≠ "java/lang/invoke/VarHandle" ∧ (parseMethodDescriptor (⟨"Bumpward$Kind", "ordinal", "()I"⟩ : MethodName).desc).map (fun d => d.parameters.length) = some 0 := by decide +kernel
  rcases k3 hk with h | h | h <;> subst h
  · exact g_callC 3 pc' F F.con.1.2.1.1 (CallOk.U (C := "Bumpward$Kind$1") (owner := "java/lang/Enum") (x := ⟨"Bumpward$Kind", "ordinal", "()I"⟩) (As := []) (rest := st) F 0 h1 q399 q402 q404 q56 q405 rfl hp rfl rfl hr (Nat.le_of_ble_eq_true rfl) hdg) (m_J3_ordinal (kL K) X 0 (by decide)) h' isR hnd hR hd hc hs rfl rfl rfl kk
  · exact g_callC 3 pc' F F.con.1.2.1.2.1 (CallOk.U (C := "Bumpward$Kind") (owner := "java/lang/Enum") (x := ⟨"Bumpward$Kind", "ordinal", "()I"⟩) (As := []) (rest := st) F 0 h1 q399 q401 q404 q56 q405 rfl hp rfl rfl hr (Nat.le_of_ble_eq_true rfl) hdg) (m_J3_ordinal (kL K) X 1 (by decide)) h' isR hnd hR hd hc hs rfl rfl rfl kk
  · exact g_callC 3 pc' F F.con.1.2.1.2.2 (CallOk.U (C := "Bumpward$Kind$2") (owner := "java/lang/Enum") (x := ⟨"Bumpward$Kind", "ordinal", "()I"⟩) (As := []) (rest := st) F 0 h1 q399 q403 q404 q56 q405 rfl hp rfl rfl hr (Nat.le_of_ble_eq_true rfl) hdg) (m_J3_ordinal (kL K) X 2 (by decide)) h' isR hnd hR hd hc hs rfl rfl rfl kk
def esB (k : Nat) (h u : Int32) : Bool := decide (k = 1) || (decide (k = 2) && decide ((h >>> (u &&& 31)) &&& nI 1 = 0))
/-- kind.isShut(hours, hour), as Edge calls it -/
theorem g_shutK (pc pc' : Nat) (F : Ok K X "Bumpward$Edge" nm cc nL ret d mc ms) {k : Nat} {h u : Int32} (hk : k < 3) (hdg : decode cc pc = .ok (.invokevirtual 22, 3)) (h' : pc + 3 = pc') (hr : (st.map fun v => v.category).sum ≤ 8) (hd : 2 ≤ d) (isR : List Nat) (hnd : va_nd isR = true) (hR : isR.map (fun i => M[i]?) = M.map some) (hc : cells ≤ mc) (hs : slots ≤ ms)
    (kk : G K X nL cells slots M l pc' (.int (bI (esB k h u)) :: st)) : G K X nL cells slots M l pc (.int u :: .int h :: .ref (X.2.2 k) :: st) := by
  have hp : "Bumpward$Kind" ≠ "java/lang/invoke/MethodHandle" ∧ "Bumpward$Kind" ≠ "java/lang/invoke/VarHandle" ∧ (parseMethodDescriptor (⟨"Bumpward$Kind", "isShut", "(II)Z"⟩ : MethodName).desc).map (fun d => d.parameters.length) = some 2 := by decide +kernel
  rcases k3 hk with e | e | e <;> subst e
  · exact g_callCU pc' F F.con.1.2.1.1 (C := "Bumpward$Kind$1") (owner := "Bumpward$Kind") (x := ⟨"Bumpward$Kind", "isShut", "(II)Z"⟩) (As := [.int h, .int u]) (rest := st) 2 q280 q283 q281 q284 q285 q286 q290 hp rfl rfl hr (Nat.le_of_ble_eq_true rfl) hdg (u_X12_isShut (kL K) X (X.2.2 0) h u) h' isR hnd hR hd hc hs rfl kk
  · exact g_callC 3 pc' F F.con.1.2.1.2.1 (CallOk.V (C := "Bumpward$Kind") (As := [.int h, .int u]) (rest := st) F 2 q280 q281 q282 q57 q290 ⟨rfl, hp⟩ rfl rfl hr (Nat.le_of_ble_eq_true rfl) hdg) (m_X5_isShut (kL K) X (X.2.2 1) h u) h' isR hnd hR hd hc hs rfl rfl rfl kk
  · exact g_callCU pc' F F.con.1.2.1.2.2 (C := "Bumpward$Kind$2") (owner := "Bumpward$Kind") (x := ⟨"Bumpward$Kind", "isShut", "(II)Z"⟩) (As := [.int h, .int u]) (rest := st) 2 q280 q283 q281 q287 q288 q289 q290 hp rfl rfl hr (Nat.le_of_ble_eq_true rfl) hdg (u_X13_isShut (kL K) X (X.2.2 2) h u) h' isR hnd hR hd hc hs rfl kk
/-- Kind.$VALUES.clone() -/
theorem g_cloneK (pc pc' : Nat) (F : Ok K X "Bumpward$Kind" nm cc nL ret d mc ms) (hdg : decode cc pc = .ok (.invokevirtual 17, 3)) (h' : pc + 3 = pc') (hr : (st.map fun v => v.category).sum + 14 ≤ 64 * d) (hd : 1 ≤ d) {c2 s2 : Nat} (hc : c2 ≤ mc) (hs : s2 ≤ ms) (hc2 : cells + 1 = c2) (hs2 : slots + 3 = s2) {M' : Nat → List va_W} (hM' : ∀ q, M ++ [[(q, oA X 3 3 (fun j => some (X.2.2 j)))]] = M' q)
    (kk : ∀ q, G K X nL c2 s2 (M' q) l pc' (.ref q :: st)) : G K X nL cells slots M l pc (.ref (X.2.2 3) :: st) := by
  subst h' hc2 hs2
  intro H locs ls hP hD hS hl
  have hcon := F.con.1.2.2.2.2.1
  have hcH : H[X.2.2 3]? = some (vp_cell (X.1.2 3) (3, .inr (.inr (.inr (.inr (fun j => some (X.2.2 j))))))) := by
    rw [hS.2.1 _ (Array.getElem?_eq_some_iff.mp hcon.1).1 hcon.2]; exact hcon.1
  let B : Nat → Prop := fun q => kA K q ∨ q = X.2.2 3
  let x : Nat × va_E := (X.2.2 3, .inl (X.1.2 3, 3, .inr (.inr (.inr (.inr (fun j => some (X.2.2 j)))))))
  have hP1 : va_P X.1.1 gl_cl (M.flatten ++ [x]) H := vaP_iff.mpr fun q hq => by
    rcases List.mem_append.mp hq with h | h
    · exact vaP_iff.mp hP q h
    · rw [List.mem_singleton.mp h]; exact hcH
  have hD1 : va_D B (M.flatten ++ [x]) := vaD_iff.mpr ⟨List.pairwise_append.mpr ⟨(vaD_iff.mp hD).1, by simp, fun p hp q hq e => by
      rw [List.mem_singleton.mp hq] at e
      exact hcon.2 (by rw [← show p.1 = X.2.2 3 from e]; exact (vaD_iff.mp hD).2 p hp)⟩, fun q hq => by
      rcases List.mem_append.mp hq with h | h
      · exact Or.inl ((vaD_iff.mp hD).2 q h)
      · rw [List.mem_singleton.mp h]; exact Or.inr rfl⟩
  have hS1 : va_S B (kS K).heap H locs := ⟨hS.1, fun q h1 h2 => hS.2.1 q h1 (fun h => h2 (Or.inl h)), fun z hz => Or.inl (hS.2.2 z hz)⟩
  have hq0 : (M.flatten ++ [x])[M.flatten.length]? = some x := by simp
  have r2 := F.hR.2.1
  have r3 := F.hR.2.2.1
  have r4 := F.hR.2.2.2
  refine va_clone F.hx F.hb (F.hml.trans hl.1.symm) F.hown (F.hts _ q681) (F.hts _ q682) (F.hts _ q683) (F.hts _ q684) (F.hts _ q685) (F.tw q686 rfl) F.hK hP1 hD1 hS1 (fun q h => Or.inl (F.hA q h)) M.flatten.length 3 hq0 (ty := .object kdN) rfl (F.hK.2 3 _ rfl).2.nm (fun i v hv => ?_) (Nat.le_trans hd F.hR.1) (by omega) (by omega) (by show slots + 3 ≤ _; omega) hdg (fun q H1 hK1 hP2 hD2 hS2 => ?_)
  · by_cases hi : i < 3
    · have h1 : (vp_cell (X.1.2 3) (3, .inr (.inr (.inr (.inr (fun j => some (X.2.2 j))))))).slots[i]? = some (.ref (X.2.2 i)) := arrV_read (X.1.2 3) (fun j => va_rf (some (X.2.2 j))) hi
      rw [h1] at hv
      cases hv
      rfl
    · have h1 : (vp_cell (X.1.2 3) (3, .inr (.inr (.inr (.inr (fun j => some (X.2.2 j))))))).slots[i]? = none := Array.getElem?_eq_none (by
        show (arrV (X.1.2 3) 3 (fun j => va_rf (some (X.2.2 j)))).slots.size ≤ i
        rw [arrV_size]; omega)
      rw [h1] at hv
      cases hv
  · have hmem : ∀ z ∈ (M.flatten ++ [(q, oA X 3 3 (fun j => some (X.2.2 j)))]), z ∈ ((M.flatten ++ [x]) ++ [(q, oA X 3 3 (fun j => some (X.2.2 j)))]) := fun z hz => by
      rcases List.mem_append.mp hz with h | h
      · exact List.mem_append_left _ (List.mem_append_left _ h)
      · exact List.mem_append_right _ h
    have hp2 := List.pairwise_append.mp (vaD_iff.mp hD2).1
    have hqx : q ≠ X.2.2 3 := fun e => hp2.2.2 x (List.mem_append_right _ List.mem_cons_self) (q, oA X 3 3 (fun j => some (X.2.2 j))) List.mem_cons_self e.symm
    have hqA : kA K q := ((vaD_iff.mp hD2).2 (q, oA X 3 3 (fun j => some (X.2.2 j))) (List.mem_append_right _ List.mem_cons_self)).resolve_right hqx
    have hx1 : H1[X.2.2 3]? = H[X.2.2 3]? := (vaP_iff.mp hP2 x (List.mem_append_left _ (List.mem_append_right _ List.mem_cons_self))).trans hcH.symm
    refine kk q H1 locs ls ?_ ?_ ⟨hS2.1, fun z h1 h2 => ?_, hS.2.2⟩ hl
    · rw [← hM' q, fl_snoc]; exact vaP_iff.mpr fun z hz => vaP_iff.mp hP2 z (hmem z hz)
    · rw [← hM' q, fl_snoc]
      refine vaD_iff.mpr ⟨List.pairwise_append.mpr ⟨(vaD_iff.mp hD).1, by simp, fun p hp z hz => hp2.2.2 p (List.mem_append_left _ hp) z hz⟩, fun z hz => ?_⟩
      rcases List.mem_append.mp hz with h | h
      · exact (vaD_iff.mp hD).2 z h
      · rw [List.mem_singleton.mp h]; exact hqA
    · by_cases e : z = X.2.2 3
      · rw [e, hx1]; exact hS.2.1 _ (by rw [← e]; exact h1) hcon.2
      · exact hS2.2.1 z h1 (fun h => h.elim h2 e)
/-- a cast to an array's own class -/
theorem g_castA (pc pc' : Nat) (F : Ok K X own nm cc nL ret d mc ms) {index a : Nat} {x : vp_A} {nm2 : String} {t : Nat} {ty : FieldType} (hcl : Cond.classLink own index nm2 ∈ lw_all) (ht : (gl_ty X)[t]? = some (X.1.2 t, ty)) (hn : "[" ++ ty.toString = nm2) (hdg : decode cc pc = .ok (.checkcast index, 3)) (h' : pc + 3 = pc') (hM : (a, .inl (X.1.2 t, x)) ∈ M.flatten)
    (kk : G K X nL cells slots M l pc' (.ref a :: st)) : G K X nL cells slots M l pc (.ref a :: st) := by
  subst h'
  intro H locs ls hP hD hS h
  obtain ⟨q, hq⟩ := List.getElem?_of_mem hM
  exact va_castA F.hx F.hb F.hown (F.hts _ hcl) hP q hq (by rw [← hn]; exact (F.hK.2 t _ ht).2.nm) hdg (kk H locs ls hP hD hS h)
end GKC
theorem sh_bit (x : Int32) : (x &&& nI 1 = 0) ↔ ¬ (x &&& nI 1 = nI 1) := by
  have h : ∀ b : BitVec 32, (b &&& 1#32 = 0#32) ↔ ¬ (b &&& 1#32 = 1#32) := by
    intro b
    constructor
    · intro h1 h2; rw [h1] at h2; exact absurd h2 (by decide)
    · intro h1
      apply BitVec.eq_of_getLsbD_eq
      intro i hi
      by_cases h0 : i = 0
      · subst h0
        cases hb : b.getLsbD 0 with
        | false => rw [BitVec.getLsbD_and, hb, Bool.false_and, BitVec.getLsbD_zero]
        | true =>
          refine absurd ?_ h1
          apply BitVec.eq_of_getLsbD_eq
          intro j hj
          by_cases hj0 : j = 0
          · subst hj0; simp [hb]
          · simp [BitVec.getLsbD_one, hj0]
      · simp [BitVec.getLsbD_one, h0]
  constructor
  · intro h1 h2; exact (h x.toBitVec).mp (congrArg Int32.toBitVec h1) (congrArg Int32.toBitVec h2)
  · intro h1; exact Int32.toBitVec_inj.mp ((h x.toBitVec).mpr (fun q => h1 (Int32.toBitVec_inj.mp q)))
theorem es_sh {k : Nat} {h mi : Int32} : esB k h (hrI mi) = shB k h mi := by
  unfold esB shB opB
  have := sh_bit (h >>> (hrI mi &&& 31))
  by_cases a : (h >>> (hrI mi &&& 31)) &&& nI 1 = 0
  · rw [decide_eq_true a, decide_eq_false (this.mp a)]; rfl
  · rw [decide_eq_false a]
    have h2 : (h >>> (hrI mi &&& 31)) &&& nI 1 = nI 1 := Decidable.byContradiction (fun q => a (this.mpr q))
    rw [decide_eq_true h2]; rfl
def edC (X : gk_X) (q k : Nat) (h : Int32) : va_W := [(q, ob 3 [.ref (X.2.2 k), .int h])]
theorem mem_ed {X : gk_X} {n k : Nat} {er kd : Nat → Nat} {hr : Nat → Int32} (hk : k < n) : (er k, ob 3 [.ref (X.2.2 (kd k)), .int (hr k)]) ∈ poolW n (fun j => edC X (er j) (kd j) (hr j)) := mem_pool hk (by simp [edC])
