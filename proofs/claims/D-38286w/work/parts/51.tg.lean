/-! throws of a text that stands in a local; constant objects as receivers; texts on the stack (vx_throwA: a text of EXCEPTIONS turned) -/
section VXTA
variable {p : Program} {l : Launch} {e : Env} {R : Room} {s : State} {m : MethodId} {args : Array Value} {below : List Frame} {meth : Method} {c : Code} {H : Heap} {locs : List Loc} {cells slots : Nat} {Q : State → Prop}
variable {mc ms : Nat} {free : Addr → Prop} {A0 A1 : Nat → Prop} {H0 : Heap} {a : Array Value} {ls : Array Slot} {st0 rest : List Value}
variable {Qc : Array Value → State → Outcome → State → Prop} {XC : String → State → State → Prop}
theorem vx_throwA {cc : ByteArray} {pc : Nat} (hexec : p.tables.exec = Jvm.exec) (hb : c.code = cc) (hl : l.stackTraces = false) {own cls : String} {names : List String} {ik ic mc ms sa : Nat} {kk : Fin 4} {A : Nat → Prop}
    (hown : s.vm.findClass own = some m.cls) (hcls : Bundle.fit cls = true) (hnames : ∀ n ∈ names, Bundle.fit n = true)
    (hk : (Cond.classLink own ik cls).before args s = true) (hini : (Cond.initialized cls).before args s = true) (hloc : ls[(kk : Nat)]? = some (.val (.ref sa))) (hat : ∀ w ∈ vx_atS own ic cls names, w.before args s = true)
    (hgood : ∀ w ∈ Cond.classLink own ik cls :: Cond.initialized cls :: vx_atS own ic cls names, vx_ot w = true)
    (hU : vx_Zq Bundle.tN "UNASSIGNED_STACK" Bundle.steD A s s.heap) (hN : vx_Zq Bundle.tN "SUPPRESSED_SENTINEL" Bundle.listD A s s.heap) (hS : va_S A s.heap H locs) (hsize : ls.size = c.maxLocals)
    (d0 : decode cc pc = .ok (.new ik, 3)) (d3 : decode cc (pc + 3) = .ok (.dup, 1)) (d4 : decode cc (pc + 4) = .ok (.aload_n kk, 1)) (d5 : decode cc (pc + 5) = .ok (.invokespecial ic, 3)) (d8 : decode cc (pc + 8) = .ok (.athrow, 1))
    (hout : ∀ x ∈ c.exceptionTable.toList, covers x (pc + 8) = false)
    (hRframes : names.length + 3 < R.frames) (hRlocals : (rest.map fun v => v.category).sum + (13 * (names.length + 1) + 43) ≤ R.locals) (hRcells : cells + 1 ≤ R.cells) (hRslots : slots + 6 ≤ R.slots) (hlocks : meth.locks = false)
    (hx : ∀ t : State, s.vm.Alike t.vm → H.size ≤ t.heap.size → (∀ q : Nat, q < H.size → t.heap[q]? = H[q]?) → XC cls s t)
    (hf : ∀ z ∈ locs, free z.base) (hc : cells + 1 ≤ mc) (hs : slots + 6 ≤ ms) :
    W p l e R s m args below meth c H locs cells slots (vx_MQ below Qc XC args s mc ms free) (F0 m pc ls rest) := by
  intro T hT X
  have htr : e.platform.stackTraces = false := (show e.platform.stackTraces = l.stackTraces by rw [X.admits.platform]).trans hl
  have Y := vx_rebase X (R' := { frames := R.frames, locals := R.locals, cells := 1, slots := 6 }) (Nat.le_refl _) (Nat.le_refl _) hRcells hRslots
  obtain ⟨s', hA⟩ : ∃ z, z = (T.setVm s.vm).setFrames (.invoking m args :: below) := ⟨_, rfl⟩
  rw [← hA] at Y
  have hvm : s'.vm = s.vm := by rw [hA]; rfl
  have hhp : s'.heap = H := by rw [hA]; exact hT
  have hW0 : s.WarmedH s'.vm := by rw [hvm]; exact State.WarmedH.refl s
  have hat' : ∀ w ∈ vx_atS own ic cls names, w.before args s' = true := fun w hw => vx_ot_at hW0 hvm.symm (hgood w (List.mem_cons_of_mem _ (List.mem_cons_of_mem _ hw))) (hat w hw)
  have hk' : (Cond.classLink own ik cls).before args s' = true := vx_ot_at hW0 hvm.symm (hgood _ List.mem_cons_self) hk
  have hini' : (Cond.initialized cls).before args s' = true := vx_ot_at hW0 hvm.symm (hgood _ (List.mem_cons_of_mem _ List.mem_cons_self)) hini
  have hU' : vx_Zq Bundle.tN "UNASSIGNED_STACK" Bundle.steD A s' s'.heap := by rw [hhp]; exact vx_Zq.moved hW0.alike (hU.kept hS.2.1)
  have hN' : vx_Zq Bundle.tN "SUPPRESSED_SENTINEL" Bundle.listD A s' s'.heap := by rw [hhp]; exact vx_Zq.moved hW0.alike (hN.kept hS.2.1)
  have h : ∀ w ∈ Bundle.ownAtoms own ic cls names, w.before args s' = true := vx_own hat' (vx_isRefq hU'.1) (vx_isRefq hN'.1) hU'.2.word hN'.2.word
  have hown' : s'.vm.findClass own = some m.cls := by rw [hvm]; exact hown
  have hins : (Cond.instantiable cls 6).before args s' = true := h _ (by simp [Bundle.ownAtoms])
  obtain ⟨vm₁, cX, kX, hfX, hkX, -, -, X₁, st1⟩ := Y.newCold hexec (own := own) (C := cls) (index := ik) (n := 6) hown' hk' hins hini'
    (g := F0 m pc ls rest) rfl (by rw [hb]; exact d0) (Nat.le_refl _) (Nat.le_refl _)
  generalize hT1 : (T.setVm vm₁).pushCell { cls := cX, slots := kX.instanceTypes.map defaultValue, vm := .none } = T1 at X₁ st1
  have hcat : (Value.ref T.heap.size).category = 1 := rfl
  have hcellA : T1.heap[T.heap.size]? = some (freshCell cX kX) := by rw [← hT1]; exact State.heap_pushCell_size _ _
  have d3' : decode c.code (pc + 3) = .ok (.dup, 1) := by rw [hb]; exact d3
  have d4' : decode c.code (pc + 4) = .ok (.aload_n kk, 1) := by rw [hb]; exact d4
  obtain ⟨U, hsteps, hrun, hend, hW, hsame, ce, hce, hO⟩ := X₁.ctorThrowS hexec htr (own := own) (cls := cls) (names := names) (ic := ic) hown' hcls hnames h (fun x hx => nomatch hx) hfX hkX hcellA (by rw [hhp, hT]; exact Nat.le_refl _) (msg := .ref sa) rfl
    (g := { method := m, pc := pc + 5, locals := ls, stack := .ref sa :: .ref T.heap.size :: .ref T.heap.size :: rest, locked := none }) rfl hsize rfl rfl (rest := rest) rfl
    (by rw [hb]; exact d5) (by rw [hb]; exact d8) hout hRframes (by simp only [List.map_cons, List.sum_cons, hcat]; omega) hlocks
  obtain ⟨f1, f2⟩ := vx_frame hsame
  rw [hhp] at f1 f2
  have hWs : s.WarmedH U.vm := State.WarmedH.trans hW0 hW
  have hcl : s.vm.findClass cls = some ce.cls := by
    have h9 := hO.cls
    rw [hvm] at h9
    exact h9
  have hall : s.sameButNew ({ U with vm := s.vm } : State) locs mc ms := by
    subst hA
    obtain ⟨e1, e2⟩ := hsame
    rw [State.setFrames_setFrames] at e1
    have h2 : (T.setVm s.vm).sameButNew ({ U with vm := s.vm } : State) [] (0 + 1) (0 + 6) := ⟨e1, e2⟩
    have h3 := X.same.trans h2
    rw [List.append_nil] at h3
    exact h3.mono hc hs
  refine ⟨U, ?_, .threw T.heap.size, hrun, hend, Or.inr ⟨T.heap.size, rfl, cls, ce, locs, hx U hWs.alike f1 (fun q hq => f2 q hq (fun z hz => nomatch hz)), hce, hO.vm, hcl, hWs, hall, hf⟩⟩
  refine st1 _ ?_
  show Steps p.tables e below (T1.setTop { method := m, pc := pc + 3, locals := ls, stack := .ref T.heap.size :: rest, locked := none }) _
  jvm_step X₁.here [X₁.here.top, hexec, d3', Value.category]
  jvm_step X₁.here [X₁.here.top, hexec, d4', hloc, Value.isRef]
  exact hsteps
end VXTA
section GTX
variable {K : gk_K} {X : gk_X} {own nm : String} {cc : ByteArray} {nL : Nat} {ret : Option FieldType} {d mc ms : Nat} {cells slots : Nat} {M : List va_W} {l : List (Nat × Value)} {st : List Value}
/-- any word of the tables -/
theorem Ok.any (F : Ok K X own nm cc nL ret d mc ms) {w : Cond} (h : w ∈ lw_tbl) (hk : (goodWord w || (gl_tk w && w.onTables)) = true) : w.before (kAr K) (kS K) = true := by
  cases hg : goodWord w with
  | true => exact F.hts w (lw_g h hg)
  | false => rw [hg, Bool.false_or, Bool.and_eq_true] at hk; exact va_Nw.use (A := kAr K) hk.2 (F.tw h hk.1)
/-- 'throw new E(text)', the text in a local -/
theorem gx_throwA (pc : Nat) (F : Ok K X own nm cc nL ret d mc ms) {xpost : String → List va_W → Prop} (R : RtX K X xpost mc ms) {cls : String} (names : List String) {ik ic : Nat} {kk : Fin 4} {i sa : Nat} (hcls : Bundle.fit cls = true) (hnames : ∀ n ∈ names, Bundle.fit n = true)
    (hk : Cond.classLink own ik cls ∈ lw_all) (hini : Cond.initialized cls ∈ lw_all) (hat : ∀ w ∈ vx_atS own ic cls names, w ∈ lw_tbl ∧ (goodWord w || (gl_tk w && w.onTables)) = true) (hgood : ∀ w ∈ Cond.classLink own ik cls :: Cond.initialized cls :: vx_atS own ic cls names, vx_ot w = true)
    (d0 : decode cc pc = .ok (.new ik, 3)) (d3 : decode cc (pc + 3) = .ok (.dup, 1)) (d4 : decode cc (pc + 4) = .ok (.aload_n kk, 1)) (d5 : decode cc (pc + 5) = .ok (.invokespecial ic, 3)) (d8 : decode cc (pc + 8) = .ok (.athrow, 1))
    (hi : (kk : Nat) = i) (k0 : Nat) (hl0 : l[k0]? = some (i, .ref sa)) (hfr : names.length + 3 < d) (hlo : (st.map fun v => v.category).sum + (13 * (names.length + 1) + 43) ≤ 64 * d) (hc : cells + 1 ≤ mc) (hs : slots + 6 ≤ ms) (hp : xpost cls M) : G K X nL cells slots M l pc st := by
  subst hi
  intro H locs ls hP hD hS hl
  obtain ⟨⟨Qc, hQ⟩, ht⟩ := R
  have r1 := F.hR.1
  have r2 := F.hR.2.1
  have r3 := F.hR.2.2.1
  have r4 := F.hR.2.2.2
  show W _ _ _ _ _ _ _ _ _ _ _ _ _ _ (kQ K) _
  rw [hQ]
  refine vx_throwA F.hx F.hb F.hG.1 F.hown hcls hnames (F.hts _ hk) (F.hts _ hini) (lv_at hl k0 hl0) (fun w hw => F.any (hat w hw).1 (hat w hw).2) hgood F.con.2.2.1 F.con.2.2.2 hS (hl.1.trans F.hml.symm) d0 d3 d4 d5 d8 (fun x hx => (ht x hx).elim) (by omega) (by omega) (by omega) (by omega) F.hlk (fun t hA hsz hkp => ?_) hS.2.2 hc hs
  have hS' : va_S (kA K) (kS K).heap t.heap locs := by
    refine ⟨Nat.le_trans hS.1 hsz, fun q h1 h2 => ?_, hS.2.2⟩
    rw [hkp q (Nat.lt_of_lt_of_le h1 hS.1)]
    exact hS.2.1 q h1 h2
  refine ⟨⟨M, hp, vaP_iff.mpr fun q hq => ?_, hD⟩, hS'.F rfl⟩
  have h1 := vaP_iff.mp hP q hq
  exact h1.kept (hkp q.1 h1.lt)
theorem g_ldcS (pc pc' : Nat) (F : Ok K X own nm cc nL ret d mc ms) {tx : String} {i c : Nat} (hm : (own, i, tx, c) ∈ gl_tx) (hd : decode cc pc = .ok (.ldc i, 2)) (h' : pc + 2 = pc') (k : G K X nL cells slots M l pc' (.ref (X.2.2 c) :: st)) : G K X nL cells slots M l pc st := by
  subst h'; exact fun H locs ls hP hD hS h => va_ldcS F.hx F.hb F.hown (F.tx hm) hd (k H locs ls hP hD hS h)
end GTX
section GCC
variable {K : gk_K} {X : gk_X} {own nm : String} {cc : ByteArray} {nL : Nat} {ret : Option FieldType} {d mc ms : Nat} {pc : Nat} {rest As st0 : List Value} {y : MethodName} {cc' : ByteArray} {nL' : Nat} {ret' : Option FieldType} {idx : Nat}
/-- a call whose receiver is a constant object: the callee touches nothing of the memory -/
theorem g_callC (len pc' : Nat) (F : Ok K X own nm cc nL ret d mc ms) {C : String} {b : Nat} (hO : va_O C b (kA K) (kS K) (kS K).heap) (hc : CallOk K len nL pc st0 rest As y (ws_ y cc' nL' ret') d (rcV K C b)) {d' mc' ms' : Nat} {r : Option Value} (hM : CtP (kL K) X y cc' nL' ret' d' mc' ms' As [] r) (h' : pc + len = pc')
    {M : List va_W} (isR : List Nat) (hnd : va_nd isR = true) (hR : isR.map (fun i => M[i]?) = M.map some) (hdd : d' + 1 ≤ d) {cells slots : Nat} {c2 s2 : Nat} (hc1 : c2 ≤ mc) (hs1 : s2 ≤ ms) (hc2 : cells + mc' = c2) (hs2 : slots + ms' = s2) {st1 : List Value} (hst1 : r.toList ++ rest = st1) {l : List (Nat × Value)}
    (k : G K X nL c2 s2 M l pc' st1) : G K X nL cells slots M l pc st0 := by
  subst h' hc2 hs2 hst1
  intro H locs ls hP hD hS hl
  obtain ⟨hpre, hF⟩ := g_call_pre (M := M) (Mc := []) (As := As) F [] rfl rfl hP hD hS
  have run := hc d' mc' ms' _ _ _ (hM H.size) (pst_blind _ _ _ _ _) hdd H locs cells slots ls hl.1 (rc_con hO hS) hpre (Nat.le_trans hc1 F.hR.2.2.1) (Nat.le_trans hs1 F.hR.2.2.2)
  intro T hT Xs
  obtain ⟨v, st₀, t, T', L, h0, X', hL, e1, e2, ⟨⟨v', M1, hv, ⟨hp1, hp2⟩, hP1, hD1⟩, hFr⟩, stp⟩ := run T hT Xs
  cases hv
  subst hp1 hp2
  obtain ⟨k1, k2, k3⟩ := vx_keep h0 e1 hS (fun q _ h => hF q h) hF hL hFr
  obtain ⟨j1, j2⟩ := g_joined (M := M) (Mc := []) (Mr := M) [] isR rfl hR hnd hP hD hF k2 (by rw [e1]; exact hP1) hD1
  rw [List.append_nil] at j1 j2
  obtain ⟨t2, a1, b1⟩ := k T'.heap (locs ++ L) ls j1 j2 k3 hl T' rfl X'
  exact ⟨t2, stp t2 a1, b1⟩
theorem lw_U {own : String} {idx : Nat} {C owner : String} {x y : MethodName} {b : ByteArray} {L : Nat} {r : Option FieldType} (h1 : Cond.methodLink own idx x ∈ lw_all) (h2 : Cond.sameMethod x.cls owner x.name x.desc ∈ lw_all) (h3 : Cond.selects C x y ∈ lw_all) (h4 : Cond.instanceMethod y ∈ lw_all) (h5 : Cond.initialized y.cls ∈ lw_all) (h6 : Cond.code y b L r ∈ lw_all) : GoodIn lw_all (va_wsU own idx C owner x y (ws_ y b L r)) := by
  refine lw_app ?_ (lw_meth h6)
  intro w hw
  simp only [List.mem_cons, List.not_mem_nil, or_false] at hw
  rcases hw with e | e | e | e | e
  · rw [e]; exact h1
  · rw [e]; exact h2
  · rw [e]; exact h3
  · rw [e]; exact h4
  · rw [e]; exact h5
theorem lw_O {own : String} {idx : Nat} {C owner : String} {x y : MethodName} {b : ByteArray} {L : Nat} {r : Option FieldType} (h1 : Cond.methodLink own idx x ∈ lw_all) (h2 : Cond.sameMethod x.cls owner x.name x.desc ∈ lw_all) (h0 : Cond.instanceMethod ⟨owner, x.name, x.desc⟩ ∈ lw_all) (h3 : Cond.selects C x y ∈ lw_all) (h4 : Cond.instanceMethod y ∈ lw_all) (h5 : Cond.initialized y.cls ∈ lw_all) (h6 : Cond.code y b L r ∈ lw_all) : GoodIn lw_all (va_wsO own idx C owner x y (ws_ y b L r)) := by
  refine lw_app ?_ (lw_meth h6)
  intro w hw
  simp only [List.mem_cons, List.not_mem_nil, or_false] at hw
  rcases hw with e | e | e | e | e | e
  · rw [e]; exact h1
  · rw [e]; exact h2
  · rw [e]; exact h0
  · rw [e]; exact h3
  · rw [e]; exact h4
  · rw [e]; exact h5
/-- an inherited method -/
theorem CallOk.U (F : Ok K X own nm cc nL ret d mc ms) {C owner : String} {x : MethodName} {b : Nat} (n : Nat) (h1 : Cond.methodLink own idx x ∈ lw_all) (h2 : Cond.sameMethod x.cls owner x.name x.desc ∈ lw_all) (h3 : Cond.selects C x y ∈ lw_all) (h4 : Cond.instanceMethod y ∈ lw_all) (h5 : Cond.initialized y.cls ∈ lw_all) (h6 : Cond.code y cc' nL' ret' ∈ lw_all) (hyx : y = ⟨owner, x.name, x.desc⟩)
    (hd : owner ≠ "java/lang/invoke/MethodHandle" ∧ owner ≠ "java/lang/invoke/VarHandle" ∧ (parseMethodDescriptor x.desc).map (fun d => d.parameters.length) = some n) (hn : As.length = n) (hst : st0 = As.reverse ++ .ref b :: rest) (hr : (rest.map fun v => v.category).sum ≤ 8) (hl : nL' ≤ 40) (hdg : decode cc pc = .ok (.invokevirtual idx, 3)) :
    CallOk K 3 nL pc st0 rest (.ref b :: As) y (ws_ y cc' nL' ret') d (rcV K C b) := by
  intro d' mc' ms' Pc Qc free hM hbl hdd H locs cells slots ls hsz hrc hpre hc hs
  exact va_runU F.fx hM (va_cwU n F.hts (lw_U h1 h2 h3 h4 h5 h6) rfl rfl rfl hyx hd (rm_fits F hdd hl)) ⟨hbl, hrc, hpre⟩ rfl hn hsz hst (lv_room (rest := st0) hr) hdg ⟨hc, hs⟩
/-- an overriding method -/
theorem CallOk.O (F : Ok K X own nm cc nL ret d mc ms) {C owner : String} {x : MethodName} {b : Nat} (n : Nat) (h1 : Cond.methodLink own idx x ∈ lw_all) (h2 : Cond.sameMethod x.cls owner x.name x.desc ∈ lw_all) (h0 : Cond.instanceMethod ⟨owner, x.name, x.desc⟩ ∈ lw_all) (h3 : Cond.selects C x y ∈ lw_all) (h4 : Cond.instanceMethod y ∈ lw_all) (h5 : Cond.initialized y.cls ∈ lw_all) (h6 : Cond.code y cc' nL' ret' ∈ lw_all)
    {b0 : ByteArray} {m0 : Nat} {r0 : Option FieldType} (hx : Cond.code ⟨owner, x.name, x.desc⟩ b0 m0 r0 ∈ lw_all)
    (hd : owner ≠ "java/lang/invoke/MethodHandle" ∧ owner ≠ "java/lang/invoke/VarHandle" ∧ (parseMethodDescriptor x.desc).map (fun d => d.parameters.length) = some n) (hn : As.length = n) (hst : st0 = As.reverse ++ .ref b :: rest) (hr : (rest.map fun v => v.category).sum ≤ 8) (hl : nL' ≤ 40) (hdg : decode cc pc = .ok (.invokevirtual idx, 3)) :
    CallOk K 3 nL pc st0 rest (.ref b :: As) y (ws_ y cc' nL' ret') d (rcV K C b) := by
  intro d' mc' ms' Pc Qc free hM hbl hdd H locs cells slots ls hsz hrc hpre hc hs
  exact va_runU F.fx hM (va_cwO n F.hts (lw_O h1 h2 h0 h3 h4 h5 h6) rfl rfl rfl hx hd (rm_fits F hdd hl)) ⟨hbl, hrc, hpre⟩ rfl hn hsz hst (lv_room (rest := st0) hr) hdg ⟨hc, hs⟩
end GCC
