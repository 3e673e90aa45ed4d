/-! G: contracts and calls -/
def Qst (X : gk_X) (A : Nat → Prop) (post : Option Value → List va_W → Prop) : Array Value → State → Outcome → State → Prop := fun _ st o t => (∃ (v : Option Value) (M : List va_W), o = .returned v ∧ post v M ∧ va_P X.1.1 gl_cl M.flatten t.heap ∧ va_D A M.flatten) ∧ va_F A st t
def Xst (X : gk_X) (A : Nat → Prop) (xpost : String → List va_W → Prop) : String → State → State → Prop := fun E st t => (∃ (M : List va_W), xpost E M ∧ va_P X.1.1 gl_cl M.flatten t.heap ∧ va_D A M.flatten) ∧ va_F A st t
def Pst (l : Launch) (X : gk_X) (M : List va_W) (sz : Nat) : State → Prop := fun U => U.heap.size = sz ∧ va_P X.1.1 gl_cl M.flatten U.heap ∧ va_D (gl_A X) M.flatten ∧ gl_Hw X U.heap ∧ gl_S l X U
def rmD (d mc ms : Nat) : Room := { frames := d, cells := mc, slots := ms, locals := 64 * d }
/-- a method's contract: from the memory M it returns, with post -/
def Ct (l : Launch) (X : gk_X) (y : MethodName) (cc : ByteArray) (nL : Nat) (ret : Option FieldType) (d mc ms : Nat) (As : List Value) (M : List va_W) (post : Option Value → List va_W → Prop) : Prop :=
  ∀ sz : Nat, Met l y (ws_ y cc nL ret) (rmD d mc ms) (va_Pc As (Pst l X M sz)) (Qst X (va_A M.flatten sz) post) mc ms (va_A M.flatten sz)
/-- .. it returns, or throws -/
def CtX (l : Launch) (X : gk_X) (y : MethodName) (cc : ByteArray) (nL : Nat) (ret : Option FieldType) (d mc ms : Nat) (As : List Value) (M : List va_W) (post : Option Value → List va_W → Prop) (xpost : String → List va_W → Prop) : Prop :=
  ∀ sz : Nat, vx_Met l y (ws_ y cc nL ret) (rmD d mc ms) (va_Pc As (Pst l X M sz)) (Qst X (va_A M.flatten sz) post) (Xst X (va_A M.flatten sz) xpost) mc ms (va_A M.flatten sz)
/-- what a return owes -/
def Rt (K : gk_K) (X : gk_X) (post : Option Value → List va_W → Prop) (mc ms : Nat) : Prop :=
  ∀ (H : Heap) (locs : List Loc) (g : JFrame), W (kP K) (kL K) (kE K) (kR K) (kS K) (kM K) (kAr K) (kBe K) (kMe K) (kC K) H locs mc ms (MQ (kBe K) (Qst X (kA K) post) (kAr K) (kS K) mc ms (kA K)) g → kW K H locs mc ms g
/-- what a throw owes -/
def RtX (K : gk_K) (X : gk_X) (xpost : String → List va_W → Prop) (mc ms : Nat) : Prop :=
  (∃ Qc, kQ K = vx_MQ (kBe K) Qc (Xst X (kA K) xpost) (kAr K) (kS K) mc ms (kA K)) ∧ ∀ x ∈ (kC K).exceptionTable.toList, False
theorem ct_enter {l : Launch} {X : gk_X} {y : MethodName} {cc : ByteArray} {nL : Nat} {ret : Option FieldType} {d mc ms : Nat} {As : List Value} {M : List va_W} {Q : State → Prop} (hn : (lg_sl As).length ≤ nL) {own nm : String} (ho : y.cls = own) (hnm : y.name = nm)
    (ws' : List Cond) {w0 : Cond} (hw : ws' = w0 :: lw_all) {sz : Nat} {p : Program} {e : Env} {s : State} {m : MethodId} {args : Array Value} {below : List Frame} {meth : Method} {c : Code} {s₁ : State} (B : BodyLoose p l y (headSpec ws' (rmD d mc ms)) cc nL ret e s m args below meth c s₁) (hml : c.maxLocals = nL) (hv : va_Pc As (Pst l X M sz) args s)
    (body : ∀ K : gk_K, Ok K X own nm cc nL ret d mc ms → kL K = l → kS K = s → kAr K = args → kBe K = below → kC K = c → kA K = va_A M.flatten sz → kQ K = Q → G K X nL 0 0 M (lv_args 0 As) 0 []) :
    W p l e (headSpec ws' (rmD d mc ms)).room s m args below meth c s.heap [] 0 0 Q (entryFrame m args nL) := by
  obtain ⟨rfl, hsz, hP, hD, hW, hS⟩ := hv
  have hts := atoms_spec (ws := ws') B.pre
  have hts : ∀ w ∈ lw_all, w.before As.toArray s = true := fun w h => hts w (by rw [hw]; exact List.mem_cons_of_mem _ h)
  have hown : s.vm.findClass y.cls = some m.cls := findClass_of_methodNamed B.named
  have hin : meth.name = y.name := (name_of_methodNamed B.named B.method).1
  have hA0 : ∀ q, va_A M.flatten sz q → gl_A X q := by
    intro q h
    rcases h with ⟨k, e, h⟩ | h
    · exact hD.2 k (q, e) h
    · exact Nat.le_trans hW.1 (by rw [hsz]; exact h)
  have h1 := body ((p, l, e, (headSpec ws' (rmD d mc ms)).room), (s, m, As.toArray, below), (meth, c), va_A M.flatten sz, Q)
    ⟨⟨B.exec, B.bytes, hml, B.returns, B.notSynchronized, by rw [← ho]; exact hown, hts⟩, ⟨fun q h => Or.inr (by rw [← hsz]; exact h), hA0⟩, hW, hS, ⟨Nat.le_refl _, Nat.le_refl _, Nat.le_refl _, Nat.le_refl _⟩, by rw [← hnm]; exact hin⟩ rfl rfl rfl rfl rfl rfl rfl
  rw [lg_entry_eq]
  exact h1 s.heap [] _ hP hD.self va_S.rf (lv_entry As hn)
theorem Ct.of {l : Launch} {X : gk_X} {y : MethodName} {cc : ByteArray} {nL : Nat} {ret : Option FieldType} {d mc ms : Nat} {As : List Value} {M : List va_W} {post : Option Value → List va_W → Prop} (hy : plainName y.cls = true) (hn : (lg_sl As).length ≤ nL) (own nm : String) (ho : y.cls = own) (hnm : y.name = nm)
    (body : ∀ K : gk_K, Ok K X own nm cc nL ret d mc ms → kL K = l → Rt K X post mc ms → G K X nL 0 0 M (lv_args 0 As) 0 []) : Ct l X y cc nL ret d mc ms As M post := by
  intro sz
  refine Met.ofW (cc := cc) (maxL := nL) (ret := ret) hy rfl ?_
  intro p e s m args below meth c s₁ B hml hv
  refine ct_enter hn ho hnm _ rfl B hml hv (fun K F e1 e2 e3 e4 e5 e6 e7 => body K F e1 (fun H locs g h => ?_))
  show W _ _ _ _ _ _ _ _ _ _ _ _ _ _ (kQ K) _
  rw [e7, ← e2, ← e3, ← e4, ← e6]
  exact h
theorem CtX.of {l : Launch} {X : gk_X} {y : MethodName} {cc : ByteArray} {nL : Nat} {ret : Option FieldType} {d mc ms : Nat} {As : List Value} {M : List va_W} {post : Option Value → List va_W → Prop} {xpost : String → List va_W → Prop} (hy : plainName y.cls = true) (hn : (lg_sl As).length ≤ nL) (own nm : String) (ho : y.cls = own) (hnm : y.name = nm)
    (body : ∀ K : gk_K, Ok K X own nm cc nL ret d mc ms → kL K = l → Rt K X post mc ms → RtX K X xpost mc ms → G K X nL 0 0 M (lv_args 0 As) 0 []) : CtX l X y cc nL ret d mc ms As M post xpost := by
  intro sz
  refine vx_ofW (cc := cc) (maxL := nL) (ret := ret) hy rfl ?_
  intro p e s m args below meth c s₁ B hml ht hv
  refine ct_enter hn ho hnm _ rfl B hml hv (fun K F e1 e2 e3 e4 e5 e6 e7 => body K F e1 (fun H locs g h => ?_) ⟨⟨Qst X (va_A M.flatten sz) post, ?_⟩, ?_⟩)
  · show W _ _ _ _ _ _ _ _ _ _ _ _ _ _ (kQ K) _
    rw [e7, ← e2, ← e3, ← e4, ← e6]
    exact vx_ret h
  · rw [e7, ← e2, ← e3, ← e4, ← e6]
  · rw [e5]; exact ht
section RET
variable {K : gk_K} {X : gk_X} {own nm : String} {cc : ByteArray} {nL : Nat} {d mc ms : Nat} {cells slots : Nat} {M : List va_W} {l : List (Nat × Value)} {post : Option Value → List va_W → Prop}
theorem g_iret (pc : Nat) (F : Ok K X own nm cc nL (some .int) d mc ms) (R : Rt K X post mc ms) (hd : decode cc pc = .ok (.ireturn, 1)) (hc : cells ≤ mc) (hs : slots ≤ ms) {v : Int32} (hp : post (some (.int v)) M) : G K X nL cells slots M l pc [.int v] := by
  intro H locs ls hP hD hS hl
  refine W.widen hc hs (R _ _ _ ?_)
  exact W.iret F.hx F.hb F.hr (fun t ht hW => ⟨⟨_, M, rfl, hp, by rw [ht]; exact hP, hD⟩, hS.F ht⟩) hS.2.2 hd F.hlk
theorem g_zret (pc : Nat) {ty : FieldType} (F : Ok K X own nm cc nL (some ty) d mc ms) (R : Rt K X post mc ms) (hd : decode cc pc = .ok (.ireturn, 1)) (hc : cells ≤ mc) (hs : slots ≤ ms) {v : Int32} (hv : narrow ty (.int v) = .int v) (hp : post (some (.int v)) M) : G K X nL cells slots M l pc [.int v] := by
  intro H locs ls hP hD hS hl
  refine W.widen hc hs (R _ _ _ ?_)
  exact W.zret F.hx F.hb F.hr hv (fun t ht hW => ⟨⟨_, M, rfl, hp, by rw [ht]; exact hP, hD⟩, hS.F ht⟩) hS.2.2 hd F.hlk
theorem g_bret (pc : Nat) (F : Ok K X own nm cc nL (some .boolean) d mc ms) (R : Rt K X post mc ms) (hd : decode cc pc = .ok (.ireturn, 1)) (hc : cells ≤ mc) (hs : slots ≤ ms) {b : Bool} (hp : post (some (.int (bI b))) M) : G K X nL cells slots M l pc [.int (bI b)] :=
  g_zret pc F R hd hc hs (by cases b <;> rfl) hp
theorem g_lret (pc : Nat) (F : Ok K X own nm cc nL (some .long) d mc ms) (R : Rt K X post mc ms) (hd : decode cc pc = .ok (.lreturn, 1)) (hc : cells ≤ mc) (hs : slots ≤ ms) {v : Int64} (hp : post (some (.long v)) M) : G K X nL cells slots M l pc [.long v] := by
  intro H locs ls hP hD hS hl
  refine W.widen hc hs (R _ _ _ ?_)
  exact W.lret F.hx F.hb F.hr (fun t ht hW => ⟨⟨_, M, rfl, hp, by rw [ht]; exact hP, hD⟩, hS.F ht⟩) hS.2.2 hd F.hlk
theorem g_dret (pc : Nat) (F : Ok K X own nm cc nL (some .double) d mc ms) (R : Rt K X post mc ms) (hd : decode cc pc = .ok (.dreturn, 1)) (hc : cells ≤ mc) (hs : slots ≤ ms) {v : UInt64} (hp : post (some (.double v)) M) : G K X nL cells slots M l pc [.double v] := by
  intro H locs ls hP hD hS hl
  refine W.widen hc hs (R _ _ _ ?_)
  exact W.dret F.hx F.hb F.hr (fun t ht hW => ⟨⟨_, M, rfl, hp, by rw [ht]; exact hP, hD⟩, hS.F ht⟩) hS.2.2 hd F.hlk
theorem g_vret (pc : Nat) (F : Ok K X own nm cc nL none d mc ms) (R : Rt K X post mc ms) (hd : decode cc pc = .ok (.return_, 1)) (hc : cells ≤ mc) (hs : slots ≤ ms) (hp : post none M) : G K X nL cells slots M l pc [] := by
  intro H locs ls hP hD hS hl
  refine W.widen hc hs (R _ _ _ ?_)
  exact W.vret F.hx F.hb F.hr (fun t ht hW => ⟨⟨_, M, rfl, hp, by rw [ht]; exact hP, hD⟩, hS.F ht⟩) hS.2.2 hd F.hlk
theorem g_aret (pc : Nat) {rt : FieldType} (F : Ok K X own nm cc nL (some rt) d mc ms) (R : Rt K X post mc ms) (hd : decode cc pc = .ok (.areturn, 1)) (hc : cells ≤ mc) (hs : slots ≤ ms) (hrt : (∃ n, rt = .object n) ∨ ∃ t, rt = .array t) {a : Nat} (hp : post (some (.ref a)) M) : G K X nL cells slots M l pc [.ref a] := by
  intro H locs ls hP hD hS hl
  refine W.widen hc hs (R _ _ _ ?_)
  exact W.aret F.hx F.hb F.hr hrt (Or.inr ⟨a, rfl⟩) (fun t ht hW => ⟨⟨_, M, rfl, hp, by rw [ht]; exact hP, hD⟩, hS.F ht⟩) hS.2.2 hd F.hlk
end RET
/-! calls -/
theorem pst_blind (l : Launch) (X : gk_X) (As : List Value) (M : List va_W) (sz : Nat) : FrameBlind (va_Pc As (Pst l X M sz)) := by
  intro a U g mk ⟨h0, h1, h2, h3, h4, h5⟩
  exact ⟨h0, h1, h2, h3, h4, gl_S.same (s := U) (U := U.calling g mk a) rfl h5⟩
/-- a call has run (len: its instruction's length) -/
def cRun (len : Nat) (p : Program) (l : Launch) (e : Env) (R : Room) (s : State) (m : MethodId) (args : Array Value) (below : List Frame) (meth : Method) (c : Code) (H : Heap) (locs : List Loc) (cells slots mc ms : Nat) (g : JFrame) (rest : List Value) (Qa : State → Outcome → State → Prop) (free : Addr → Prop) : Prop :=
  ∀ T : State, T.heap = H → Stand p l e R s m args below meth c T locs cells slots → ∃ (v : Option Value) (st₀ t T' : State) (L : List Loc), st₀.heap = H ∧ Stand p l e R s m args below meth c T' (locs ++ L) (cells + mc) (slots + ms) ∧ (∀ q ∈ L, free q.base) ∧ T'.heap = t.heap ∧ T'.vm = t.vm ∧ Qa st₀ (.returned v) t ∧
    Goes p e below T g T' { g with pc := g.pc + len, stack := v.toList ++ rest }
def kRun (len : Nat) (K : gk_K) (H : Heap) (locs : List Loc) (cells slots mc ms : Nat) (g : JFrame) (rest : List Value) (Qa : State → Outcome → State → Prop) (free : Addr → Prop) : Prop :=
  cRun len (kP K) (kL K) (kE K) (kR K) (kS K) (kM K) (kAr K) (kBe K) (kMe K) (kC K) H locs cells slots mc ms g rest Qa free
def kRunX (K : gk_K) (H : Heap) (locs : List Loc) (cells slots mc ms : Nat) (g : JFrame) (rest : List Value) (Qa : State → Outcome → State → Prop) (XC : String → State → State → Prop) (free : Addr → Prop) : Prop :=
  vx_Run (kP K) (kL K) (kE K) (kR K) (kS K) (kM K) (kAr K) (kBe K) (kMe K) (kC K) H locs cells slots mc ms g rest Qa XC free
/-- this instruction calls y, whatever y's contract is -/
def CallOk (K : gk_K) (len nL pc : Nat) (st0 rest As : List Value) (y : MethodName) (ws : List Cond) (d : Nat) (rc : Heap → Prop) : Prop :=
  ∀ (d' mc' ms' : Nat) (Pc : Array Value → State → Prop) (Qc : Array Value → State → Outcome → State → Prop) (free : Addr → Prop), Met (kL K) y ws (rmD d' mc' ms') Pc Qc mc' ms' free → FrameBlind Pc → d' + 1 ≤ d →
    ∀ (H : Heap) (locs : List Loc) (cells slots : Nat) (ls : Array Slot), ls.size = nL → rc H → (∀ U : State, U.heap = H → (kS K).WarmedH U.vm → Pc As.toArray U) → cells + mc' ≤ (kR K).cells → slots + ms' ≤ (kR K).slots →
      kRun len K H locs cells slots mc' ms' (F0 (kM K) pc ls st0) rest (Qc As.toArray) free
def CallOkX (K : gk_K) (nL pc : Nat) (st0 rest As : List Value) (y : MethodName) (ws : List Cond) (d : Nat) (rc : Heap → Prop) : Prop :=
  ∀ (d' mc' ms' : Nat) (Pc : Array Value → State → Prop) (Qc : Array Value → State → Outcome → State → Prop) (XC : String → State → State → Prop) (free : Addr → Prop), vx_Met (kL K) y ws (rmD d' mc' ms') Pc Qc XC mc' ms' free → FrameBlind Pc → d' + 1 ≤ d →
    ∀ (H : Heap) (locs : List Loc) (cells slots : Nat) (ls : Array Slot), ls.size = nL → rc H → (∀ U : State, U.heap = H → (kS K).WarmedH U.vm → Pc As.toArray U) → cells + mc' ≤ (kR K).cells → slots + ms' ≤ (kR K).slots →
      kRunX K H locs cells slots mc' ms' (F0 (kM K) pc ls st0) rest (Qc As.toArray) XC free
/-- the receiver is an object of class C -/
def rcV (K : gk_K) (C : String) (b : Nat) : Heap → Prop := fun H => ∃ cellB : Cell, H[b]? = some cellB ∧ cellB.vm.isStatics = false ∧ (kS K).vm.findClass C = some cellB.cls
section CALLS
variable {K : gk_K} {X : gk_X} {own nm : String} {cc : ByteArray} {nL : Nat} {ret : Option FieldType} {d mc ms : Nat} {pc : Nat} {rest As st0 : List Value} {y : MethodName} {cc' : ByteArray} {nL' : Nat} {ret' : Option FieldType} {idx : Nat}
theorem rm_fits (F : Ok K X own nm cc nL ret d mc ms) {d' mc' ms' nL' : Nat} (h : d' + 1 ≤ d) (hl : nL' ≤ 40) : (rmD d' mc' ms').frames + 1 ≤ (kR K).frames ∧ 8 + (nL' + 11) + (rmD d' mc' ms').locals ≤ (kR K).locals := by
  have h1 := F.hR.1
  have h2 := F.hR.2.1
  show d' + 1 ≤ _ ∧ 8 + (nL' + 11) + 64 * d' ≤ _
  omega
theorem CallOk.V (F : Ok K X own nm cc nL ret d mc ms) {C : String} {b : Nat} (n : Nat) (h1 : Cond.methodLink own idx y ∈ lw_all) (h2 : Cond.instanceMethod y ∈ lw_all) (h3 : Cond.selects C y y ∈ lw_all) (h4 : Cond.initialized C ∈ lw_all) (h5 : Cond.code y cc' nL' ret' ∈ lw_all)
    (hd : y.cls = C ∧ y.cls ≠ "java/lang/invoke/MethodHandle" ∧ y.cls ≠ "java/lang/invoke/VarHandle" ∧ (parseMethodDescriptor y.desc).map (fun d => d.parameters.length) = some n) (hn : As.length = n) (hst : st0 = As.reverse ++ .ref b :: rest) (hr : (rest.map fun v => v.category).sum ≤ 8) (hl : nL' ≤ 40) (hdg : decode cc pc = .ok (.invokevirtual idx, 3)) :
    CallOk K 3 nL pc st0 rest (.ref b :: As) y (ws_ y cc' nL' ret') d (rcV K C b) := by
  intro d' mc' ms' Pc Qc free hM hbl hdd H locs cells slots ls hsz hrc hpre hc hs
  exact va_runV F.fx hM (cwV n F.hts (lw_V h1 h2 h3 h4 h5) rfl rfl rfl hd (rm_fits F hdd hl)) ⟨hbl, hrc, hpre⟩ rfl hn hsz hst (lv_room (rest := st0) hr) hdg ⟨hc, hs⟩
theorem CallOkX.V (F : Ok K X own nm cc nL ret d mc ms) {C : String} {b : Nat} (n : Nat) (h1 : Cond.methodLink own idx y ∈ lw_all) (h2 : Cond.instanceMethod y ∈ lw_all) (h3 : Cond.selects C y y ∈ lw_all) (h4 : Cond.initialized C ∈ lw_all) (h5 : Cond.code y cc' nL' ret' ∈ lw_all)
    (hd : y.cls = C ∧ y.cls ≠ "java/lang/invoke/MethodHandle" ∧ y.cls ≠ "java/lang/invoke/VarHandle" ∧ (parseMethodDescriptor y.desc).map (fun d => d.parameters.length) = some n) (hn : As.length = n) (hst : st0 = As.reverse ++ .ref b :: rest) (hr : (rest.map fun v => v.category).sum ≤ 8) (hl : nL' ≤ 40) (hdg : decode cc pc = .ok (.invokevirtual idx, 3)) :
    CallOkX K nL pc st0 rest (.ref b :: As) y (ws_ y cc' nL' ret') d (rcV K C b) := by
  intro d' mc' ms' Pc Qc XC free hM hbl hdd H locs cells slots ls hsz hrc hpre hc hs
  exact vx_runV F.fx hM (cwV n F.hts (lw_V h1 h2 h3 h4 h5) rfl rfl rfl hd (rm_fits F hdd hl)) ⟨hbl, hrc, hpre⟩ rfl hn hsz hst (lv_room (rest := st0) hr) hdg ⟨hc, hs⟩
theorem CallOk.S (F : Ok K X own nm cc nL ret d mc ms) (n : Nat) (h1 : Cond.methodLink own idx y ∈ lw_all) (h2 : Cond.static y ∈ lw_all) (h3 : Cond.initialized y.cls ∈ lw_all) (h5 : Cond.code y cc' nL' ret' ∈ lw_all)
    (hd : y.cls ≠ "java/lang/invoke/MethodHandle" ∧ y.cls ≠ "java/lang/invoke/VarHandle" ∧ (parseMethodDescriptor y.desc).map (fun d => d.parameters.length) = some n) (hn : As.length = n) (hst : st0 = As.reverse ++ rest) (hr : (rest.map fun v => v.category).sum ≤ 8) (hl : nL' ≤ 40) (hdg : decode cc pc = .ok (.invokestatic idx, 3)) :
    CallOk K 3 nL pc st0 rest As y (ws_ y cc' nL' ret') d (fun _ => True) := by
  intro d' mc' ms' Pc Qc free hM hbl hdd H locs cells slots ls hsz hrc hpre hc hs
  exact va_runS F.fx hM (va_cwS n F.hts (lw_S h1 h2 h3 h5) rfl rfl rfl hd (rm_fits F hdd hl)) ⟨hbl, hpre⟩ rfl hn hsz hst (lv_room (rest := st0) hr) hdg ⟨hc, hs⟩
theorem CallOkX.S (F : Ok K X own nm cc nL ret d mc ms) (n : Nat) (h1 : Cond.methodLink own idx y ∈ lw_all) (h2 : Cond.static y ∈ lw_all) (h3 : Cond.initialized y.cls ∈ lw_all) (h5 : Cond.code y cc' nL' ret' ∈ lw_all)
    (hd : y.cls ≠ "java/lang/invoke/MethodHandle" ∧ y.cls ≠ "java/lang/invoke/VarHandle" ∧ (parseMethodDescriptor y.desc).map (fun d => d.parameters.length) = some n) (hn : As.length = n) (hst : st0 = As.reverse ++ rest) (hr : (rest.map fun v => v.category).sum ≤ 8) (hl : nL' ≤ 40) (hdg : decode cc pc = .ok (.invokestatic idx, 3)) :
    CallOkX K nL pc st0 rest As y (ws_ y cc' nL' ret') d (fun _ => True) := by
  intro d' mc' ms' Pc Qc XC free hM hbl hdd H locs cells slots ls hsz hrc hpre hc hs
  exact vx_runS F.fx hM (va_cwS n F.hts (lw_S h1 h2 h3 h5) rfl rfl rfl hd (rm_fits F hdd hl)) ⟨hbl, hpre⟩ rfl hn hsz hst (lv_room (rest := st0) hr) hdg ⟨hc, hs⟩
/-- a static method of a nest mate -/
theorem CallOk.SN (F : Ok K X own nm cc nL ret d mc ms) {host : String} (n : Nat) (h1 : Cond.methodLinkNest own idx y host ∈ lw_tbl) (h2 : Cond.static y ∈ lw_all) (h3 : Cond.initialized y.cls ∈ lw_all) (h5 : Cond.code y cc' nL' ret' ∈ lw_all)
    (hd : y.cls ≠ "java/lang/invoke/MethodHandle" ∧ y.cls ≠ "java/lang/invoke/VarHandle" ∧ (parseMethodDescriptor y.desc).map (fun d => d.parameters.length) = some n) (hn : As.length = n) (hst : st0 = As.reverse ++ rest) (hr : (rest.map fun v => v.category).sum ≤ 8) (hl : nL' ≤ 40) (hdg : decode cc pc = .ok (.invokestatic idx, 3)) :
    CallOk K 3 nL pc st0 rest As y (ws_ y cc' nL' ret') d (fun _ => True) := by
  intro d' mc' ms' Pc Qc free hM hbl hdd H locs cells slots ls hsz hrc hpre hc hs
  exact va_runSN F.fx hM ⟨va_cnB n F.hts (lw_meth h5) rfl rfl rfl (F.tw h1 rfl) (F.hts _ h3) hd (rm_fits F hdd hl), F.hts _ h2, trivial⟩ ⟨hbl, hpre⟩ rfl hn hsz hst (lv_room (rest := st0) hr) hdg ⟨hc, hs⟩
theorem CallOk.I (F : Ok K X own nm cc nL ret d mc ms) {b : Nat} (n : Nat) (h1 : Cond.methodLink own idx y ∈ lw_all) (h2 : Cond.instanceMethod y ∈ lw_all) (h3 : Cond.initialized y.cls ∈ lw_all) (h5 : Cond.code y cc' nL' none ∈ lw_all) (hnm' : y.name = "<init>")
    (hd : y.cls ≠ "java/lang/invoke/MethodHandle" ∧ y.cls ≠ "java/lang/invoke/VarHandle" ∧ (parseMethodDescriptor y.desc).map (fun d => d.parameters.length) = some n) (hn : As.length = n) (hst : st0 = As.reverse ++ .ref b :: rest) (hr : (rest.map fun v => v.category).sum ≤ 8) (hl : nL' ≤ 40) (hdg : decode cc pc = .ok (.invokespecial idx, 3)) :
    CallOk K 3 nL pc st0 rest (.ref b :: As) y (ws_ y cc' nL' none) d (fun _ => True) := by
  intro d' mc' ms' Pc Qc free hM hbl hdd H locs cells slots ls hsz hrc hpre hc hs
  exact va_runI F.fx hM (cwI n F.hts (lw_meth h5) rfl rfl rfl (F.hts _ h3) (F.hts _ h1) (F.hts _ h2) hnm' hd (rm_fits F hdd hl)) ⟨hbl, hpre⟩ rfl hn hsz hst (lv_room (rest := st0) hr) hdg ⟨hc, hs⟩
theorem CallOk.IN (F : Ok K X own nm cc nL ret d mc ms) {host : String} {b : Nat} (n : Nat) (h1 : Cond.methodLinkNest own idx y host ∈ lw_tbl) (h2 : Cond.instanceMethod y ∈ lw_all) (h3 : Cond.initialized y.cls ∈ lw_all) (h5 : Cond.code y cc' nL' none ∈ lw_all) (hnm' : y.name = "<init>")
    (hd : y.cls ≠ "java/lang/invoke/MethodHandle" ∧ y.cls ≠ "java/lang/invoke/VarHandle" ∧ (parseMethodDescriptor y.desc).map (fun d => d.parameters.length) = some n) (hn : As.length = n) (hst : st0 = As.reverse ++ .ref b :: rest) (hr : (rest.map fun v => v.category).sum ≤ 8) (hl : nL' ≤ 40) (hdg : decode cc pc = .ok (.invokespecial idx, 3)) :
    CallOk K 3 nL pc st0 rest (.ref b :: As) y (ws_ y cc' nL' none) d (fun _ => True) := by
  intro d' mc' ms' Pc Qc free hM hbl hdd H locs cells slots ls hsz hrc hpre hc hs
  exact va_runIN F.fx hM ⟨va_cnB n F.hts (lw_meth h5) rfl rfl rfl (F.tw h1 rfl) (F.hts _ h3) hd (rm_fits F hdd hl), hnm', F.hts _ h2⟩ ⟨hbl, hpre⟩ rfl hn hsz hst (lv_room (rest := st0) hr) hdg ⟨hc, hs⟩
/-- the world behind a call -/
theorem g_joined {M Mc Mr M1 : List va_W} {H H1 : Heap} {A : Nat → Prop} (isC isR : List Nat) (hC : isC.map (fun i => M[i]?) = Mc.map some) (hR : isR.map (fun i => M[i]?) = Mr.map some) (hnd : va_nd (isC ++ isR) = true) (hP : va_P X.1.1 gl_cl M.flatten H) (hD : va_D A M.flatten)
    (hF : ∀ q, va_A Mc.flatten H.size q → A q) (hk : ∀ q : Nat, q < H.size → ¬ va_A Mc.flatten H.size q → H1[q]? = H[q]?) (hP1 : va_P X.1.1 gl_cl M1.flatten H1) (hD1 : va_D (va_A Mc.flatten H.size) M1.flatten) : va_P X.1.1 gl_cl (Mr ++ M1).flatten H1 ∧ va_D A (Mr ++ M1).flatten := by
  have hall : (isC ++ isR).map (fun i => M[i]?) = (Mc ++ Mr).map some := by rw [List.map_append, hC, hR, List.map_append]
  have hap := apart_sel _ hall hnd (vaD_iff.mp hD).1
  rw [List.flatten_append] at hap ⊢
  have hap' := List.pairwise_append.mp hap
  have out : ∀ q ∈ Mr.flatten, q.1 < H.size ∧ ¬ va_A Mc.flatten H.size q.1 := by
    intro q hq
    have hl : q.1 < H.size := (vaP_iff.mp hP q (memF_sel hR hq)).lt
    refine ⟨hl, fun h => ?_⟩
    rcases h with ⟨k, e, h⟩ | h
    · exact hap'.2.2 (q.1, e) (List.mem_of_getElem? h) q hq rfl
    · omega
  constructor
  · refine vaP_iff.mpr fun q hq => ?_
    rcases List.mem_append.mp hq with h | h
    · exact (vaP_iff.mp hP q (memF_sel hR h)).kept (hk q.1 (out q h).1 (out q h).2)
    · exact vaP_iff.mp hP1 q h
  · refine vaD_iff.mpr ⟨List.pairwise_append.mpr ⟨hap'.2.1, (vaD_iff.mp hD1).1, fun p hp q hq e => ?_⟩, fun q hq => ?_⟩
    · exact (out p hp).2 (by rw [e]; exact (vaD_iff.mp hD1).2 q hq)
    · rcases List.mem_append.mp hq with h | h
      · exact (vaD_iff.mp hD).2 q (memF_sel hR h)
      · exact hF q.1 ((vaD_iff.mp hD1).2 q h)
theorem g_call_pre (F : Ok K X own nm cc nL ret d mc ms) {M Mc : List va_W} {H : Heap} {locs : List Loc} (isC : List Nat) (hn : va_nd isC = true) (hC : isC.map (fun i => M[i]?) = Mc.map some) (hP : va_P X.1.1 gl_cl M.flatten H) (hD : va_D (kA K) M.flatten) (hS : va_S (kA K) (kS K).heap H locs) :
    (∀ U : State, U.heap = H → (kS K).WarmedH U.vm → va_Pc As (Pst (kL K) X Mc H.size) As.toArray U) ∧ (∀ q, va_A Mc.flatten H.size q → kA K q) := by
  constructor
  · intro U hU hW
    refine ⟨rfl, by rw [hU], ?_, ?_, by rw [hU]; exact F.old hS, gl_S.warm hW F.hG⟩
    · rw [hU]; exact vaP_iff.mpr fun q hq => vaP_iff.mp hP q (memF_sel hC hq)
    · exact vaD_iff.mpr ⟨apart_sel isC hC hn (vaD_iff.mp hD).1, fun q hq => F.hA0 _ ((vaD_iff.mp hD).2 q (memF_sel hC hq))⟩
  · intro q h
    rcases h with ⟨k, e, h⟩ | h
    · exact (vaD_iff.mp hD).2 (q, e) (memF_sel hC (List.mem_of_getElem? h))
    · exact F.hA q (Nat.le_trans hS.1 h)
theorem nd_left {a b : List Nat} (h : va_nd (a ++ b) = true) : va_nd a = true := by
  induction a with
  | nil => rfl
  | cons x a ih =>
    simp only [List.cons_append, va_nd, Bool.and_eq_true, decide_eq_true_eq, List.mem_append, not_or] at h ⊢
    exact ⟨h.1.1, ih h.2⟩
theorem g_call (len pc' : Nat) (F : Ok K X own nm cc nL ret d mc ms) {rc : Heap → Prop} (hc : CallOk K len nL pc st0 rest As y (ws_ y cc' nL' ret') d rc) {d' mc' ms' : Nat} {Mc : List va_W} {post : Option Value → List va_W → Prop} (hM : Ct (kL K) X y cc' nL' ret' d' mc' ms' As Mc post) (h' : pc + len = pc')
    {M Mr : List va_W} (isC isR : List Nat) (hnd : va_nd (isC ++ isR) = true) (hC : isC.map (fun i => M[i]?) = Mc.map some) (hR : isR.map (fun i => M[i]?) = Mr.map some) (hrc : ∀ H, va_P X.1.1 gl_cl M.flatten H → rc H) (hdd : d' + 1 ≤ d) {cells slots : Nat} {c2 s2 : Nat} (hc1 : c2 ≤ mc) (hs1 : s2 ≤ ms) (hc2 : cells + mc' = c2) (hs2 : slots + ms' = s2) {l : List (Nat × Value)}
    (k : ∀ v M1, post v M1 → G K X nL c2 s2 (Mr ++ M1) l pc' (v.toList ++ rest)) : G K X nL cells slots M l pc st0 := by
  subst h' hc2 hs2
  intro H locs ls hP hD hS hl
  obtain ⟨hpre, hF⟩ := g_call_pre (As := As) F isC (nd_left hnd) hC hP hD hS
  have run := hc d' mc' ms' _ _ _ (hM H.size) (pst_blind _ _ _ _ _) hdd H locs cells slots ls hl.1 (hrc H hP) hpre (Nat.le_trans hc1 F.hR.2.2.1) (Nat.le_trans hs1 F.hR.2.2.2)
  intro T hT Xs
  obtain ⟨v, st₀, t, T', L, h0, X', hL, e1, e2, ⟨⟨v', M1, hv, hp, hP1, hD1⟩, hFr⟩, st⟩ := run T hT Xs
  cases hv
  obtain ⟨k1, k2, k3⟩ := vx_keep h0 e1 hS (fun q _ h => hF q h) hF hL hFr
  obtain ⟨j1, j2⟩ := g_joined isC isR hC hR hnd hP hD hF k2 (by rw [e1]; exact hP1) hD1
  obtain ⟨t2, a1, b1⟩ := k v M1 hp T'.heap (locs ++ L) ls j1 j2 k3 hl T' rfl X'
  exact ⟨t2, st t2 a1, b1⟩
/-- a frame with q (of class E) thrown over it -/
def GX (K : gk_K) (X : gk_X) (nL cells slots : Nat) (M : List va_W) (l : List (Nat × Value)) (pc : Nat) (rest : List Value) (E : String) : Prop :=
  ∀ (q : Nat) (ce : Cell) (H : Heap) (locs : List Loc) (ls : Array Slot), va_P X.1.1 gl_cl M.flatten H → va_D (kA K) M.flatten → va_S (kA K) (kS K).heap H locs → lv_has ls nL l → H[q]? = some ce → ce.vm = .none → (kS K).vm.findClass E = some ce.cls →
    vx_W (kP K) (kL K) (kE K) (kR K) (kS K) (kM K) (kAr K) (kBe K) (kMe K) (kC K) H locs cells slots (kQ K) (F0 (kM K) pc ls rest) q
theorem g_callX (pc' : Nat) (F : Ok K X own nm cc nL ret d mc ms) {rc : Heap → Prop} (hc : CallOkX K nL pc st0 rest As y (ws_ y cc' nL' ret') d rc) {d' mc' ms' : Nat} {Mc : List va_W} {post : Option Value → List va_W → Prop} {xpost : String → List va_W → Prop} (hM : CtX (kL K) X y cc' nL' ret' d' mc' ms' As Mc post xpost) (h' : pc + 3 = pc')
    {M Mr : List va_W} (isC isR : List Nat) (hnd : va_nd (isC ++ isR) = true) (hC : isC.map (fun i => M[i]?) = Mc.map some) (hR : isR.map (fun i => M[i]?) = Mr.map some) (hrc : ∀ H, va_P X.1.1 gl_cl M.flatten H → rc H) (hdd : d' + 1 ≤ d) {cells slots : Nat} {c2 s2 : Nat} (hc1 : c2 ≤ mc) (hs1 : s2 ≤ ms) (hc2 : cells + mc' = c2) (hs2 : slots + ms' = s2) {l : List (Nat × Value)}
    (kx : ∀ E M1, xpost E M1 → GX K X nL c2 s2 (Mr ++ M1) l pc rest E)
    (k : ∀ v M1, post v M1 → G K X nL c2 s2 (Mr ++ M1) l pc' (v.toList ++ rest)) : G K X nL cells slots M l pc st0 := by
  subst h' hc2 hs2
  intro H locs ls hP hD hS hl
  obtain ⟨hpre, hF⟩ := g_call_pre (As := As) F isC (nd_left hnd) hC hP hD hS
  have run := hc d' mc' ms' _ _ _ _ (hM H.size) (pst_blind _ _ _ _ _) hdd H locs cells slots ls hl.1 (hrc H hP) hpre (Nat.le_trans hc1 F.hR.2.2.1) (Nat.le_trans hs1 F.hR.2.2.2)
  intro T hT Xs
  rcases run T hT Xs with ⟨v, st₀, t, T', L, h0, X', hL, e1, e2, ⟨⟨v', M1, hv, hp, hP1, hD1⟩, hFr⟩, st⟩ | ⟨q, st₀, t, T', L, E, ce, h0, X', hL, e1, e2, ⟨⟨M1, hp, hP1, hD1⟩, hFr⟩, hce, hcv, hcl, st⟩
  · cases hv
    obtain ⟨k1, k2, k3⟩ := vx_keep h0 e1 hS (fun q _ h => hF q h) hF hL hFr
    obtain ⟨j1, j2⟩ := g_joined isC isR hC hR hnd hP hD hF k2 (by rw [e1]; exact hP1) hD1
    obtain ⟨t2, a1, b1⟩ := k v M1 hp T'.heap (locs ++ L) ls j1 j2 k3 hl T' rfl X'
    exact ⟨t2, st t2 a1, b1⟩
  · obtain ⟨k1, k2, k3⟩ := vx_keep h0 e1 hS (fun q _ h => hF q h) hF hL hFr
    obtain ⟨j1, j2⟩ := g_joined isC isR hC hR hnd hP hD hF k2 (by rw [e1]; exact hP1) hD1
    obtain ⟨t2, a1, b1⟩ := kx E M1 hp q ce T'.heap (locs ++ L) ls j1 j2 k3 hl (by rw [e1]; exact hce) hcv hcl T' rfl X'
    exact ⟨t2, st.trans a1, b1⟩
/-- what is thrown here goes out -/
theorem gx_out (F : Ok K X own nm cc nL ret d mc ms) {xpost : String → List va_W → Prop} (R : RtX K X xpost mc ms) {M : List va_W} {l : List (Nat × Value)} {cells slots : Nat} (hc : cells ≤ mc) (hs : slots ≤ ms) {E : String} (hp : xpost E M) : GX K X nL cells slots M l pc rest E := by
  intro q ce H locs ls hP hD hS hl hce hcv hcl
  obtain ⟨⟨Qc, hQ⟩, ht⟩ := R
  rw [hQ]
  exact vx_out (fun x hx => (ht x hx).elim) F.hlk hce hcv hcl (fun t h _ => ⟨⟨M, hp, by rw [h]; exact hP, hD⟩, hS.F h⟩) hS.2.2 hc hs
/-- a receiver in its own block -/
theorem rc_of (F : Ok K X own nm cc nL ret d mc ms) {M : List va_W} (bi ci : Nat) {a : Nat} {fs : List Value} (hM : M[bi]? = some [(a, ob ci fs)]) {C : String} {T : u_T} {N : Nat} (hc : gl_cl[ci]? = some (C, T, N)) : ∀ H, va_P X.1.1 gl_cl M.flatten H → rcV K C a H := by
  intro H hP
  obtain ⟨q, hq, -⟩ := fl_set hM
  exact va_recv F.hK hP hc hq
theorem rc_T {X : gk_X} {M : List va_W} : ∀ H, va_P X.1.1 gl_cl M.flatten H → True := fun _ _ => trivial
/-- a callee that leaves its memory as it was -/
def CtP (l : Launch) (X : gk_X) (y : MethodName) (cc : ByteArray) (nL : Nat) (ret : Option FieldType) (d mc ms : Nat) (As : List Value) (M : List va_W) (r : Option Value) : Prop := Ct l X y cc nL ret d mc ms As M (fun v M' => v = r ∧ M' = M)
theorem perm_sel {α : Type} {M Mc Mr : List α} (isC isR : List Nat) (hp : (isC ++ isR).Perm (List.range M.length)) (hC : isC.map (fun i => M[i]?) = Mc.map some) (hR : isR.map (fun i => M[i]?) = Mr.map some) : M.Perm (Mr ++ Mc) := by
  have h1 : (M.map some) = (List.range M.length).map (fun i => M[i]?) := by
    apply List.ext_getElem?
    intro i
    simp only [List.getElem?_map]
    by_cases h : i < M.length
    · rw [List.getElem?_eq_getElem h, List.getElem?_range h]
      simp [h]
    · simp [h]
  have h2 : ((Mc ++ Mr).map some).Perm (M.map some) := by
    rw [h1, List.map_append, ← hC, ← hR, ← List.map_append]
    exact hp.map _
  have h3 : ((Mc ++ Mr).map some).filterMap id = Mc ++ Mr := by simp [List.filterMap_map]
  have h4 : (M.map some).filterMap id = M := by simp [List.filterMap_map]
  have h5 := h2.filterMap id
  rw [h3, h4] at h5
  exact h5.symm.trans List.perm_append_comm
/-- such a call leaves the caller's memory as it was -/
theorem g_callP (len pc' : Nat) (F : Ok K X own nm cc nL ret d mc ms) {rc : Heap → Prop} (hc : CallOk K len nL pc st0 rest As y (ws_ y cc' nL' ret') d rc) {d' mc' ms' : Nat} {Mc : List va_W} {r : Option Value} (hM : CtP (kL K) X y cc' nL' ret' d' mc' ms' As Mc r) (h' : pc + len = pc')
    {M Mr : List va_W} (isC isR : List Nat) (hnd : va_nd (isC ++ isR) = true) (N : Nat) (hN : M.length = N) (hpm : (isC ++ isR).isPerm (List.range N) = true) (hC : isC.map (fun i => M[i]?) = Mc.map some) (hR : isR.map (fun i => M[i]?) = Mr.map some) (hrc : ∀ H, va_P X.1.1 gl_cl M.flatten H → rc H) (hdd : d' + 1 ≤ d) {cells slots : Nat} {c2 s2 : Nat} (hc1 : c2 ≤ mc) (hs1 : s2 ≤ ms) (hc2 : cells + mc' = c2) (hs2 : slots + ms' = s2) {l : List (Nat × Value)} {st1 : List Value} (hst1 : r.toList ++ rest = st1)
    (k : G K X nL c2 s2 M l pc' st1) : G K X nL cells slots M l pc st0 := by
  refine g_call len pc' F hc hM h' isC isR hnd hC hR hrc hdd hc1 hs1 hc2 hs2 (fun v M1 hp => ?_)
  obtain ⟨rfl, rfl⟩ := hp
  rw [hst1]
  exact g_perm M ((perm_sel isC isR (by rw [hN]; exact List.isPerm_iff.mp hpm) hC hR).flatten) k
end CALLS
