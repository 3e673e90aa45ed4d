/-! G: a walk's judgement over a memory of blocks; contracts Ct (returns) and CtX (returns or throws) -/
set_option maxRecDepth 100000
def bI (b : Bool) : Int32 := if b = true then 1 else 0
theorem bI_t : bI true = 1 := rfl
theorem bI_f : bI false = 0 := rfl
theorem bI_0 {b : Bool} : bI b = 0 ↔ b = false := by cases b <;> decide
theorem bI_1 {b : Bool} : bI b = 1 ↔ b = true := by cases b <;> decide
theorem bI_nI (b : Bool) : bI b = nI (if b = true then 1 else 0) := by cases b <;> rfl
theorem bI_nar (b : Bool) : vp_nar .boolean (bI b) = bI b := by cases b <;> decide
/-- the numbers of classes and fields; of array classes; the heap at the law's start, and where its constants stand in it -/
abbrev gk_X : Type := (va_G × (Nat → ClassId)) × (Heap × (Nat → Nat))
def gl_cl : List vw_C := [(RX1, TX1, 10), (RX2, TX2, 2), (RX3, TX3, 1), (RX4, TX4, 2), (RX9, TX9, 1), (RX10, TX10, 1), (RX8, TX8, 10), (RX6, TX6, 12), (RX11, TX11, 9), (RX7, TX7, 3), (RJ2, TJ2, 3), (RJ18, TJ18, 4), (RJ11, TJ11, 1), (RJ20, TJ20, 4), (RJ9, TJ9, 4)]
def gl_ty (X : gk_X) : List (ClassId × FieldType) := [(X.1.2 0, .boolean), (X.1.2 1, .int), (X.1.2 2, .object "Bumpward$Edge"), (X.1.2 3, .object "Bumpward$Kind"), (X.1.2 4, .object "java/lang/Object"), (X.1.2 5, .array .int), (X.1.2 6, .byte)]
/-- cells: booleans, ints, bytes, references, objects -/
def zA (X : gk_X) (n : Nat) (b : Nat → Bool) : va_E := .inl (X.1.2 0, n, .inl fun j => bI (b j))
def iA (X : gk_X) (n : Nat) (f : Nat → Int32) : va_E := .inl (X.1.2 1, n, .inl f)
def yA (X : gk_X) (n : Nat) (f : Nat → Int32) : va_E := .inl (X.1.2 6, n, .inl f)
def oA (X : gk_X) (t n : Nat) (f : Nat → Option Nat) : va_E := .inl (X.1.2 t, n, .inr (.inr (.inr (.inr f))))
def ob (ci : Nat) (fs : List Value) : va_E := .inr (ci, fs)
def updB (f : Nat → Bool) (k : Nat) (x : Bool) : Nat → Bool := fun j => if j = k then x else f j
theorem updB_I (f : Nat → Bool) (k : Nat) (x : Bool) : upd (fun j => bI (f j)) k (bI x) = fun j => bI (updB f k x j) := by
  funext j
  by_cases h : j = k <;> simp [upd, updB, h]
/-- words of the tables that do not ride in lw_all -/
def gl_tk : Cond → Bool
  | .methodLinkNest .. => true
  | .fieldLinkNest .. => true
  | .castable .. => true
  | .declares .. => true
  | _ => false
theorem gl_tk_warm {w : Cond} (hk : gl_tk w = true) {s U : State} (hW : s.WarmedH U.vm) (h : va_Nw w s) : va_Nw w U := by
  unfold gl_tk at hk
  split at hk
  · exact va_Nw.warmM hW h
  · exact va_Nw.warmF hW h
  · exact va_Nw.warmC hW h
  · exact va_Nw.warmD hW h
  · cases hk
theorem gl_tk_same {w : Cond} (hk : gl_tk w = true) {s U : State} (hW : s.vm = U.vm) (h : va_Nw w s) : va_Nw w U := by
  unfold gl_tk at hk
  split at hk
  · exact va_Nw.same rfl hW h
  · exact va_Nw.same rfl hW h
  · exact va_Nw.same rfl hW h
  · exact va_Nw.same rfl hW h
  · cases hk
def yItrHas : MethodName := ⟨"java/util/Iterator", "hasNext", "()Z"⟩
def yItrNext : MethodName := ⟨"java/util/Iterator", "next", "()Ljava/lang/Object;"⟩
def yItrHas1 : MethodName := ⟨"java/util/ArrayList$Itr", "hasNext", "()Z"⟩
def yItrNext1 : MethodName := ⟨"java/util/ArrayList$Itr", "next", "()Ljava/lang/Object;"⟩
/-- what is known of the heap's part that was there at the law's start -/
def gl_Hw (X : gk_X) (H : Heap) : Prop := X.2.1.size ≤ H.size ∧ ∀ q, q < X.2.1.size → H[q]? = X.2.1[q]?
/-- the old part's own region -/
def gl_A (X : gk_X) : Nat → Prop := fun q => X.2.1.size ≤ q
/-- the texts: whose, which entry, the text, which constant -/
def gl_tx : List (String × Nat × String × Nat) := [("Bumpward", 72, "cell", 10), ("Bumpward", 78, "side", 11), ("Bumpward", 138, "edge", 12), ("Bumpward", 157, "seed", 13), ("Bumpward", 84, "walker", 14), ("Bumpward", 172, "full", 15), ("Bumpward", 190, "act", 16), ("Bumpward", 222, "barred", 17), ("Bumpward", 298, "charge", 18), ("Bumpward", 302, "not at home", 19), ("Bumpward", 307, "walkers", 20), ("Bumpward", 308, "not met", 21), ("Bumpward", 322, "minutes", 22), ("Bumpward", 324, "over", 23), ("Bumpward", 335, "what", 24), ("Bumpward", 373, "row", 25), ("Bumpward", 396, "pose", 26), ("Bumpward", 400, "facing", 27), ("Bumpward", 439, "answer", 28), ("BumpwardModel", 239, "", 29), ("BumpwardModel", 250, "x", 30), ("BumpwardModel", 252, "c", 31), ("BumpwardModel", 254, ".", 32), ("BumpwardModel", 260, " |/", 33)]
/-- an array class over int arrays is made -/
def va_AOA (U : State) : Prop := (Cond.arrayOver (.array .int)).before #[] U = true
theorem va_AOA_spec {U : State} (h : va_AOA U) : ∃ comp c k, U.vm.findClass (FieldType.array .int).toString = some comp ∧ (U.vm.classes.findIdx? fun (x : Class) => match x.kind with | .array component _ => component == comp | _ => false) = some c ∧ U.vm.classes[c]? = some k ∧ k.kind = .array comp (.array .int) ∧ U.vm.findClass ("[" ++ (FieldType.array .int).toString) = some c := by
  unfold va_AOA Cond.before Cond.holds at h
  simp only [Cond.value, beq_iff_eq] at h
  cases hc : U.vm.findClass (FieldType.array .int).toString with
  | none => simp [hc] at h
  | some comp =>
    simp only [hc, Option.bind_some, Option.bind_eq_some_iff, Option.map_eq_some_iff] at h
    obtain ⟨c, hi, k, hk, hb⟩ := h
    obtain ⟨hlt, hp, -⟩ := Array.findIdx?_eq_some_iff_getElem.mp hi
    have hkk : U.vm.classes[c] = k := (Array.getElem?_eq_some_iff.mp hk).2
    rw [hkk] at hp
    cases hkind : k.kind with
    | array component ty =>
      rw [hkind] at hb hp
      simp at hb hp
      exact ⟨comp, c, k, rfl, hi, hk, by rw [hkind, hp, hb.1], hb.2⟩
    | _ => rw [hkind] at hb; simp at hb
theorem va_AOA.moved {u U : State} (hvm : u.vm.Alike U.vm) (h : va_AOA u) : va_AOA U := by
  obtain ⟨comp, c, k, h1, h2, h3, h4, h5⟩ := va_AOA_spec h
  obtain ⟨k', hk', he⟩ := hvm.2.2 _ _ h3
  have hi : (U.vm.classes.findIdx? fun (x : Class) => match x.kind with | .array component _ => component == comp | _ => false) = some c := by
    refine (va_idx_bare U.vm comp).symm.trans ?_
    first | rw [hvm.bare_eq] | rw [← hvm.bare_eq]
    exact (va_idx_bare u.vm comp).trans h2
  have hkind : k'.kind = .array comp (.array .int) := by rw [he]; exact h4
  have f1 : U.vm.findClass (FieldType.array .int).toString = some comp := by rw [hvm.findClass]; exact h1
  have f2 : U.vm.findClass ("[" ++ (FieldType.array .int).toString) = some c := by rw [hvm.findClass]; exact h5
  unfold va_AOA Cond.before Cond.holds
  simp only [Cond.value]
  rw [f1, Option.bind_some]
  refine (congrArg (fun o : Option Nat => (o.bind (fun c => (U.vm.classes[c]?).map fun (k : Class) => match k.kind with | .array _ ty => decide (ty = FieldType.array .int) && decide (U.vm.findClass ("[" ++ (FieldType.array .int).toString) = some c) | _ => false) == some true)) hi).trans ?_
  simp [hk', hkind, f2]
abbrev kdN : String := "Bumpward$Kind"
abbrev kdD : String := "LBumpward$Kind;"
/-- the kinds: FREE, WALL, DOOR at the constants 0, 1, 2; their array at 3 -/
def st_kd (X : gk_X) (A : Nat → Prop) (U : State) (H : Heap) : Prop :=
  (va_Z kdN "FREE" kdD (.ref (X.2.2 0)) A U H ∧ va_Z kdN "WALL" kdD (.ref (X.2.2 1)) A U H ∧ va_Z kdN "DOOR" kdD (.ref (X.2.2 2)) A U H ∧ va_Z kdN "$VALUES" "[LBumpward$Kind;" (.ref (X.2.2 3)) A U H) ∧
  (va_O "Bumpward$Kind$1" (X.2.2 0) A U H ∧ va_O kdN (X.2.2 1) A U H ∧ va_O "Bumpward$Kind$2" (X.2.2 2) A U H) ∧
  (va_OF "java/lang/Enum" "ordinal" "I" (.int 0) (X.2.2 0) A U H ∧ va_OF "java/lang/Enum" "ordinal" "I" (.int 1) (X.2.2 1) A U H ∧ va_OF "java/lang/Enum" "ordinal" "I" (.int 2) (X.2.2 2) A U H) ∧
  (va_OF kdN "sign" "C" (.int 32) (X.2.2 0) A U H ∧ va_OF kdN "sign" "C" (.int 124) (X.2.2 1) A U H ∧ va_OF kdN "sign" "C" (.int 47) (X.2.2 2) A U H) ∧
  (H[X.2.2 3]? = some (vp_cell (X.1.2 3) (3, .inr (.inr (.inr (.inr (fun j => some (X.2.2 j))))))) ∧ ¬ A (X.2.2 3)) ∧ (X.2.2 0 ≠ X.2.2 1 ∧ X.2.2 0 ≠ X.2.2 2 ∧ X.2.2 1 ≠ X.2.2 2)
theorem st_kd.moved {X : gk_X} {A : Nat → Prop} {u U : State} {H : Heap} (hvm : u.vm.Alike U.vm) (h : st_kd X A u H) : st_kd X A U H := by
  obtain ⟨⟨a1, a2, a3, a4⟩, ⟨b1, b2, b3⟩, ⟨c1, c2, c3⟩, ⟨d1, d2, d3⟩, e1, f1⟩ := h
  exact ⟨⟨va_Z.moved hvm a1, va_Z.moved hvm a2, va_Z.moved hvm a3, va_Z.moved hvm a4⟩, ⟨va_O.moved hvm b1, va_O.moved hvm b2, va_O.moved hvm b3⟩, ⟨va_OF.moved hvm c1, va_OF.moved hvm c2, va_OF.moved hvm c3⟩, ⟨va_OF.moved hvm d1, va_OF.moved hvm d2, va_OF.moved hvm d3⟩, e1, f1⟩
theorem st_kd.kept {X : gk_X} {A : Nat → Prop} {U : State} {H H1 : Heap} (h : st_kd X A U H) (hq : ∀ a : Nat, a < H.size → ¬ A a → H1[a]? = H[a]?) : st_kd X A U H1 := by
  obtain ⟨⟨a1, a2, a3, a4⟩, ⟨b1, b2, b3⟩, ⟨c1, c2, c3⟩, ⟨d1, d2, d3⟩, ⟨e1, e2⟩, f1⟩ := h
  exact ⟨⟨a1.kept hq, a2.kept hq, a3.kept hq, a4.kept hq⟩, ⟨b1.kept hq, b2.kept hq, b3.kept hq⟩, ⟨c1.kept hq, c2.kept hq, c3.kept hq⟩, ⟨d1.kept hq, d2.kept hq, d3.kept hq⟩, ⟨by rw [hq _ (Array.getElem?_eq_some_iff.mp e1).1 e2]; exact e1, e2⟩, f1⟩
theorem st_kd.narrow {X : gk_X} {A B : Nat → Prop} {U : State} {H : Heap} (h : st_kd X A U H) (hAB : ∀ q, B q → A q) : st_kd X B U H := by
  obtain ⟨⟨a1, a2, a3, a4⟩, ⟨b1, b2, b3⟩, ⟨c1, c2, c3⟩, ⟨d1, d2, d3⟩, ⟨e1, e2⟩, f1⟩ := h
  exact ⟨⟨a1.narrow hAB, a2.narrow hAB, a3.narrow hAB, a4.narrow hAB⟩, ⟨b1.narrow hAB, b2.narrow hAB, b3.narrow hAB⟩, ⟨c1.narrow hAB, c2.narrow hAB, c3.narrow hAB⟩, ⟨d1.narrow hAB, d2.narrow hAB, d3.narrow hAB⟩, ⟨e1, fun z => e2 (hAB _ z)⟩, f1⟩
/-- Optional.EMPTY at 4; ArrayList's empty array at 5; COMPACT_STRINGS -/
def st_jd (X : gk_X) (A : Nat → Prop) (U : State) (H : Heap) : Prop :=
  (va_Z "java/util/Optional" "EMPTY" "Ljava/util/Optional;" (.ref (X.2.2 4)) A U H ∧ va_O "java/util/Optional" (X.2.2 4) A U H ∧ va_OF "java/util/Optional" "value" "Ljava/lang/Object;" .null (X.2.2 4) A U H) ∧
  (va_Z "java/util/ArrayList" "DEFAULTCAPACITY_EMPTY_ELEMENTDATA" "[Ljava/lang/Object;" (.ref (X.2.2 5)) A U H ∧ va_T (.object "java/lang/Object") (X.2.2 5) 0 (fun _ => .null) A U H) ∧
  va_Z "java/lang/String" "COMPACT_STRINGS" "Z" (.int 1) A U H
theorem st_jd.moved {X : gk_X} {A : Nat → Prop} {u U : State} {H : Heap} (hvm : u.vm.Alike U.vm) (h : st_jd X A u H) : st_jd X A U H := by
  obtain ⟨⟨a1, a2, a3⟩, ⟨b1, b2⟩, c1⟩ := h
  exact ⟨⟨va_Z.moved hvm a1, va_O.moved hvm a2, va_OF.moved hvm a3⟩, ⟨va_Z.moved hvm b1, va_T.moved hvm b2⟩, va_Z.moved hvm c1⟩
theorem st_jd.kept {X : gk_X} {A : Nat → Prop} {U : State} {H H1 : Heap} (h : st_jd X A U H) (hq : ∀ a : Nat, a < H.size → ¬ A a → H1[a]? = H[a]?) : st_jd X A U H1 := by
  obtain ⟨⟨a1, a2, a3⟩, ⟨b1, b2⟩, c1⟩ := h
  exact ⟨⟨a1.kept hq, a2.kept hq, a3.kept hq⟩, ⟨b1.kept hq, b2.kept hq⟩, c1.kept hq⟩
theorem st_jd.narrow {X : gk_X} {A B : Nat → Prop} {U : State} {H : Heap} (h : st_jd X A U H) (hAB : ∀ q, B q → A q) : st_jd X B U H := by
  obtain ⟨⟨a1, a2, a3⟩, ⟨b1, b2⟩, c1⟩ := h
  exact ⟨⟨a1.narrow hAB, a2.narrow hAB, a3.narrow hAB⟩, ⟨b1.narrow hAB, b2.narrow hAB⟩, c1.narrow hAB⟩
/-- the texts of the throws: where they stand; Throwable's two statics -/
def st_tx (X : gk_X) (U : State) : Prop := ∀ q ∈ gl_tx, vk_R q.1 q.2.1 q.2.2.1 (X.2.2 q.2.2.2) U
def st_th (A : Nat → Prop) (U : State) (H : Heap) : Prop := vx_Zq Bundle.tN "UNASSIGNED_STACK" Bundle.steD A U H ∧ vx_Zq Bundle.tN "SUPPRESSED_SENTINEL" Bundle.listD A U H
/-- all that is said of constants, of a region A and a heap H -/
def gl_con (X : gk_X) (A : Nat → Prop) (U : State) (H : Heap) : Prop := st_kd X A U H ∧ st_jd X A U H ∧ st_th A U H
theorem gl_con.moved {X : gk_X} {A : Nat → Prop} {u U : State} {H : Heap} (hvm : u.vm.Alike U.vm) (h : gl_con X A u H) : gl_con X A U H := ⟨h.1.moved hvm, h.2.1.moved hvm, vx_Zq.moved hvm h.2.2.1, vx_Zq.moved hvm h.2.2.2⟩
theorem gl_con.kept {X : gk_X} {A : Nat → Prop} {U : State} {H H1 : Heap} (h : gl_con X A U H) (hq : ∀ a : Nat, a < H.size → ¬ A a → H1[a]? = H[a]?) : gl_con X A U H1 := ⟨h.1.kept hq, h.2.1.kept hq, h.2.2.1.kept hq, h.2.2.2.kept hq⟩
theorem gl_con.narrow {X : gk_X} {A B : Nat → Prop} {U : State} {H : Heap} (h : gl_con X A U H) (hAB : ∀ q, B q → A q) : gl_con X B U H := ⟨h.1.narrow hAB, h.2.1.narrow hAB, h.2.2.1.narrow hAB, h.2.2.2.narrow hAB⟩
/-- statics and constants -/
def gl_st (X : gk_X) (U : State) : Prop := gl_con X (gl_A X) U X.2.1 ∧ st_tx X U ∧ va_AOA U
theorem gl_st.warm {X : gk_X} {u U : State} (h : u.WarmedH U.vm) (hs : gl_st X u) : gl_st X U := ⟨hs.1.moved h.alike, fun q hq => vk_R.warm h (hs.2.1 q hq), hs.2.2.moved h.alike⟩
theorem gl_st.same {X : gk_X} {u U : State} (h : u.vm = U.vm) (hs : gl_st X u) : gl_st X U := ⟨hs.1.moved (by rw [h]; exact Vm.Alike.refl _), fun q hq => vk_R.same h.symm (hs.2.1 q hq), hs.2.2.moved (by rw [h]; exact Vm.Alike.refl _)⟩
def gl_S (l : Launch) (X : gk_X) (U : State) : Prop :=
  l.stackTraces = false ∧ va_K X.1.1 gl_cl (gl_ty X) U ∧ (∀ w ∈ lw_tbl, gl_tk w = true → va_Nw w U) ∧ (va_AO "Bumpward$Edge" U ∧ va_AO "java/lang/Object" U) ∧
  (va_Fw "java/util/ArrayList$Itr" yItrHas yItrHas1 U ∧ va_Fw "java/util/ArrayList$Itr" yItrNext yItrNext1 U) ∧ gl_st X U
theorem gl_S.warm {l : Launch} {X : gk_X} {s U : State} (hW : s.WarmedH U.vm) (h : gl_S l X s) : gl_S l X U := by
  obtain ⟨h0, h1, h2, ⟨h3, h4⟩, ⟨h5, h6⟩, h7⟩ := h
  exact ⟨h0, va_K.moved hW.alike h1, fun w hw hk => gl_tk_warm hk hW (h2 w hw hk), ⟨h3.moved hW.alike, h4.moved hW.alike⟩, ⟨h5.moved (by decide) hW.alike, h6.moved (by decide) hW.alike⟩, h7.warm hW⟩
theorem gl_S.same {l : Launch} {X : gk_X} {s U : State} (e : s.vm = U.vm) (h : gl_S l X s) : gl_S l X U := by
  obtain ⟨h0, h1, h2, ⟨h3, h4⟩, ⟨h5, h6⟩, h7⟩ := h
  have hA : s.vm.Alike U.vm := by rw [e]; exact Vm.Alike.refl _
  exact ⟨h0, va_K.moved hA h1, fun w hw hk => gl_tk_same hk e (h2 w hw hk), ⟨h3.moved hA, h4.moved hA⟩, ⟨h5.moved (by decide) hA, h6.moved (by decide) hA⟩, h7.same e⟩
/-! the context of a walk -/
abbrev gk_K : Type := (Program × Launch × Env × Room) × (State × MethodId × Array Value × List Frame) × (Method × Code) × (Nat → Prop) × (State → Prop)
abbrev kP (K : gk_K) : Program := K.1.1
abbrev kL (K : gk_K) : Launch := K.1.2.1
abbrev kE (K : gk_K) : Env := K.1.2.2.1
abbrev kR (K : gk_K) : Room := K.1.2.2.2
abbrev kS (K : gk_K) : State := K.2.1.1
abbrev kM (K : gk_K) : MethodId := K.2.1.2.1
abbrev kAr (K : gk_K) : Array Value := K.2.1.2.2.1
abbrev kBe (K : gk_K) : List Frame := K.2.1.2.2.2
abbrev kMe (K : gk_K) : Method := K.2.2.1.1
abbrev kC (K : gk_K) : Code := K.2.2.1.2
abbrev kA (K : gk_K) : Nat → Prop := K.2.2.2.1
abbrev kQ (K : gk_K) : State → Prop := K.2.2.2.2
abbrev kW (K : gk_K) (H : Heap) (locs : List Loc) (cells slots : Nat) (g : JFrame) : Prop := W (kP K) (kL K) (kE K) (kR K) (kS K) (kM K) (kAr K) (kBe K) (kMe K) (kC K) H locs cells slots (kQ K) g
def G (K : gk_K) (X : gk_X) (nL cells slots : Nat) (M : List va_W) (l : List (Nat × Value)) (pc : Nat) (st : List Value) : Prop :=
  ∀ (H : Heap) (locs : List Loc) (ls : Array Slot), va_P X.1.1 gl_cl M.flatten H → va_D (kA K) M.flatten → va_S (kA K) (kS K).heap H locs → lv_has ls nL l → kW K H locs cells slots (F0 (kM K) pc ls st)
def Ok (K : gk_K) (X : gk_X) (own nm : String) (cc : ByteArray) (nL : Nat) (ret : Option FieldType) (d mc ms : Nat) : Prop :=
  ((kP K).tables.exec = Jvm.exec ∧ (kC K).code = cc ∧ (kC K).maxLocals = nL ∧ (kMe K).sig.returnType = ret ∧ (kMe K).locks = false ∧ (kS K).vm.findClass own = some (kM K).cls ∧ (∀ w ∈ lw_all, w.before (kAr K) (kS K) = true)) ∧
  ((∀ q, (kS K).heap.size ≤ q → kA K q) ∧ (∀ q, kA K q → gl_A X q)) ∧ gl_Hw X (kS K).heap ∧ gl_S (kL K) X (kS K) ∧ (d ≤ (kR K).frames ∧ 64 * d ≤ (kR K).locals ∧ mc ≤ (kR K).cells ∧ ms ≤ (kR K).slots) ∧ (kMe K).name = nm
section OK
variable {K : gk_K} {X : gk_X} {own nm : String} {cc : ByteArray} {nL : Nat} {ret : Option FieldType} {d mc ms : Nat}
theorem Ok.hx (F : Ok K X own nm cc nL ret d mc ms) : (kP K).tables.exec = Jvm.exec := F.1.1
theorem Ok.hb (F : Ok K X own nm cc nL ret d mc ms) : (kC K).code = cc := F.1.2.1
theorem Ok.hml (F : Ok K X own nm cc nL ret d mc ms) : (kC K).maxLocals = nL := F.1.2.2.1
theorem Ok.hr (F : Ok K X own nm cc nL ret d mc ms) : (kMe K).sig.returnType = ret := F.1.2.2.2.1
theorem Ok.hlk (F : Ok K X own nm cc nL ret d mc ms) : (kMe K).locks = false := F.1.2.2.2.2.1
theorem Ok.hown (F : Ok K X own nm cc nL ret d mc ms) : (kS K).vm.findClass own = some (kM K).cls := F.1.2.2.2.2.2.1
theorem Ok.hts (F : Ok K X own nm cc nL ret d mc ms) : ∀ w ∈ lw_all, w.before (kAr K) (kS K) = true := F.1.2.2.2.2.2.2
theorem Ok.hA (F : Ok K X own nm cc nL ret d mc ms) : ∀ q, (kS K).heap.size ≤ q → kA K q := F.2.1.1
theorem Ok.hA0 (F : Ok K X own nm cc nL ret d mc ms) : ∀ q, kA K q → gl_A X q := F.2.1.2
theorem Ok.hW (F : Ok K X own nm cc nL ret d mc ms) : gl_Hw X (kS K).heap := F.2.2.1
theorem Ok.hG (F : Ok K X own nm cc nL ret d mc ms) : gl_S (kL K) X (kS K) := F.2.2.2.1
theorem Ok.hK (F : Ok K X own nm cc nL ret d mc ms) : va_K X.1.1 gl_cl (gl_ty X) (kS K) := F.2.2.2.1.2.1
theorem Ok.hR (F : Ok K X own nm cc nL ret d mc ms) : d ≤ (kR K).frames ∧ 64 * d ≤ (kR K).locals ∧ mc ≤ (kR K).cells ∧ ms ≤ (kR K).slots := F.2.2.2.2.1
theorem Ok.hnm (F : Ok K X own nm cc nL ret d mc ms) : (kMe K).name = nm := F.2.2.2.2.2
theorem Ok.fx (F : Ok K X own nm cc nL ret d mc ms) : CallFix (kP K) (kM K) (kC K) cc nL (kS K) (kAr K) lw_all own := ⟨F.hx, F.hb, F.hml, F.hown, F.hts⟩
/-- a word that does not ride -/
theorem Ok.tw (F : Ok K X own nm cc nL ret d mc ms) {w : Cond} (hw : w ∈ lw_tbl) (hk : gl_tk w = true) : va_Nw w (kS K) := F.hG.2.2.1 w hw hk
/-- the old part stands in every heap of the walk -/
theorem Ok.old (F : Ok K X own nm cc nL ret d mc ms) {H : Heap} {locs : List Loc} (hS : va_S (kA K) (kS K).heap H locs) : gl_Hw X H := by
  refine ⟨Nat.le_trans F.hW.1 hS.1, fun q hq => ?_⟩
  rw [hS.2.1 q (Nat.lt_of_lt_of_le hq F.hW.1) (fun h => absurd (F.hA0 q h) (Nat.not_le.mpr hq))]
  exact F.hW.2 q hq
end OK
/-! worlds by membership -/
theorem vaP_iff {D : va_G} {cl : List vw_C} {ws : va_W} {H : Heap} : va_P D cl ws H ↔ ∀ q ∈ ws, va_at D cl q H := by
  constructor
  · intro h q hq
    obtain ⟨k, hk⟩ := List.getElem?_of_mem hq
    exact h k q hk
  · intro h k q hk
    exact h q (List.mem_of_getElem? hk)
def apartW (ws : va_W) : Prop := ws.Pairwise (fun p q => p.1 ≠ q.1)
theorem vaD_iff {A : Nat → Prop} {ws : va_W} : va_D A ws ↔ apartW ws ∧ ∀ q ∈ ws, A q.1 := by
  constructor
  · intro h
    refine ⟨?_, fun q hq => ?_⟩
    · unfold apartW
      rw [List.pairwise_iff_getElem]
      intro i j hi hj hij he
      have := h.1 i j ws[i] ws[j] (List.getElem?_eq_getElem hi) (List.getElem?_eq_getElem hj) he
      omega
    · obtain ⟨k, hk⟩ := List.getElem?_of_mem hq
      exact h.2 k q hk
  · intro ⟨h1, h2⟩
    refine ⟨fun i j p q hi hj he => ?_, fun k q hk => h2 q (List.mem_of_getElem? hk)⟩
    obtain ⟨hi', ei⟩ := List.getElem?_eq_some_iff.mp hi
    obtain ⟨hj', ej⟩ := List.getElem?_eq_some_iff.mp hj
    unfold apartW at h1
    rw [List.pairwise_iff_getElem] at h1
    rcases Nat.lt_trichotomy i j with h | h | h
    · exact absurd (by rw [ei, ej]; exact he) (h1 i j hi' hj' h)
    · exact h
    · exact absurd (by rw [ei, ej]; exact he.symm) (h1 j i hj' hi' h)
theorem mem_sel {M M' : List va_W} {is : List Nat} (hs : is.map (fun i => M[i]?) = M'.map some) {b : va_W} (hb : b ∈ M') : b ∈ M := by
  have h1 : some b ∈ is.map (fun i => M[i]?) := by rw [hs]; exact List.mem_map.mpr ⟨b, hb, rfl⟩
  obtain ⟨i, -, hi⟩ := List.mem_map.mp h1
  exact List.mem_of_getElem? hi
theorem memF_sel {M M' : List va_W} {is : List Nat} (hs : is.map (fun i => M[i]?) = M'.map some) {q : Nat × va_E} (hq : q ∈ M'.flatten) : q ∈ M.flatten := by
  obtain ⟨b, hb, hqb⟩ := List.mem_flatten.mp hq
  exact List.mem_flatten.mpr ⟨b, mem_sel hs hb, hqb⟩
theorem apart_sel {M M' : List va_W} (is : List Nat) (hs : is.map (fun i => M[i]?) = M'.map some) (hn : va_nd is = true) (h : apartW M.flatten) : apartW M'.flatten := by
  unfold apartW at h ⊢
  rw [List.pairwise_flatten] at h ⊢
  refine ⟨fun b hb => h.1 b (mem_sel hs hb), ?_⟩
  rw [List.pairwise_iff_getElem]
  intro i j hi hj hij x hx y hy
  have at' : ∀ k (hk : k < M'.length), ∃ a, is[k]? = some a ∧ M[a]? = some M'[k] := by
    intro k hk
    have h1 : (is.map (fun i => M[i]?))[k]? = some (some M'[k]) := by rw [hs, List.getElem?_map, List.getElem?_eq_getElem hk]; rfl
    rw [List.getElem?_map] at h1
    cases ha : is[k]? with
    | none => rw [ha] at h1; cases h1
    | some a => rw [ha] at h1; exact ⟨a, rfl, Option.some.inj h1⟩
  obtain ⟨a, ha1, ha2⟩ := at' i hi
  obtain ⟨b, hb1, hb2⟩ := at' j hj
  have hab : a ≠ b := fun e => by
    subst e
    have := va_nd_inj is hn i j a ha1 hb1
    omega
  obtain ⟨hla, ea⟩ := List.getElem?_eq_some_iff.mp ha2
  obtain ⟨hlb, eb⟩ := List.getElem?_eq_some_iff.mp hb2
  have h2 := List.pairwise_iff_getElem.mp h.2
  rcases Nat.lt_or_gt_of_ne hab with hl | hl
  · exact h2 a b hla hlb hl x (by rw [ea]; exact hx) y (by rw [eb]; exact hy)
  · exact fun e => h2 b a hlb hla hl y (by rw [eb]; exact hy) x (by rw [ea]; exact hx) e.symm
theorem fl_mem {M : List va_W} {bi : Nat} {b : va_W} (h : M[bi]? = some b) {q : Nat × va_E} (hq : q ∈ b) : q ∈ M.flatten := List.mem_flatten.mpr ⟨b, List.mem_of_getElem? h, hq⟩
theorem fl_set : ∀ {M : List va_W} {bi a : Nat} {e0 : va_E}, M[bi]? = some [(a, e0)] → ∃ k, M.flatten[k]? = some (a, e0) ∧ ∀ e, (M.set bi [(a, e)]).flatten = M.flatten.set k (a, e)
  | [], bi, a, e0, h => by simp at h
  | b :: M, 0, a, e0, h => by
    rw [List.getElem?_cons_zero] at h
    cases h
    exact ⟨0, rfl, fun e => rfl⟩
  | b :: M, bi + 1, a, e0, h => by
    rw [List.getElem?_cons_succ] at h
    obtain ⟨k, h1, h2⟩ := fl_set h
    refine ⟨b.length + k, ?_, fun e => ?_⟩
    · rw [List.flatten_cons, List.getElem?_append_right (Nat.le_add_right _ _), Nat.add_sub_cancel_left]
      exact h1
    · rw [List.set_cons_succ, List.flatten_cons, h2 e, List.flatten_cons, List.set_append_right _ _ (Nat.le_add_right _ _), Nat.add_sub_cancel_left]
theorem fl_snoc (M : List va_W) (q : Nat × va_E) : (M ++ [[q]]).flatten = M.flatten ++ [q] := by simp
/-! rows that leave the memory -/
section ROWS
variable {K : gk_K} {X : gk_X} {own nm : String} {cc : ByteArray} {nL : Nat} {ret : Option FieldType} {d mc ms : Nat} {cells slots : Nat} {M : List va_W} {l : List (Nat × Value)} {st : List Value}
theorem g_iconst (pc pc' : Nat) (F : Ok K X own nm cc nL ret d mc ms) {n : Int} (v : Int32) (hd : decode cc pc = .ok (.iconst n, 1)) (h' : pc + 1 = pc') (hv : Int32.ofInt n = v) (k : G K X nL cells slots M l pc' (.int v :: st)) : G K X nL cells slots M l pc st := by
  subst h'; exact fun H locs ls hP hD hS h => lv_iconst F.hx F.hb hd hv (k H locs ls hP hD hS h)
theorem g_bipush (pc pc' : Nat) (F : Ok K X own nm cc nL ret d mc ms) {n : Int} (v : Int32) (hd : decode cc pc = .ok (.bipush n, 2)) (h' : pc + 2 = pc') (hv : (Int8.ofInt n).toInt32 = v) (k : G K X nL cells slots M l pc' (.int v :: st)) : G K X nL cells slots M l pc st := by
  subst h'; exact fun H locs ls hP hD hS h => lv_bipush F.hx F.hb hd hv (k H locs ls hP hD hS h)
theorem g_sipush (pc pc' : Nat) (F : Ok K X own nm cc nL ret d mc ms) {n : Int} (v : Int32) (hd : decode cc pc = .ok (.sipush n, 3)) (h' : pc + 3 = pc') (hv : (Int16.ofInt n).toInt32 = v) (k : G K X nL cells slots M l pc' (.int v :: st)) : G K X nL cells slots M l pc st := by
  subst h'; exact fun H locs ls hP hD hS h => lv_sipush F.hx F.hb hd hv (k H locs ls hP hD hS h)
theorem g_lconst (pc pc' : Nat) (F : Ok K X own nm cc nL ret d mc ms) {n : Fin 2} (v : Int64) (hd : decode cc pc = .ok (.lconst n, 1)) (h' : pc + 1 = pc') (hv : Int64.ofNat (n : Nat) = v) (k : G K X nL cells slots M l pc' (.long v :: st)) : G K X nL cells slots M l pc st := by
  subst h'; exact fun H locs ls hP hD hS h => lv_lconst F.hx F.hb hd hv (k H locs ls hP hD hS h)
theorem g_null (pc pc' : Nat) (F : Ok K X own nm cc nL ret d mc ms) (hd : decode cc pc = .ok (.aconst_null, 1)) (h' : pc + 1 = pc') (k : G K X nL cells slots M l pc' (.null :: st)) : G K X nL cells slots M l pc st := by
  subst h'; exact fun H locs ls hP hD hS h => lv_null F.hx F.hb hd (k H locs ls hP hD hS h)
theorem g_ldcI (pc pc' : Nat) (F : Ok K X own nm cc nL ret d mc ms) {index : Nat} (v : Int32) (hw : Cond.constant own index v ∈ lw_all) (hd : decode cc pc = .ok (.ldc index, 2)) (h' : pc + 2 = pc') (k : G K X nL cells slots M l pc' (.int v :: st)) : G K X nL cells slots M l pc st := by
  subst h'; exact fun H locs ls hP hD hS h => lv_ldc F.hx F.hb F.hown (F.hts _ hw) hd (k H locs ls hP hD hS h)
theorem g_ldcwI (pc pc' : Nat) (F : Ok K X own nm cc nL ret d mc ms) {index : Nat} (v : Int32) (hw : Cond.constant own index v ∈ lw_all) (hd : decode cc pc = .ok (.ldc_w index, 3)) (h' : pc + 3 = pc') (k : G K X nL cells slots M l pc' (.int v :: st)) : G K X nL cells slots M l pc st := by
  subst h'; exact fun H locs ls hP hD hS h => lv_ldcw F.hx F.hb F.hown (F.hts _ hw) hd (k H locs ls hP hD hS h)
theorem g_ldc2 (pc pc' : Nat) (F : Ok K X own nm cc nL ret d mc ms) {index : Nat} (v : Int64) (hw : Cond.constantLong own index v ∈ lw_all) (hd : decode cc pc = .ok (.ldc2_w index, 3)) (h' : pc + 3 = pc') (k : G K X nL cells slots M l pc' (.long v :: st)) : G K X nL cells slots M l pc st := by
  subst h'; exact fun H locs ls hP hD hS h => lv_ldc2 F.hx F.hb F.hown (F.hts _ hw) hd (k H locs ls hP hD hS h)
theorem g_iload_n (pc pc' : Nat) (F : Ok K X own nm cc nL ret d mc ms) {kk : Fin 4} {i : Nat} {x : Int32} (hd : decode cc pc = .ok (.iload_n kk, 1)) (h' : pc + 1 = pc') (hi : (kk : Nat) = i) (k0 : Nat) (hl : l[k0]? = some (i, .int x)) (k : G K X nL cells slots M l pc' (.int x :: st)) : G K X nL cells slots M l pc st := by
  subst h'; exact fun H locs ls hP hD hS h => lv_iload_n F.hx F.hb hd hi (lv_at h k0 hl) (k H locs ls hP hD hS h)
theorem g_iload (pc pc' : Nat) (F : Ok K X own nm cc nL ret d mc ms) {i : Nat} {x : Int32} (hd : decode cc pc = .ok (.iload i, 2)) (h' : pc + 2 = pc') (k0 : Nat) (hl : l[k0]? = some (i, .int x)) (k : G K X nL cells slots M l pc' (.int x :: st)) : G K X nL cells slots M l pc st := by
  subst h'; exact fun H locs ls hP hD hS h => lv_iload F.hx F.hb hd (lv_at h k0 hl) (k H locs ls hP hD hS h)
theorem g_lload_n (pc pc' : Nat) (F : Ok K X own nm cc nL ret d mc ms) {kk : Fin 4} {i : Nat} {x : Int64} (hd : decode cc pc = .ok (.lload_n kk, 1)) (h' : pc + 1 = pc') (hi : (kk : Nat) = i) (k0 : Nat) (hl : l[k0]? = some (i, .long x)) (k : G K X nL cells slots M l pc' (.long x :: st)) : G K X nL cells slots M l pc st := by
  subst h'; exact fun H locs ls hP hD hS h => lv_lload_n F.hx F.hb hd hi (lv_at h k0 hl) (k H locs ls hP hD hS h)
theorem g_lload (pc pc' : Nat) (F : Ok K X own nm cc nL ret d mc ms) {i : Nat} {x : Int64} (hd : decode cc pc = .ok (.lload i, 2)) (h' : pc + 2 = pc') (k0 : Nat) (hl : l[k0]? = some (i, .long x)) (k : G K X nL cells slots M l pc' (.long x :: st)) : G K X nL cells slots M l pc st := by
  subst h'; exact fun H locs ls hP hD hS h => lv_lload F.hx F.hb hd (lv_at h k0 hl) (k H locs ls hP hD hS h)
theorem g_dload_n (pc pc' : Nat) (F : Ok K X own nm cc nL ret d mc ms) {kk : Fin 4} {i : Nat} {x : UInt64} (hd : decode cc pc = .ok (.dload_n kk, 1)) (h' : pc + 1 = pc') (hi : (kk : Nat) = i) (k0 : Nat) (hl : l[k0]? = some (i, .double x)) (k : G K X nL cells slots M l pc' (.double x :: st)) : G K X nL cells slots M l pc st := by
  subst h'; exact fun H locs ls hP hD hS h => lv_dload_n F.hx F.hb hd hi (lv_at h k0 hl) (k H locs ls hP hD hS h)
theorem g_dload (pc pc' : Nat) (F : Ok K X own nm cc nL ret d mc ms) {i : Nat} {x : UInt64} (hd : decode cc pc = .ok (.dload i, 2)) (h' : pc + 2 = pc') (k0 : Nat) (hl : l[k0]? = some (i, .double x)) (k : G K X nL cells slots M l pc' (.double x :: st)) : G K X nL cells slots M l pc st := by
  subst h'; exact fun H locs ls hP hD hS h => lv_dload F.hx F.hb hd (lv_at h k0 hl) (k H locs ls hP hD hS h)
theorem g_aload_n (pc pc' : Nat) (F : Ok K X own nm cc nL ret d mc ms) {kk : Fin 4} {i : Nat} {x : Nat} (hd : decode cc pc = .ok (.aload_n kk, 1)) (h' : pc + 1 = pc') (hi : (kk : Nat) = i) (k0 : Nat) (hl : l[k0]? = some (i, .ref x)) (k : G K X nL cells slots M l pc' (.ref x :: st)) : G K X nL cells slots M l pc st := by
  subst h'; exact fun H locs ls hP hD hS h => lv_aload_n F.hx F.hb hd hi (lv_at h k0 hl) (k H locs ls hP hD hS h)
theorem g_aload (pc pc' : Nat) (F : Ok K X own nm cc nL ret d mc ms) {i : Nat} {x : Nat} (hd : decode cc pc = .ok (.aload i, 2)) (h' : pc + 2 = pc') (k0 : Nat) (hl : l[k0]? = some (i, .ref x)) (k : G K X nL cells slots M l pc' (.ref x :: st)) : G K X nL cells slots M l pc st := by
  subst h'; exact fun H locs ls hP hD hS h => lv_aload F.hx F.hb hd (lv_at h k0 hl) (k H locs ls hP hD hS h)
/-- the locals behind a store of one slot, of two slots -/
abbrev lset1 (i : Nat) (v : Value) (l : List (Nat × Value)) : List (Nat × Value) := (i, v) :: l.filter (fun q => !(q.1 == i) && !(q.1 + 1 == i && q.2.category == 2))
abbrev lset2 (i : Nat) (v : Value) (l : List (Nat × Value)) : List (Nat × Value) := (i, v) :: l.filter (fun q => !(q.1 == i) && (!(q.1 == i + 1) && !(q.1 + 1 == i && q.2.category == 2)))
theorem g_istore_n (pc pc' : Nat) (F : Ok K X own nm cc nL ret d mc ms) {kk : Fin 4} {i : Nat} {x : Int32} (l' : List (Nat × Value)) (hd : decode cc pc = .ok (.istore_n kk, 1)) (h' : pc + 1 = pc') (hi : (kk : Nat) = i) (hn : i < nL) (hl : lset1 i (.int x) l = l') (k : G K X nL cells slots M l' pc' st) : G K X nL cells slots M l pc (.int x :: st) := by
  subst h'; exact fun H locs ls hP hD hS h => lv_istore_n F.hx F.hb hd hi h hn hl (fun ls' h2 => k H locs ls' hP hD hS h2)
theorem g_istore (pc pc' : Nat) (F : Ok K X own nm cc nL ret d mc ms) {i : Nat} {x : Int32} (l' : List (Nat × Value)) (hd : decode cc pc = .ok (.istore i, 2)) (h' : pc + 2 = pc') (hn : i < nL) (hl : lset1 i (.int x) l = l') (k : G K X nL cells slots M l' pc' st) : G K X nL cells slots M l pc (.int x :: st) := by
  subst h'; exact fun H locs ls hP hD hS h => lv_istore F.hx F.hb hd h hn hl (fun ls' h2 => k H locs ls' hP hD hS h2)
theorem g_lstore_n (pc pc' : Nat) (F : Ok K X own nm cc nL ret d mc ms) {kk : Fin 4} {i : Nat} {x : Int64} (l' : List (Nat × Value)) (hd : decode cc pc = .ok (.lstore_n kk, 1)) (h' : pc + 1 = pc') (hi : (kk : Nat) = i) (hn : i + 1 < nL) (hl : lset2 i (.long x) l = l') (k : G K X nL cells slots M l' pc' st) : G K X nL cells slots M l pc (.long x :: st) := by
  subst h'; exact fun H locs ls hP hD hS h => lv_lstore_n F.hx F.hb hd hi h hn hl (fun ls' h2 => k H locs ls' hP hD hS h2)
theorem g_lstore (pc pc' : Nat) (F : Ok K X own nm cc nL ret d mc ms) {i : Nat} {x : Int64} (l' : List (Nat × Value)) (hd : decode cc pc = .ok (.lstore i, 2)) (h' : pc + 2 = pc') (hn : i + 1 < nL) (hl : lset2 i (.long x) l = l') (k : G K X nL cells slots M l' pc' st) : G K X nL cells slots M l pc (.long x :: st) := by
  subst h'; exact fun H locs ls hP hD hS h => lv_lstore F.hx F.hb hd h hn hl (fun ls' h2 => k H locs ls' hP hD hS h2)
theorem g_dstore_n (pc pc' : Nat) (F : Ok K X own nm cc nL ret d mc ms) {kk : Fin 4} {i : Nat} {x : UInt64} (l' : List (Nat × Value)) (hd : decode cc pc = .ok (.dstore_n kk, 1)) (h' : pc + 1 = pc') (hi : (kk : Nat) = i) (hn : i + 1 < nL) (hl : lset2 i (.double x) l = l') (k : G K X nL cells slots M l' pc' st) : G K X nL cells slots M l pc (.double x :: st) := by
  subst h'; exact fun H locs ls hP hD hS h => lv_dstore_n F.hx F.hb hd hi h hn hl (fun ls' h2 => k H locs ls' hP hD hS h2)
theorem g_dstore (pc pc' : Nat) (F : Ok K X own nm cc nL ret d mc ms) {i : Nat} {x : UInt64} (l' : List (Nat × Value)) (hd : decode cc pc = .ok (.dstore i, 2)) (h' : pc + 2 = pc') (hn : i + 1 < nL) (hl : lset2 i (.double x) l = l') (k : G K X nL cells slots M l' pc' st) : G K X nL cells slots M l pc (.double x :: st) := by
  subst h'; exact fun H locs ls hP hD hS h => lv_dstore F.hx F.hb hd h hn hl (fun ls' h2 => k H locs ls' hP hD hS h2)
theorem g_astore_n (pc pc' : Nat) (F : Ok K X own nm cc nL ret d mc ms) {kk : Fin 4} {i : Nat} {x : Nat} (l' : List (Nat × Value)) (hd : decode cc pc = .ok (.astore_n kk, 1)) (h' : pc + 1 = pc') (hi : (kk : Nat) = i) (hn : i < nL) (hl : lset1 i (.ref x) l = l') (k : G K X nL cells slots M l' pc' st) : G K X nL cells slots M l pc (.ref x :: st) := by
  subst h'; exact fun H locs ls hP hD hS h => lv_astore_n F.hx F.hb hd hi h hn hl (fun ls' h2 => k H locs ls' hP hD hS h2)
theorem g_astore (pc pc' : Nat) (F : Ok K X own nm cc nL ret d mc ms) {i : Nat} {x : Nat} (l' : List (Nat × Value)) (hd : decode cc pc = .ok (.astore i, 2)) (h' : pc + 2 = pc') (hn : i < nL) (hl : lset1 i (.ref x) l = l') (k : G K X nL cells slots M l' pc' st) : G K X nL cells slots M l pc (.ref x :: st) := by
  subst h'; exact fun H locs ls hP hD hS h => lv_astore F.hx F.hb hd h hn hl (fun ls' h2 => k H locs ls' hP hD hS h2)
theorem g_iinc (pc pc' : Nat) (F : Ok K X own nm cc nL ret d mc ms) {i : Nat} {n : Int} {x v : Int32} (l' : List (Nat × Value)) (hd : decode cc pc = .ok (.iinc i n, 3)) (h' : pc + 3 = pc') (k0 : Nat) (hk : l[k0]? = some (i, .int x)) (hv : x + Int32.ofInt n = v) (hn : i < nL) (hl : lset1 i (.int v) l = l') (k : G K X nL cells slots M l' pc' st) : G K X nL cells slots M l pc st := by
  subst h'; exact fun H locs ls hP hD hS h => lv_iinc F.hx F.hb hd h hk hv hn hl (fun ls' h2 => k H locs ls' hP hD hS h2)
theorem g_iadd (pc pc' : Nat) (F : Ok K X own nm cc nL ret d mc ms) {x y v : Int32} (hd : decode cc pc = .ok (.iadd, 1)) (h' : pc + 1 = pc') (hv : x + y = v) (k : G K X nL cells slots M l pc' (.int v :: st)) : G K X nL cells slots M l pc (.int y :: .int x :: st) := by
  subst h' hv; exact fun H locs ls hP hD hS h => lv_iadd F.hx F.hb hd (k H locs ls hP hD hS h)
theorem g_isub (pc pc' : Nat) (F : Ok K X own nm cc nL ret d mc ms) {x y v : Int32} (hd : decode cc pc = .ok (.isub, 1)) (h' : pc + 1 = pc') (hv : x - y = v) (k : G K X nL cells slots M l pc' (.int v :: st)) : G K X nL cells slots M l pc (.int y :: .int x :: st) := by
  subst h' hv; exact fun H locs ls hP hD hS h => lv_isub F.hx F.hb hd (k H locs ls hP hD hS h)
theorem g_imul (pc pc' : Nat) (F : Ok K X own nm cc nL ret d mc ms) {x y v : Int32} (hd : decode cc pc = .ok (.imul, 1)) (h' : pc + 1 = pc') (hv : x * y = v) (k : G K X nL cells slots M l pc' (.int v :: st)) : G K X nL cells slots M l pc (.int y :: .int x :: st) := by
  subst h' hv; exact fun H locs ls hP hD hS h => lv_imul F.hx F.hb hd (k H locs ls hP hD hS h)
theorem g_iand (pc pc' : Nat) (F : Ok K X own nm cc nL ret d mc ms) {x y v : Int32} (hd : decode cc pc = .ok (.iand, 1)) (h' : pc + 1 = pc') (hv : x &&& y = v) (k : G K X nL cells slots M l pc' (.int v :: st)) : G K X nL cells slots M l pc (.int y :: .int x :: st) := by
  subst h' hv; exact fun H locs ls hP hD hS h => lv_iand F.hx F.hb hd (k H locs ls hP hD hS h)
theorem g_ior (pc pc' : Nat) (F : Ok K X own nm cc nL ret d mc ms) {x y v : Int32} (hd : decode cc pc = .ok (.ior, 1)) (h' : pc + 1 = pc') (hv : x ||| y = v) (k : G K X nL cells slots M l pc' (.int v :: st)) : G K X nL cells slots M l pc (.int y :: .int x :: st) := by
  subst h' hv; exact fun H locs ls hP hD hS h => lv_ior F.hx F.hb hd (k H locs ls hP hD hS h)
theorem g_idiv (pc pc' : Nat) (F : Ok K X own nm cc nL ret d mc ms) {x y v : Int32} (hd : decode cc pc = .ok (.idiv, 1)) (h' : pc + 1 = pc') (hne : ¬ y = 0) (hv : x / y = v) (k : G K X nL cells slots M l pc' (.int v :: st)) : G K X nL cells slots M l pc (.int y :: .int x :: st) := by
  subst h' hv; exact fun H locs ls hP hD hS h => lv_idiv F.hx F.hb hd hne (k H locs ls hP hD hS h)
theorem g_irem (pc pc' : Nat) (F : Ok K X own nm cc nL ret d mc ms) {x y v : Int32} (hd : decode cc pc = .ok (.irem, 1)) (h' : pc + 1 = pc') (hne : ¬ y = 0) (hv : x - x / y * y = v) (k : G K X nL cells slots M l pc' (.int v :: st)) : G K X nL cells slots M l pc (.int y :: .int x :: st) := by
  subst h' hv; exact fun H locs ls hP hD hS h => lv_irem F.hx F.hb hd hne (k H locs ls hP hD hS h)
theorem g_ishl (pc pc' : Nat) (F : Ok K X own nm cc nL ret d mc ms) {x y v : Int32} (hd : decode cc pc = .ok (.ishl, 1)) (h' : pc + 1 = pc') (hv : x <<< (y &&& 31) = v) (k : G K X nL cells slots M l pc' (.int v :: st)) : G K X nL cells slots M l pc (.int y :: .int x :: st) := by
  subst h' hv; exact fun H locs ls hP hD hS h => lv_ishl F.hx F.hb hd (k H locs ls hP hD hS h)
theorem g_ishr (pc pc' : Nat) (F : Ok K X own nm cc nL ret d mc ms) {x y v : Int32} (hd : decode cc pc = .ok (.ishr, 1)) (h' : pc + 1 = pc') (hv : x >>> (y &&& 31) = v) (k : G K X nL cells slots M l pc' (.int v :: st)) : G K X nL cells slots M l pc (.int y :: .int x :: st) := by
  subst h' hv; exact fun H locs ls hP hD hS h => lv_ishr F.hx F.hb hd (k H locs ls hP hD hS h)
theorem g_ineg (pc pc' : Nat) (F : Ok K X own nm cc nL ret d mc ms) {x v : Int32} (hd : decode cc pc = .ok (.ineg, 1)) (h' : pc + 1 = pc') (hv : -x = v) (k : G K X nL cells slots M l pc' (.int v :: st)) : G K X nL cells slots M l pc (.int x :: st) := by
  subst h' hv; exact fun H locs ls hP hD hS h => lv_ineg F.hx F.hb hd (k H locs ls hP hD hS h)
theorem g_ladd (pc pc' : Nat) (F : Ok K X own nm cc nL ret d mc ms) {x y v : Int64} (hd : decode cc pc = .ok (.ladd, 1)) (h' : pc + 1 = pc') (hv : x + y = v) (k : G K X nL cells slots M l pc' (.long v :: st)) : G K X nL cells slots M l pc (.long y :: .long x :: st) := by
  subst h' hv; exact fun H locs ls hP hD hS h => lv_ladd F.hx F.hb hd (k H locs ls hP hD hS h)
theorem g_lsub (pc pc' : Nat) (F : Ok K X own nm cc nL ret d mc ms) {x y v : Int64} (hd : decode cc pc = .ok (.lsub, 1)) (h' : pc + 1 = pc') (hv : x - y = v) (k : G K X nL cells slots M l pc' (.long v :: st)) : G K X nL cells slots M l pc (.long y :: .long x :: st) := by
  subst h' hv; exact fun H locs ls hP hD hS h => lv_lsub F.hx F.hb hd (k H locs ls hP hD hS h)
theorem g_lmul (pc pc' : Nat) (F : Ok K X own nm cc nL ret d mc ms) {x y v : Int64} (hd : decode cc pc = .ok (.lmul, 1)) (h' : pc + 1 = pc') (hv : x * y = v) (k : G K X nL cells slots M l pc' (.long v :: st)) : G K X nL cells slots M l pc (.long y :: .long x :: st) := by
  subst h' hv; exact fun H locs ls hP hD hS h => lv_lmul F.hx F.hb hd (k H locs ls hP hD hS h)
theorem g_lor (pc pc' : Nat) (F : Ok K X own nm cc nL ret d mc ms) {x y v : Int64} (hd : decode cc pc = .ok (.lor, 1)) (h' : pc + 1 = pc') (hv : x ||| y = v) (k : G K X nL cells slots M l pc' (.long v :: st)) : G K X nL cells slots M l pc (.long y :: .long x :: st) := by
  subst h' hv; exact fun H locs ls hP hD hS h => lv_lor F.hx F.hb hd (k H locs ls hP hD hS h)
theorem g_land (pc pc' : Nat) (F : Ok K X own nm cc nL ret d mc ms) {x y v : Int64} (hd : decode cc pc = .ok (.land, 1)) (h' : pc + 1 = pc') (hv : x &&& y = v) (k : G K X nL cells slots M l pc' (.long v :: st)) : G K X nL cells slots M l pc (.long y :: .long x :: st) := by
  subst h' hv; exact fun H locs ls hP hD hS h => lv_land F.hx F.hb hd (k H locs ls hP hD hS h)
theorem g_lshl (pc pc' : Nat) (F : Ok K X own nm cc nL ret d mc ms) {x v : Int64} {y : Int32} (hd : decode cc pc = .ok (.lshl, 1)) (h' : pc + 1 = pc') (hv : x <<< (y.toInt64 &&& 63) = v) (k : G K X nL cells slots M l pc' (.long v :: st)) : G K X nL cells slots M l pc (.int y :: .long x :: st) := by
  subst h'; exact fun H locs ls hP hD hS h => lv_lshl F.hx F.hb hd hv (k H locs ls hP hD hS h)
theorem g_lushr (pc pc' : Nat) (F : Ok K X own nm cc nL ret d mc ms) {x v : Int64} {y : Int32} (hd : decode cc pc = .ok (.lushr, 1)) (h' : pc + 1 = pc') (hv : (x.toUInt64 >>> (y.toInt64.toUInt64 &&& Int64.toUInt64 63)).toInt64 = v) (k : G K X nL cells slots M l pc' (.long v :: st)) : G K X nL cells slots M l pc (.int y :: .long x :: st) := by
  subst h'; exact fun H locs ls hP hD hS h => lv_lushr F.hx F.hb hd hv (k H locs ls hP hD hS h)
theorem lg_cmp_0 {x y : Int64} : lg_cmp x y = 0 ↔ x = y := by
  unfold lg_cmp
  by_cases h1 : y < x
  · rw [if_pos h1]
    exact ⟨fun h => absurd h (by decide), fun h => by subst h; exact absurd h1 Int64.lt_irrefl⟩
  · rw [if_neg h1]
    by_cases h2 : x = y
    · rw [if_pos h2]
      exact ⟨fun _ => h2, fun _ => rfl⟩
    · rw [if_neg h2]
      exact ⟨fun h => absurd h (by decide), fun h => absurd h h2⟩
theorem g_lcmp (pc pc' : Nat) (F : Ok K X own nm cc nL ret d mc ms) {x y : Int64} (hd : decode cc pc = .ok (.lcmp, 1)) (h' : pc + 1 = pc') (k : ∀ v : Int32, (v = 0 ↔ x = y) → G K X nL cells slots M l pc' (.int v :: st)) : G K X nL cells slots M l pc (.long y :: .long x :: st) := by
  subst h'; exact fun H locs ls hP hD hS h => W.lcmp F.hx F.hb hd (k _ lg_cmp_0 H locs ls hP hD hS h)
theorem g_i2l (pc pc' : Nat) (F : Ok K X own nm cc nL ret d mc ms) {x : Int32} {v : Int64} (hd : decode cc pc = .ok (.i2l, 1)) (h' : pc + 1 = pc') (hv : x.toInt64 = v) (k : G K X nL cells slots M l pc' (.long v :: st)) : G K X nL cells slots M l pc (.int x :: st) := by
  subst h'; exact fun H locs ls hP hD hS h => lv_i2l F.hx F.hb hd hv (k H locs ls hP hD hS h)
theorem g_l2i (pc pc' : Nat) (F : Ok K X own nm cc nL ret d mc ms) {x : Int64} {v : Int32} (hd : decode cc pc = .ok (.l2i, 1)) (h' : pc + 1 = pc') (hv : x.toInt32 = v) (k : G K X nL cells slots M l pc' (.int v :: st)) : G K X nL cells slots M l pc (.long x :: st) := by
  subst h'; exact fun H locs ls hP hD hS h => lv_l2i F.hx F.hb hd hv (k H locs ls hP hD hS h)
theorem g_dup (pc pc' : Nat) (F : Ok K X own nm cc nL ret d mc ms) {v : Value} (hd : decode cc pc = .ok (.dup, 1)) (h' : pc + 1 = pc') (hv : v.category = 1) (k : G K X nL cells slots M l pc' (v :: v :: st)) : G K X nL cells slots M l pc (v :: st) := by
  subst h'; exact fun H locs ls hP hD hS h => lv_dup F.hx F.hb hd hv (k H locs ls hP hD hS h)
theorem g_pop (pc pc' : Nat) (F : Ok K X own nm cc nL ret d mc ms) {v : Value} (hd : decode cc pc = .ok (.pop, 1)) (h' : pc + 1 = pc') (hv : v.category = 1) (k : G K X nL cells slots M l pc' st) : G K X nL cells slots M l pc (v :: st) := by
  subst h'; exact fun H locs ls hP hD hS h => lv_pop F.hx F.hb hd hv (k H locs ls hP hD hS h)
theorem g_dup_x1 (pc pc' : Nat) (F : Ok K X own nm cc nL ret d mc ms) {v w : Value} (hd : decode cc pc = .ok (.dup_x1, 1)) (h' : pc + 1 = pc') (hv : v.category = 1) (hw : w.category = 1) (k : G K X nL cells slots M l pc' (v :: w :: v :: st)) : G K X nL cells slots M l pc (v :: w :: st) := by
  subst h'; exact fun H locs ls hP hD hS h => lv_dup_x1 F.hx F.hb hd hv hw (k H locs ls hP hD hS h)
theorem g_dup2 (pc pc' : Nat) (F : Ok K X own nm cc nL ret d mc ms) {v w : Value} (hd : decode cc pc = .ok (.dup2, 1)) (h' : pc + 1 = pc') (hv : v.category = 1) (hw : w.category = 1) (k : G K X nL cells slots M l pc' (v :: w :: v :: w :: st)) : G K X nL cells slots M l pc (v :: w :: st) := by
  subst h'; exact fun H locs ls hP hD hS h => lv_dup2_11 F.hx F.hb hd hv hw (k H locs ls hP hD hS h)
theorem g_goto (pc tgt : Nat) (F : Ok K X own nm cc nL ret d mc ms) {off : Int} (hd : decode cc pc = .ok (.goto off, 3)) (ht : (pc : Int) + off = (tgt : Int)) (k : G K X nL cells slots M l tgt st) : G K X nL cells slots M l pc st := by
  exact fun H locs ls hP hD hS h => lv_goto F.hx F.hb hd ht (k H locs ls hP hD hS h)
theorem g_top {x v : Int32} {pc : Nat} (e : x = v) (k : G K X nL cells slots M l pc (.int v :: st)) : G K X nL cells slots M l pc (.int x :: st) := by
  rw [e]; exact k
theorem g_stk {st' : List Value} {pc : Nat} (e : st = st') (k : G K X nL cells slots M l pc st') : G K X nL cells slots M l pc st := by
  rw [e]; exact k
/-- fewer locals, in any order, by their places -/
theorem g_ls {pc : Nat} (l' : List (Nat × Value)) (ks : List Nat) (hl : lv_pick l ks = l') (k : G K X nL cells slots M l' pc st) : G K X nL cells slots M l pc st :=
  fun H locs ls hP hD hS h => k H locs ls hP hD hS (lv_sub h ks hl)
theorem g_wid {pc : Nat} {c2 s2 : Nat} (h1 : cells ≤ c2) (h2 : slots ≤ s2) (k : G K X nL c2 s2 M l pc st) : G K X nL cells slots M l pc st :=
  fun H locs ls hP hD hS h => W.widen h1 h2 (k H locs ls hP hD hS h)
/-- blocks by their places -/
theorem g_sel {pc : Nat} (M' : List va_W) (is : List Nat) (hn : va_nd is = true) (hs : is.map (fun i => M[i]?) = M'.map some) (k : G K X nL cells slots M' l pc st) : G K X nL cells slots M l pc st :=
  fun H locs ls hP hD hS h => k H locs ls (vaP_iff.mpr fun q hq => vaP_iff.mp hP q (memF_sel hs hq)) (vaD_iff.mpr ⟨apart_sel is hs hn (vaD_iff.mp hD).1, fun q hq => (vaD_iff.mp hD).2 q (memF_sel hs hq)⟩) hS h
theorem apartW_perm {a b : va_W} (h : a.Perm b) (hb : apartW b) : apartW a := (List.Perm.pairwise_iff (fun hxy e => hxy e.symm) h).mpr hb
/-- the same cells, in other blocks -/
theorem g_perm {pc : Nat} (M' : List va_W) (hp : M'.flatten.Perm M.flatten) (k : G K X nL cells slots M' l pc st) : G K X nL cells slots M l pc st :=
  fun H locs ls hP hD hS h => k H locs ls (vaP_iff.mpr fun q hq => vaP_iff.mp hP q (hp.mem_iff.mp hq)) (vaD_iff.mpr ⟨apartW_perm hp (vaD_iff.mp hD).1, fun q hq => (vaD_iff.mp hD).2 q (hp.mem_iff.mp hq)⟩) hS h
theorem g_down {P : Nat → Prop} (N i0 : Nat) (h : i0 ≤ N) (hN : P N) (hs : ∀ i, i0 ≤ i → i < N → P (i + 1) → P i) : P i0 := by
  obtain ⟨k, rfl⟩ := Nat.exists_eq_add_of_le h
  clear h
  have : ∀ j, j ≤ k → P (i0 + (k - j)) := by
    intro j
    induction j with
    | zero => intro _; exact hN
    | succ j ih =>
      intro hj
      have h1 := hs (i0 + (k - (j + 1))) (by omega) (by omega)
      rw [show i0 + (k - (j + 1)) + 1 = i0 + (k - j) by omega] at h1
      exact h1 (ih (by omega))
  have h2 := this k (Nat.le_refl _)
  rwa [Nat.sub_self, Nat.add_zero] at h2
end ROWS
