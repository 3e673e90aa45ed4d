/-! Bumpward$Draws -/
set_option maxRecDepth 100000
def RX2 : String := "Bumpward$Draws"
def TX2 : u_T := fun k => match k with
  | 0 => ("Bumpward$Draws", "next", "I", false)
  | _ => ("Bumpward$Draws", "many", "I", false)
def tyX2 : Nat → FieldType := fun k => match k with
  | 0 => .int
  | _ => .int
abbrev wsX20 : List Cond := u_ws RX2 TX2 2
theorem nmX2 : ∀ a, a < 2 → ∀ b, b < 2 → a ≠ b → (TX2 a).2.1 ≠ (TX2 b).2.1 := by decide +kernel
theorem tyX2_ok : ∀ k, k < 2 → parseFieldDescriptor (TX2 k).2.2.1 = some (tyX2 k) := by decide +kernel
abbrev cX2_init : ByteArray := prog_3_method_1_code
def yX2_init : MethodName := ⟨RX2, "<init>", "()V"⟩
def dkwX2_init_0 : List UInt8 := [42, 183, 0, 1, 42, 16, 7, 181, 0, 7, 177]
abbrev dktX2_init_0 : List UInt8 := dkwX2_init_0 ++ []
theorem dksX2_init_0 : cX2_init.data.toList.drop 0 = dktX2_init_0 := by decide +kernel
theorem dX2_init_0 : decode cX2_init 0 = .ok (.aload_n 0, 1) := dk_42 (dk_at dksX2_init_0 0 rfl rfl)
theorem dX2_init_1 : decode cX2_init 1 = .ok (.invokespecial 1, 3) := dk_183 0 1 (dk_at dksX2_init_0 1 rfl rfl)
theorem dX2_init_4 : decode cX2_init 4 = .ok (.aload_n 0, 1) := dk_42 (dk_at dksX2_init_0 4 rfl rfl)
theorem dX2_init_5 : decode cX2_init 5 = .ok (.bipush 7, 2) := dk_16 7 (dk_at dksX2_init_0 5 rfl rfl)
theorem dX2_init_7 : decode cX2_init 7 = .ok (.putfield 7, 3) := dk_181 0 7 (dk_at dksX2_init_0 7 rfl rfl)
theorem dX2_init_10 : decode cX2_init 10 = .ok (.return_, 1) := dk_177 (dk_at dksX2_init_0 10 rfl rfl)
abbrev cX2_many : ByteArray := prog_3_method_3_code
def yX2_many : MethodName := ⟨RX2, "many", "()I"⟩
theorem dX2_many_0 : decode cX2_many 0 = .ok (.aload_n 0, 1) := by decide +kernel
theorem dX2_many_1 : decode cX2_many 1 = .ok (.getfield 13, 3) := by decide +kernel
theorem dX2_many_4 : decode cX2_many 4 = .ok (.ireturn, 1) := by decide +kernel
abbrev cX2_draw : ByteArray := prog_3_method_2_code
def yX2_draw : MethodName := ⟨RX2, "draw", "()I"⟩
def dkwX2_draw_1 : List UInt8 := [4, 96, 181, 0, 13, 27, 172]
abbrev dktX2_draw_1 : List UInt8 := dkwX2_draw_1 ++ []
def dkwX2_draw_0 : List UInt8 := [42, 180, 0, 7, 60, 42, 16, 29, 27, 104, 16, 13, 96, 16, 127, 112, 181, 0, 7, 42, 89, 180, 0, 13]
abbrev dktX2_draw_0 : List UInt8 := dkwX2_draw_0 ++ dktX2_draw_1
theorem dksX2_draw_0 : cX2_draw.data.toList.drop 0 = dktX2_draw_0 := by decide +kernel
theorem dksX2_draw_1 : cX2_draw.data.toList.drop 24 = dktX2_draw_1 := dk_seg dksX2_draw_0 24 rfl rfl
theorem dX2_draw_0 : decode cX2_draw 0 = .ok (.aload_n 0, 1) := dk_42 (dk_at dksX2_draw_0 0 rfl rfl)
theorem dX2_draw_1 : decode cX2_draw 1 = .ok (.getfield 7, 3) := dk_180 0 7 (dk_at dksX2_draw_0 1 rfl rfl)
theorem dX2_draw_4 : decode cX2_draw 4 = .ok (.istore_n 1, 1) := dk_60 (dk_at dksX2_draw_0 4 rfl rfl)
theorem dX2_draw_5 : decode cX2_draw 5 = .ok (.aload_n 0, 1) := dk_42 (dk_at dksX2_draw_0 5 rfl rfl)
theorem dX2_draw_6 : decode cX2_draw 6 = .ok (.bipush 29, 2) := dk_16 29 (dk_at dksX2_draw_0 6 rfl rfl)
theorem dX2_draw_8 : decode cX2_draw 8 = .ok (.iload_n 1, 1) := dk_27 (dk_at dksX2_draw_0 8 rfl rfl)
theorem dX2_draw_9 : decode cX2_draw 9 = .ok (.imul, 1) := dk_104 (dk_at dksX2_draw_0 9 rfl rfl)
theorem dX2_draw_10 : decode cX2_draw 10 = .ok (.bipush 13, 2) := dk_16 13 (dk_at dksX2_draw_0 10 rfl rfl)
theorem dX2_draw_12 : decode cX2_draw 12 = .ok (.iadd, 1) := dk_96 (dk_at dksX2_draw_0 12 rfl rfl)
theorem dX2_draw_13 : decode cX2_draw 13 = .ok (.bipush 127, 2) := dk_16 127 (dk_at dksX2_draw_0 13 rfl rfl)
theorem dX2_draw_15 : decode cX2_draw 15 = .ok (.irem, 1) := dk_112 (dk_at dksX2_draw_0 15 rfl rfl)
theorem dX2_draw_16 : decode cX2_draw 16 = .ok (.putfield 7, 3) := dk_181 0 7 (dk_at dksX2_draw_0 16 rfl rfl)
theorem dX2_draw_19 : decode cX2_draw 19 = .ok (.aload_n 0, 1) := dk_42 (dk_at dksX2_draw_0 19 rfl rfl)
theorem dX2_draw_20 : decode cX2_draw 20 = .ok (.dup, 1) := dk_89 (dk_at dksX2_draw_0 20 rfl rfl)
theorem dX2_draw_21 : decode cX2_draw 21 = .ok (.getfield 13, 3) := dk_180 0 13 (dk_at dksX2_draw_0 21 rfl rfl)
theorem dX2_draw_24 : decode cX2_draw 24 = .ok (.iconst 1, 1) := dk_4 (dk_at dksX2_draw_1 0 rfl rfl)
theorem dX2_draw_25 : decode cX2_draw 25 = .ok (.iadd, 1) := dk_96 (dk_at dksX2_draw_1 1 rfl rfl)
theorem dX2_draw_26 : decode cX2_draw 26 = .ok (.putfield 13, 3) := dk_181 0 13 (dk_at dksX2_draw_1 2 rfl rfl)
theorem dX2_draw_29 : decode cX2_draw 29 = .ok (.iload_n 1, 1) := dk_27 (dk_at dksX2_draw_1 5 rfl rfl)
theorem dX2_draw_30 : decode cX2_draw 30 = .ok (.ireturn, 1) := dk_172 (dk_at dksX2_draw_1 6 rfl rfl)
theorem q53 : (Jvm.Cond.initialized "Bumpward$Draws") ∈ lw_all := lw_g (lw_at lw_m1 5 rfl) rfl
theorem q128 : (Jvm.Cond.instantiable "Bumpward$Draws" (2 : Nat)) ∈ lw_all := lw_g (lw_at lw_m1 80 rfl) rfl
theorem q130 : (Jvm.Cond.instanceMethod ({ cls := "Bumpward$Draws", name := "<init>", desc := "()V" } : Jvm.MethodName)) ∈ lw_all := lw_g (lw_at lw_m1 82 rfl) rfl
theorem q131 : (Jvm.Cond.code ({ cls := "Bumpward$Draws", name := "<init>", desc := "()V" } : Jvm.MethodName) prog_3_method_1_code (1 : Nat) (Option.none : Option Jvm.ClassFile.FieldType)) ∈ lw_all := lw_g (lw_at lw_m1 83 rfl) rfl
theorem q132 : (Jvm.Cond.methodLink "Bumpward$Draws" (1 : Nat) ({ cls := "java/lang/Object", name := "<init>", desc := "()V" } : Jvm.MethodName)) ∈ lw_all := lw_g (lw_at lw_m1 84 rfl) rfl
theorem q133 : (Jvm.Cond.fieldLink "Bumpward$Draws" (7 : Nat) "Bumpward$Draws" "next" "I") ∈ lw_all := lw_g (lw_at lw_m1 85 rfl) rfl
theorem q134 : (Jvm.Cond.fieldLink "Bumpward$Draws" (13 : Nat) "Bumpward$Draws" "many" "I") ∈ lw_all := lw_g (lw_at lw_m1 86 rfl) rfl
theorem q135 : (Jvm.Cond.lays "Bumpward$Draws" "Bumpward$Draws" "next" "I") ∈ lw_all := lw_g (lw_at lw_m1 87 rfl) rfl
theorem q136 : (Jvm.Cond.soleField "Bumpward$Draws" "next") ∈ lw_all := lw_g (lw_at lw_m1 88 rfl) rfl
theorem q137 : (Jvm.Cond.lays "Bumpward$Draws" "Bumpward$Draws" "many" "I") ∈ lw_all := lw_g (lw_at lw_m1 89 rfl) rfl
theorem q138 : (Jvm.Cond.soleField "Bumpward$Draws" "many") ∈ lw_all := lw_g (lw_at lw_m1 90 rfl) rfl
theorem q139 : (Jvm.Cond.superclass "Bumpward$Draws" "java/lang/Object") ∈ lw_all := lw_g (lw_at lw_m1 91 rfl) rfl
theorem q336 : (Jvm.Cond.instanceMethod ({ cls := "Bumpward$Draws", name := "many", desc := "()I" } : Jvm.MethodName)) ∈ lw_all := lw_g (lw_at lw_m2 48 rfl) rfl
theorem q337 : (Jvm.Cond.selects "Bumpward$Draws" ({ cls := "Bumpward$Draws", name := "many", desc := "()I" } : Jvm.MethodName) ({ cls := "Bumpward$Draws", name := "many", desc := "()I" } : Jvm.MethodName)) ∈ lw_all := lw_g (lw_at lw_m2 49 rfl) rfl
theorem q338 : (Jvm.Cond.code ({ cls := "Bumpward$Draws", name := "many", desc := "()I" } : Jvm.MethodName) prog_3_method_3_code (1 : Nat) (Option.some Jvm.ClassFile.FieldType.int)) ∈ lw_all := lw_g (lw_at lw_m2 50 rfl) rfl
theorem q829 : (Jvm.Cond.selects "Bumpward$Draws" ({ cls := "java/lang/Object", name := "getClass", desc := "()Ljava/lang/Class;" } : Jvm.MethodName) ({ cls := "java/lang/Object", name := "getClass", desc := "()Ljava/lang/Class;" } : Jvm.MethodName)) ∈ lw_all := lw_g (lw_at lw_m4 61 rfl) rfl
theorem q917 : (Jvm.Cond.instanceMethod ({ cls := "Bumpward$Draws", name := "draw", desc := "()I" } : Jvm.MethodName)) ∈ lw_all := lw_g (lw_at lw_m4 149 rfl) rfl
theorem q918 : (Jvm.Cond.selects "Bumpward$Draws" ({ cls := "Bumpward$Draws", name := "draw", desc := "()I" } : Jvm.MethodName) ({ cls := "Bumpward$Draws", name := "draw", desc := "()I" } : Jvm.MethodName)) ∈ lw_all := lw_g (lw_at lw_m4 150 rfl) rfl
theorem q919 : (Jvm.Cond.code ({ cls := "Bumpward$Draws", name := "draw", desc := "()I" } : Jvm.MethodName) prog_3_method_2_code (2 : Nat) (Option.some Jvm.ClassFile.FieldType.int)) ∈ lw_all := lw_g (lw_at lw_m4 151 rfl) rfl
theorem q1796 : (Jvm.Cond.castable "Bumpward$Draws" "java/lang/Object") ∈ lw_tbl := lw_at lw_m8 68 rfl
theorem in_X2 : ∀ w ∈ wsX20, w ∈ lw_all := lw_in wsX20 [135, 137] (by decide +kernel) (by decide +kernel)
/-! Bumpward$Porter -/
set_option maxRecDepth 100000
def RX3 : String := "Bumpward$Porter"
def TX3 : u_T := fun k => match k with
  | _ => ("Bumpward$Porter", "refused", "I", false)
def tyX3 : Nat → FieldType := fun k => match k with
  | _ => .int
abbrev wsX30 : List Cond := u_ws RX3 TX3 1
theorem nmX3 : ∀ a, a < 1 → ∀ b, b < 1 → a ≠ b → (TX3 a).2.1 ≠ (TX3 b).2.1 := by decide +kernel
theorem tyX3_ok : ∀ k, k < 1 → parseFieldDescriptor (TX3 k).2.2.1 = some (tyX3 k) := by decide +kernel
abbrev cX3_init : ByteArray := prog_9_method_1_code
def yX3_init : MethodName := ⟨RX3, "<init>", "()V"⟩
theorem dX3_init_0 : decode cX3_init 0 = .ok (.aload_n 0, 1) := by decide +kernel
theorem dX3_init_1 : decode cX3_init 1 = .ok (.invokespecial 1, 3) := by decide +kernel
theorem dX3_init_4 : decode cX3_init 4 = .ok (.return_, 1) := by decide +kernel
abbrev cX3_call : ByteArray := prog_9_method_2_code
def yX3_call : MethodName := ⟨RX3, "call", "()I"⟩
def dkwX3_call_0 : List UInt8 := [42, 89, 180, 0, 7, 4, 96, 181, 0, 7, 42, 180, 0, 7, 172]
abbrev dktX3_call_0 : List UInt8 := dkwX3_call_0 ++ []
theorem dksX3_call_0 : cX3_call.data.toList.drop 0 = dktX3_call_0 := by decide +kernel
theorem dX3_call_0 : decode cX3_call 0 = .ok (.aload_n 0, 1) := dk_42 (dk_at dksX3_call_0 0 rfl rfl)
theorem dX3_call_1 : decode cX3_call 1 = .ok (.dup, 1) := dk_89 (dk_at dksX3_call_0 1 rfl rfl)
theorem dX3_call_2 : decode cX3_call 2 = .ok (.getfield 7, 3) := dk_180 0 7 (dk_at dksX3_call_0 2 rfl rfl)
theorem dX3_call_5 : decode cX3_call 5 = .ok (.iconst 1, 1) := dk_4 (dk_at dksX3_call_0 5 rfl rfl)
theorem dX3_call_6 : decode cX3_call 6 = .ok (.iadd, 1) := dk_96 (dk_at dksX3_call_0 6 rfl rfl)
theorem dX3_call_7 : decode cX3_call 7 = .ok (.putfield 7, 3) := dk_181 0 7 (dk_at dksX3_call_0 7 rfl rfl)
theorem dX3_call_10 : decode cX3_call 10 = .ok (.aload_n 0, 1) := dk_42 (dk_at dksX3_call_0 10 rfl rfl)
theorem dX3_call_11 : decode cX3_call 11 = .ok (.getfield 7, 3) := dk_180 0 7 (dk_at dksX3_call_0 11 rfl rfl)
theorem dX3_call_14 : decode cX3_call 14 = .ok (.ireturn, 1) := dk_172 (dk_at dksX3_call_0 14 rfl rfl)
abbrev cX3_refused : ByteArray := prog_9_method_3_code
def yX3_refused : MethodName := ⟨RX3, "refused", "()I"⟩
theorem dX3_refused_0 : decode cX3_refused 0 = .ok (.aload_n 0, 1) := by decide +kernel
theorem dX3_refused_1 : decode cX3_refused 1 = .ok (.getfield 7, 3) := by decide +kernel
theorem dX3_refused_4 : decode cX3_refused 4 = .ok (.ireturn, 1) := by decide +kernel
theorem q54 : (Jvm.Cond.initialized "Bumpward$Porter") ∈ lw_all := lw_g (lw_at lw_m1 6 rfl) rfl
theorem q141 : (Jvm.Cond.instantiable "Bumpward$Porter" (1 : Nat)) ∈ lw_all := lw_g (lw_at lw_m1 93 rfl) rfl
theorem q143 : (Jvm.Cond.instanceMethod ({ cls := "Bumpward$Porter", name := "<init>", desc := "()V" } : Jvm.MethodName)) ∈ lw_all := lw_g (lw_at lw_m1 95 rfl) rfl
theorem q144 : (Jvm.Cond.code ({ cls := "Bumpward$Porter", name := "<init>", desc := "()V" } : Jvm.MethodName) prog_9_method_1_code (1 : Nat) (Option.none : Option Jvm.ClassFile.FieldType)) ∈ lw_all := lw_g (lw_at lw_m1 96 rfl) rfl
theorem q145 : (Jvm.Cond.methodLink "Bumpward$Porter" (1 : Nat) ({ cls := "java/lang/Object", name := "<init>", desc := "()V" } : Jvm.MethodName)) ∈ lw_all := lw_g (lw_at lw_m1 97 rfl) rfl
theorem q146 : (Jvm.Cond.fieldLink "Bumpward$Porter" (7 : Nat) "Bumpward$Porter" "refused" "I") ∈ lw_all := lw_g (lw_at lw_m1 98 rfl) rfl
theorem q147 : (Jvm.Cond.lays "Bumpward$Porter" "Bumpward$Porter" "refused" "I") ∈ lw_all := lw_g (lw_at lw_m1 99 rfl) rfl
theorem q148 : (Jvm.Cond.soleField "Bumpward$Porter" "refused") ∈ lw_all := lw_g (lw_at lw_m1 100 rfl) rfl
theorem q149 : (Jvm.Cond.superclass "Bumpward$Porter" "java/lang/Object") ∈ lw_all := lw_g (lw_at lw_m1 101 rfl) rfl
theorem q202 : (Jvm.Cond.instanceMethod ({ cls := "Bumpward$Porter", name := "call", desc := "()I" } : Jvm.MethodName)) ∈ lw_all := lw_g (lw_at lw_m1 154 rfl) rfl
theorem q203 : (Jvm.Cond.selects "Bumpward$Porter" ({ cls := "Bumpward$Porter", name := "call", desc := "()I" } : Jvm.MethodName) ({ cls := "Bumpward$Porter", name := "call", desc := "()I" } : Jvm.MethodName)) ∈ lw_all := lw_g (lw_at lw_m1 155 rfl) rfl
theorem q204 : (Jvm.Cond.code ({ cls := "Bumpward$Porter", name := "call", desc := "()I" } : Jvm.MethodName) prog_9_method_2_code (1 : Nat) (Option.some Jvm.ClassFile.FieldType.int)) ∈ lw_all := lw_g (lw_at lw_m1 156 rfl) rfl
theorem q340 : (Jvm.Cond.instanceMethod ({ cls := "Bumpward$Porter", name := "refused", desc := "()I" } : Jvm.MethodName)) ∈ lw_all := lw_g (lw_at lw_m2 52 rfl) rfl
theorem q341 : (Jvm.Cond.selects "Bumpward$Porter" ({ cls := "Bumpward$Porter", name := "refused", desc := "()I" } : Jvm.MethodName) ({ cls := "Bumpward$Porter", name := "refused", desc := "()I" } : Jvm.MethodName)) ∈ lw_all := lw_g (lw_at lw_m2 53 rfl) rfl
theorem q342 : (Jvm.Cond.code ({ cls := "Bumpward$Porter", name := "refused", desc := "()I" } : Jvm.MethodName) prog_9_method_3_code (1 : Nat) (Option.some Jvm.ClassFile.FieldType.int)) ∈ lw_all := lw_g (lw_at lw_m2 54 rfl) rfl
theorem q835 : (Jvm.Cond.selects "Bumpward$Porter" ({ cls := "java/lang/Object", name := "getClass", desc := "()Ljava/lang/Class;" } : Jvm.MethodName) ({ cls := "java/lang/Object", name := "getClass", desc := "()Ljava/lang/Class;" } : Jvm.MethodName)) ∈ lw_all := lw_g (lw_at lw_m4 67 rfl) rfl
theorem q1797 : (Jvm.Cond.castable "Bumpward$Porter" "java/lang/Object") ∈ lw_tbl := lw_at lw_m8 69 rfl
theorem in_X3 : ∀ w ∈ wsX30, w ∈ lw_all := lw_in wsX30 [147] (by decide +kernel) (by decide +kernel)
/-! Bumpward$Edge -/
set_option maxRecDepth 100000
def RX4 : String := "Bumpward$Edge"
def TX4 : u_T := fun k => match k with
  | 0 => ("Bumpward$Edge", "kind", "LBumpward$Kind;", false)
  | _ => ("Bumpward$Edge", "hours", "I", false)
def tyX4 : Nat → FieldType := fun k => match k with
  | 0 => .object "Bumpward$Kind"
  | _ => .int
abbrev wsX40 : List Cond := u_ws RX4 TX4 2
theorem nmX4 : ∀ a, a < 2 → ∀ b, b < 2 → a ≠ b → (TX4 a).2.1 ≠ (TX4 b).2.1 := by decide +kernel
theorem tyX4_ok : ∀ k, k < 2 → parseFieldDescriptor (TX4 k).2.2.1 = some (tyX4 k) := by decide +kernel
abbrev cX4_init : ByteArray := prog_4_method_1_code
def yX4_init : MethodName := ⟨RX4, "<init>", "()V"⟩
def dkwX4_init_0 : List UInt8 := [42, 183, 0, 1, 42, 178, 0, 7, 181, 0, 13, 177]
abbrev dktX4_init_0 : List UInt8 := dkwX4_init_0 ++ []
theorem dksX4_init_0 : cX4_init.data.toList.drop 0 = dktX4_init_0 := by decide +kernel
theorem dX4_init_0 : decode cX4_init 0 = .ok (.aload_n 0, 1) := dk_42 (dk_at dksX4_init_0 0 rfl rfl)
theorem dX4_init_1 : decode cX4_init 1 = .ok (.invokespecial 1, 3) := dk_183 0 1 (dk_at dksX4_init_0 1 rfl rfl)
theorem dX4_init_4 : decode cX4_init 4 = .ok (.aload_n 0, 1) := dk_42 (dk_at dksX4_init_0 4 rfl rfl)
theorem dX4_init_5 : decode cX4_init 5 = .ok (.getstatic 7, 3) := dk_178 0 7 (dk_at dksX4_init_0 5 rfl rfl)
theorem dX4_init_8 : decode cX4_init 8 = .ok (.putfield 13, 3) := dk_181 0 13 (dk_at dksX4_init_0 8 rfl rfl)
theorem dX4_init_11 : decode cX4_init 11 = .ok (.return_, 1) := dk_177 (dk_at dksX4_init_0 11 rfl rfl)
abbrev cX4_isShut : ByteArray := prog_4_method_2_code
def yX4_isShut : MethodName := ⟨RX4, "isShut", "(I)Z"⟩
def dkwX4_isShut_0 : List UInt8 := [42, 180, 0, 13, 42, 180, 0, 18, 27, 182, 0, 22, 172]
abbrev dktX4_isShut_0 : List UInt8 := dkwX4_isShut_0 ++ []
theorem dksX4_isShut_0 : cX4_isShut.data.toList.drop 0 = dktX4_isShut_0 := by decide +kernel
theorem dX4_isShut_0 : decode cX4_isShut 0 = .ok (.aload_n 0, 1) := dk_42 (dk_at dksX4_isShut_0 0 rfl rfl)
theorem dX4_isShut_1 : decode cX4_isShut 1 = .ok (.getfield 13, 3) := dk_180 0 13 (dk_at dksX4_isShut_0 1 rfl rfl)
theorem dX4_isShut_4 : decode cX4_isShut 4 = .ok (.aload_n 0, 1) := dk_42 (dk_at dksX4_isShut_0 4 rfl rfl)
theorem dX4_isShut_5 : decode cX4_isShut 5 = .ok (.getfield 18, 3) := dk_180 0 18 (dk_at dksX4_isShut_0 5 rfl rfl)
theorem dX4_isShut_8 : decode cX4_isShut 8 = .ok (.iload_n 1, 1) := dk_27 (dk_at dksX4_isShut_0 8 rfl rfl)
theorem dX4_isShut_9 : decode cX4_isShut 9 = .ok (.invokevirtual 22, 3) := dk_182 0 22 (dk_at dksX4_isShut_0 9 rfl rfl)
theorem dX4_isShut_12 : decode cX4_isShut 12 = .ok (.ireturn, 1) := dk_172 (dk_at dksX4_isShut_0 12 rfl rfl)
abbrev cX4_tell : ByteArray := prog_4_method_3_code
def yX4_tell : MethodName := ⟨RX4, "tell", "(LBumpward$Kind;I)I"⟩
def dkwX4_tell_1 : List UInt8 := [167, 0, 4, 3, 181, 0, 18, 29, 172]
abbrev dktX4_tell_1 : List UInt8 := dkwX4_tell_1 ++ []
def dkwX4_tell_0 : List UInt8 := [42, 180, 0, 13, 182, 0, 26, 62, 42, 43, 181, 0, 13, 42, 43, 178, 0, 30, 166, 0, 7, 28]
abbrev dktX4_tell_0 : List UInt8 := dkwX4_tell_0 ++ dktX4_tell_1
theorem dksX4_tell_0 : cX4_tell.data.toList.drop 0 = dktX4_tell_0 := by decide +kernel
theorem dksX4_tell_1 : cX4_tell.data.toList.drop 22 = dktX4_tell_1 := dk_seg dksX4_tell_0 22 rfl rfl
theorem dX4_tell_0 : decode cX4_tell 0 = .ok (.aload_n 0, 1) := dk_42 (dk_at dksX4_tell_0 0 rfl rfl)
theorem dX4_tell_1 : decode cX4_tell 1 = .ok (.getfield 13, 3) := dk_180 0 13 (dk_at dksX4_tell_0 1 rfl rfl)
theorem dX4_tell_4 : decode cX4_tell 4 = .ok (.invokevirtual 26, 3) := dk_182 0 26 (dk_at dksX4_tell_0 4 rfl rfl)
theorem dX4_tell_7 : decode cX4_tell 7 = .ok (.istore_n 3, 1) := dk_62 (dk_at dksX4_tell_0 7 rfl rfl)
theorem dX4_tell_8 : decode cX4_tell 8 = .ok (.aload_n 0, 1) := dk_42 (dk_at dksX4_tell_0 8 rfl rfl)
theorem dX4_tell_9 : decode cX4_tell 9 = .ok (.aload_n 1, 1) := dk_43 (dk_at dksX4_tell_0 9 rfl rfl)
theorem dX4_tell_10 : decode cX4_tell 10 = .ok (.putfield 13, 3) := dk_181 0 13 (dk_at dksX4_tell_0 10 rfl rfl)
theorem dX4_tell_13 : decode cX4_tell 13 = .ok (.aload_n 0, 1) := dk_42 (dk_at dksX4_tell_0 13 rfl rfl)
theorem dX4_tell_14 : decode cX4_tell 14 = .ok (.aload_n 1, 1) := dk_43 (dk_at dksX4_tell_0 14 rfl rfl)
theorem dX4_tell_15 : decode cX4_tell 15 = .ok (.getstatic 30, 3) := dk_178 0 30 (dk_at dksX4_tell_0 15 rfl rfl)
theorem dX4_tell_18 : decode cX4_tell 18 = .ok (.if_acmp .ne 7, 3) := dk_166 0 7 (dk_at dksX4_tell_0 18 rfl rfl)
theorem dX4_tell_21 : decode cX4_tell 21 = .ok (.iload_n 2, 1) := dk_28 (dk_at dksX4_tell_0 21 rfl rfl)
theorem dX4_tell_22 : decode cX4_tell 22 = .ok (.goto 4, 3) := dk_167 0 4 (dk_at dksX4_tell_1 0 rfl rfl)
theorem dX4_tell_25 : decode cX4_tell 25 = .ok (.iconst 0, 1) := dk_3 (dk_at dksX4_tell_1 3 rfl rfl)
theorem dX4_tell_26 : decode cX4_tell 26 = .ok (.putfield 18, 3) := dk_181 0 18 (dk_at dksX4_tell_1 4 rfl rfl)
theorem dX4_tell_29 : decode cX4_tell 29 = .ok (.iload_n 3, 1) := dk_29 (dk_at dksX4_tell_1 7 rfl rfl)
theorem dX4_tell_30 : decode cX4_tell 30 = .ok (.ireturn, 1) := dk_172 (dk_at dksX4_tell_1 8 rfl rfl)
theorem q55 : (Jvm.Cond.initialized "Bumpward$Edge") ∈ lw_all := lw_g (lw_at lw_m1 7 rfl) rfl
theorem q150 : (Jvm.Cond.instantiable "Bumpward$Edge" (2 : Nat)) ∈ lw_all := lw_g (lw_at lw_m1 102 rfl) rfl
theorem q152 : (Jvm.Cond.instanceMethod ({ cls := "Bumpward$Edge", name := "<init>", desc := "()V" } : Jvm.MethodName)) ∈ lw_all := lw_g (lw_at lw_m1 104 rfl) rfl
theorem q153 : (Jvm.Cond.code ({ cls := "Bumpward$Edge", name := "<init>", desc := "()V" } : Jvm.MethodName) prog_4_method_1_code (1 : Nat) (Option.none : Option Jvm.ClassFile.FieldType)) ∈ lw_all := lw_g (lw_at lw_m1 105 rfl) rfl
theorem q154 : (Jvm.Cond.methodLink "Bumpward$Edge" (1 : Nat) ({ cls := "java/lang/Object", name := "<init>", desc := "()V" } : Jvm.MethodName)) ∈ lw_all := lw_g (lw_at lw_m1 106 rfl) rfl
theorem q155 : (Jvm.Cond.fieldLink "Bumpward$Edge" (7 : Nat) "Bumpward$Kind" "FREE" "LBumpward$Kind;") ∈ lw_all := lw_g (lw_at lw_m1 107 rfl) rfl
theorem q157 : (Jvm.Cond.fieldLink "Bumpward$Edge" (13 : Nat) "Bumpward$Edge" "kind" "LBumpward$Kind;") ∈ lw_all := lw_g (lw_at lw_m1 109 rfl) rfl
theorem q159 : (Jvm.Cond.fieldLink "Bumpward$Edge" (18 : Nat) "Bumpward$Edge" "hours" "I") ∈ lw_all := lw_g (lw_at lw_m1 111 rfl) rfl
theorem q161 : (Jvm.Cond.lays "Bumpward$Edge" "Bumpward$Edge" "kind" "LBumpward$Kind;") ∈ lw_all := lw_g (lw_at lw_m1 113 rfl) rfl
theorem q162 : (Jvm.Cond.soleField "Bumpward$Edge" "kind") ∈ lw_all := lw_g (lw_at lw_m1 114 rfl) rfl
theorem q163 : (Jvm.Cond.lays "Bumpward$Edge" "Bumpward$Edge" "hours" "I") ∈ lw_all := lw_g (lw_at lw_m1 115 rfl) rfl
theorem q164 : (Jvm.Cond.soleField "Bumpward$Edge" "hours") ∈ lw_all := lw_g (lw_at lw_m1 116 rfl) rfl
theorem q165 : (Jvm.Cond.superclass "Bumpward$Edge" "java/lang/Object") ∈ lw_all := lw_g (lw_at lw_m1 117 rfl) rfl
theorem q277 : (Jvm.Cond.instanceMethod ({ cls := "Bumpward$Edge", name := "isShut", desc := "(I)Z" } : Jvm.MethodName)) ∈ lw_all := lw_g (lw_at lw_m1 229 rfl) rfl
theorem q278 : (Jvm.Cond.selects "Bumpward$Edge" ({ cls := "Bumpward$Edge", name := "isShut", desc := "(I)Z" } : Jvm.MethodName) ({ cls := "Bumpward$Edge", name := "isShut", desc := "(I)Z" } : Jvm.MethodName)) ∈ lw_all := lw_g (lw_at lw_m1 230 rfl) rfl
theorem q279 : (Jvm.Cond.code ({ cls := "Bumpward$Edge", name := "isShut", desc := "(I)Z" } : Jvm.MethodName) prog_4_method_2_code (2 : Nat) (Option.some Jvm.ClassFile.FieldType.boolean)) ∈ lw_all := lw_g (lw_at lw_m1 231 rfl) rfl
theorem q280 : (Jvm.Cond.methodLink "Bumpward$Edge" (22 : Nat) ({ cls := "Bumpward$Kind", name := "isShut", desc := "(II)Z" } : Jvm.MethodName)) ∈ lw_all := lw_g (lw_at lw_m1 232 rfl) rfl
theorem q690 : (Jvm.Cond.instanceMethod ({ cls := "Bumpward$Edge", name := "tell", desc := "(LBumpward$Kind;I)I" } : Jvm.MethodName)) ∈ lw_all := lw_g (lw_at lw_m3 162 rfl) rfl
theorem q691 : (Jvm.Cond.selects "Bumpward$Edge" ({ cls := "Bumpward$Edge", name := "tell", desc := "(LBumpward$Kind;I)I" } : Jvm.MethodName) ({ cls := "Bumpward$Edge", name := "tell", desc := "(LBumpward$Kind;I)I" } : Jvm.MethodName)) ∈ lw_all := lw_g (lw_at lw_m3 163 rfl) rfl
theorem q692 : (Jvm.Cond.code ({ cls := "Bumpward$Edge", name := "tell", desc := "(LBumpward$Kind;I)I" } : Jvm.MethodName) prog_4_method_3_code (4 : Nat) (Option.some Jvm.ClassFile.FieldType.int)) ∈ lw_all := lw_g (lw_at lw_m3 164 rfl) rfl
theorem q693 : (Jvm.Cond.methodLink "Bumpward$Edge" (26 : Nat) ({ cls := "Bumpward$Kind", name := "ordinal", desc := "()I" } : Jvm.MethodName)) ∈ lw_all := lw_g (lw_at lw_m3 165 rfl) rfl
theorem q694 : (Jvm.Cond.fieldLink "Bumpward$Edge" (30 : Nat) "Bumpward$Kind" "DOOR" "LBumpward$Kind;") ∈ lw_all := lw_g (lw_at lw_m3 166 rfl) rfl
theorem q830 : (Jvm.Cond.selects "Bumpward$Edge" ({ cls := "java/lang/Object", name := "getClass", desc := "()Ljava/lang/Class;" } : Jvm.MethodName) ({ cls := "java/lang/Object", name := "getClass", desc := "()Ljava/lang/Class;" } : Jvm.MethodName)) ∈ lw_all := lw_g (lw_at lw_m4 62 rfl) rfl
theorem q1792 : (Jvm.Cond.castable "Bumpward$Edge" "java/lang/Object") ∈ lw_tbl := lw_at lw_m8 64 rfl
theorem in_X4 : ∀ w ∈ wsX40, w ∈ lw_all := lw_in wsX40 [161, 163] (by decide +kernel) (by decide +kernel)
/-! Bumpward$Kind -/
set_option maxRecDepth 100000
def RX5 : String := "Bumpward$Kind"
abbrev cX5_isShut : ByteArray := prog_5_method_4_code
def yX5_isShut : MethodName := ⟨RX5, "isShut", "(II)Z"⟩
theorem dX5_isShut_0 : decode cX5_isShut 0 = .ok (.iconst 1, 1) := by decide +kernel
theorem dX5_isShut_1 : decode cX5_isShut 1 = .ok (.ireturn, 1) := by decide +kernel
abbrev cX5_values : ByteArray := prog_5_method_1_code
def yX5_values : MethodName := ⟨RX5, "values", "()[LBumpward$Kind;"⟩
def dkwX5_values_0 : List UInt8 := [178, 0, 13, 182, 0, 17, 192, 0, 18, 176]
abbrev dktX5_values_0 : List UInt8 := dkwX5_values_0 ++ []
theorem dksX5_values_0 : cX5_values.data.toList.drop 0 = dktX5_values_0 := by decide +kernel
theorem dX5_values_0 : decode cX5_values 0 = .ok (.getstatic 13, 3) := dk_178 0 13 (dk_at dksX5_values_0 0 rfl rfl)
theorem dX5_values_3 : decode cX5_values 3 = .ok (.invokevirtual 17, 3) := dk_182 0 17 (dk_at dksX5_values_0 3 rfl rfl)
theorem dX5_values_6 : decode cX5_values 6 = .ok (.checkcast 18, 3) := dk_192 0 18 (dk_at dksX5_values_0 6 rfl rfl)
theorem dX5_values_9 : decode cX5_values 9 = .ok (.areturn, 1) := dk_176 (dk_at dksX5_values_0 9 rfl rfl)
theorem q57 : (Jvm.Cond.initialized "Bumpward$Kind") ∈ lw_all := lw_g (lw_at lw_m1 9 rfl) rfl
theorem q156 : (Jvm.Cond.laysStatic "Bumpward$Kind" "FREE" "LBumpward$Kind;") ∈ lw_tbl := lw_at lw_m1 108 rfl
theorem q281 : (Jvm.Cond.instanceMethod ({ cls := "Bumpward$Kind", name := "isShut", desc := "(II)Z" } : Jvm.MethodName)) ∈ lw_all := lw_g (lw_at lw_m1 233 rfl) rfl
theorem q282 : (Jvm.Cond.selects "Bumpward$Kind" ({ cls := "Bumpward$Kind", name := "isShut", desc := "(II)Z" } : Jvm.MethodName) ({ cls := "Bumpward$Kind", name := "isShut", desc := "(II)Z" } : Jvm.MethodName)) ∈ lw_all := lw_g (lw_at lw_m1 234 rfl) rfl
theorem q283 : (Jvm.Cond.sameMethod "Bumpward$Kind" "Bumpward$Kind" "isShut" "(II)Z") ∈ lw_all := lw_g (lw_at lw_m1 235 rfl) rfl
theorem q290 : (Jvm.Cond.code ({ cls := "Bumpward$Kind", name := "isShut", desc := "(II)Z" } : Jvm.MethodName) prog_5_method_4_code (3 : Nat) (Option.some Jvm.ClassFile.FieldType.boolean)) ∈ lw_all := lw_g (lw_at lw_m2 2 rfl) rfl
theorem q317 : (Jvm.Cond.laysStatic "Bumpward$Kind" "WALL" "LBumpward$Kind;") ∈ lw_tbl := lw_at lw_m2 29 rfl
theorem q323 : (Jvm.Cond.laysStatic "Bumpward$Kind" "DOOR" "LBumpward$Kind;") ∈ lw_tbl := lw_at lw_m2 35 rfl
theorem q399 : (Jvm.Cond.sameMethod "Bumpward$Kind" "java/lang/Enum" "ordinal" "()I") ∈ lw_all := lw_g (lw_at lw_m2 111 rfl) rfl
theorem q401 : (Jvm.Cond.selects "Bumpward$Kind" ({ cls := "Bumpward$Kind", name := "ordinal", desc := "()I" } : Jvm.MethodName) ({ cls := "java/lang/Enum", name := "ordinal", desc := "()I" } : Jvm.MethodName)) ∈ lw_all := lw_g (lw_at lw_m2 113 rfl) rfl
theorem q677 : (Jvm.Cond.static ({ cls := "Bumpward$Kind", name := "values", desc := "()[LBumpward$Kind;" } : Jvm.MethodName)) ∈ lw_all := lw_g (lw_at lw_m3 149 rfl) rfl
theorem q678 : (Jvm.Cond.code ({ cls := "Bumpward$Kind", name := "values", desc := "()[LBumpward$Kind;" } : Jvm.MethodName) prog_5_method_1_code (0 : Nat) (Option.some (Jvm.ClassFile.FieldType.array (Jvm.ClassFile.FieldType.object "Bumpward$Kind")))) ∈ lw_all := lw_g (lw_at lw_m3 150 rfl) rfl
theorem q679 : (Jvm.Cond.fieldLink "Bumpward$Kind" (13 : Nat) "Bumpward$Kind" "$VALUES" "[LBumpward$Kind;") ∈ lw_all := lw_g (lw_at lw_m3 151 rfl) rfl
theorem q680 : (Jvm.Cond.laysStatic "Bumpward$Kind" "$VALUES" "[LBumpward$Kind;") ∈ lw_tbl := lw_at lw_m3 152 rfl
theorem q681 : (Jvm.Cond.methodLink "Bumpward$Kind" (17 : Nat) ({ cls := "[LBumpward$Kind;", name := "clone", desc := "()Ljava/lang/Object;" } : Jvm.MethodName)) ∈ lw_all := lw_g (lw_at lw_m3 153 rfl) rfl
theorem q688 : (Jvm.Cond.classLink "Bumpward$Kind" (18 : Nat) "[LBumpward$Kind;") ∈ lw_all := lw_g (lw_at lw_m3 160 rfl) rfl
theorem q831 : (Jvm.Cond.selects "Bumpward$Kind" ({ cls := "java/lang/Object", name := "getClass", desc := "()Ljava/lang/Class;" } : Jvm.MethodName) ({ cls := "java/lang/Object", name := "getClass", desc := "()Ljava/lang/Class;" } : Jvm.MethodName)) ∈ lw_all := lw_g (lw_at lw_m4 63 rfl) rfl
theorem q1793 : (Jvm.Cond.castable "Bumpward$Kind" "java/lang/Object") ∈ lw_tbl := lw_at lw_m8 65 rfl
/-! Bumpward$Plan -/
set_option maxRecDepth 100000
def RX9 : String := "Bumpward$Plan"
def TX9 : u_T := fun k => match k with
  | _ => ("Bumpward$Plan", "edges", "[I", true)
def tyX9 : Nat → FieldType := fun k => match k with
  | _ => .array .int
abbrev wsX90 : List Cond := u_ws RX9 TX9 1
theorem nmX9 : ∀ a, a < 1 → ∀ b, b < 1 → a ≠ b → (TX9 a).2.1 ≠ (TX9 b).2.1 := by decide +kernel
theorem tyX9_ok : ∀ k, k < 1 → parseFieldDescriptor (TX9 k).2.2.1 = some (tyX9 k) := by decide +kernel
abbrev cX9_of : ByteArray := prog_8_method_3_code
def yX9_of : MethodName := ⟨RX9, "of", "(I)I"⟩
def dkwX9_of_0 : List UInt8 := [42, 180, 0, 9, 27, 46, 172]
abbrev dktX9_of_0 : List UInt8 := dkwX9_of_0 ++ []
theorem dksX9_of_0 : cX9_of.data.toList.drop 0 = dktX9_of_0 := by decide +kernel
theorem dX9_of_0 : decode cX9_of 0 = .ok (.aload_n 0, 1) := dk_42 (dk_at dksX9_of_0 0 rfl rfl)
theorem dX9_of_1 : decode cX9_of 1 = .ok (.getfield 9, 3) := dk_180 0 9 (dk_at dksX9_of_0 1 rfl rfl)
theorem dX9_of_4 : decode cX9_of 4 = .ok (.iload_n 1, 1) := dk_27 (dk_at dksX9_of_0 4 rfl rfl)
theorem dX9_of_5 : decode cX9_of 5 = .ok (.iaload, 1) := dk_46 (dk_at dksX9_of_0 5 rfl rfl)
theorem dX9_of_6 : decode cX9_of 6 = .ok (.ireturn, 1) := dk_172 (dk_at dksX9_of_0 6 rfl rfl)
abbrev cX9_count : ByteArray := prog_8_method_5_code
def yX9_count : MethodName := ⟨RX9, "count", "(I)I"⟩
def dkwX9_count_2 : List UInt8 := [167, 255, 223, 28, 172]
abbrev dktX9_count_2 : List UInt8 := dkwX9_count_2 ++ []
def dkwX9_count_1 : List UInt8 := [46, 54, 6, 28, 21, 6, 27, 160, 0, 7, 4, 167, 0, 4, 3, 184, 0, 19, 96, 61, 132, 5, 1]
abbrev dktX9_count_1 : List UInt8 := dkwX9_count_1 ++ dktX9_count_2
def dkwX9_count_0 : List UInt8 := [3, 61, 42, 180, 0, 9, 78, 45, 190, 54, 4, 3, 54, 5, 21, 5, 21, 4, 162, 0, 32, 45, 21, 5]
abbrev dktX9_count_0 : List UInt8 := dkwX9_count_0 ++ dktX9_count_1
theorem dksX9_count_0 : cX9_count.data.toList.drop 0 = dktX9_count_0 := by decide +kernel
theorem dksX9_count_1 : cX9_count.data.toList.drop 24 = dktX9_count_1 := dk_seg dksX9_count_0 24 rfl rfl
theorem dksX9_count_2 : cX9_count.data.toList.drop 47 = dktX9_count_2 := dk_seg dksX9_count_1 23 rfl rfl
theorem dX9_count_0 : decode cX9_count 0 = .ok (.iconst 0, 1) := dk_3 (dk_at dksX9_count_0 0 rfl rfl)
theorem dX9_count_1 : decode cX9_count 1 = .ok (.istore_n 2, 1) := dk_61 (dk_at dksX9_count_0 1 rfl rfl)
theorem dX9_count_2 : decode cX9_count 2 = .ok (.aload_n 0, 1) := dk_42 (dk_at dksX9_count_0 2 rfl rfl)
theorem dX9_count_3 : decode cX9_count 3 = .ok (.getfield 9, 3) := dk_180 0 9 (dk_at dksX9_count_0 3 rfl rfl)
theorem dX9_count_6 : decode cX9_count 6 = .ok (.astore_n 3, 1) := dk_78 (dk_at dksX9_count_0 6 rfl rfl)
theorem dX9_count_7 : decode cX9_count 7 = .ok (.aload_n 3, 1) := dk_45 (dk_at dksX9_count_0 7 rfl rfl)
theorem dX9_count_8 : decode cX9_count 8 = .ok (.arraylength, 1) := dk_190 (dk_at dksX9_count_0 8 rfl rfl)
theorem dX9_count_9 : decode cX9_count 9 = .ok (.istore 4, 2) := dk_54 4 (dk_at dksX9_count_0 9 rfl rfl)
theorem dX9_count_11 : decode cX9_count 11 = .ok (.iconst 0, 1) := dk_3 (dk_at dksX9_count_0 11 rfl rfl)
theorem dX9_count_12 : decode cX9_count 12 = .ok (.istore 5, 2) := dk_54 5 (dk_at dksX9_count_0 12 rfl rfl)
theorem dX9_count_14 : decode cX9_count 14 = .ok (.iload 5, 2) := dk_21 5 (dk_at dksX9_count_0 14 rfl rfl)
theorem dX9_count_16 : decode cX9_count 16 = .ok (.iload 4, 2) := dk_21 4 (dk_at dksX9_count_0 16 rfl rfl)
theorem dX9_count_18 : decode cX9_count 18 = .ok (.if_icmp .ge 32, 3) := dk_162 0 32 (dk_at dksX9_count_0 18 rfl rfl)
theorem dX9_count_21 : decode cX9_count 21 = .ok (.aload_n 3, 1) := dk_45 (dk_at dksX9_count_0 21 rfl rfl)
theorem dX9_count_22 : decode cX9_count 22 = .ok (.iload 5, 2) := dk_21 5 (dk_at dksX9_count_0 22 rfl rfl)
theorem dX9_count_24 : decode cX9_count 24 = .ok (.iaload, 1) := dk_46 (dk_at dksX9_count_1 0 rfl rfl)
theorem dX9_count_25 : decode cX9_count 25 = .ok (.istore 6, 2) := dk_54 6 (dk_at dksX9_count_1 1 rfl rfl)
theorem dX9_count_27 : decode cX9_count 27 = .ok (.iload_n 2, 1) := dk_28 (dk_at dksX9_count_1 3 rfl rfl)
theorem dX9_count_28 : decode cX9_count 28 = .ok (.iload 6, 2) := dk_21 6 (dk_at dksX9_count_1 4 rfl rfl)
theorem dX9_count_30 : decode cX9_count 30 = .ok (.iload_n 1, 1) := dk_27 (dk_at dksX9_count_1 6 rfl rfl)
theorem dX9_count_31 : decode cX9_count 31 = .ok (.if_icmp .ne 7, 3) := dk_160 0 7 (dk_at dksX9_count_1 7 rfl rfl)
theorem dX9_count_34 : decode cX9_count 34 = .ok (.iconst 1, 1) := dk_4 (dk_at dksX9_count_1 10 rfl rfl)
theorem dX9_count_35 : decode cX9_count 35 = .ok (.goto 4, 3) := dk_167 0 4 (dk_at dksX9_count_1 11 rfl rfl)
theorem dX9_count_38 : decode cX9_count 38 = .ok (.iconst 0, 1) := dk_3 (dk_at dksX9_count_1 14 rfl rfl)
theorem dX9_count_39 : decode cX9_count 39 = .ok (.invokestatic 19, 3) := dk_184 0 19 (dk_at dksX9_count_1 15 rfl rfl)
theorem dX9_count_42 : decode cX9_count 42 = .ok (.iadd, 1) := dk_96 (dk_at dksX9_count_1 18 rfl rfl)
theorem dX9_count_43 : decode cX9_count 43 = .ok (.istore_n 2, 1) := dk_61 (dk_at dksX9_count_1 19 rfl rfl)
theorem dX9_count_44 : decode cX9_count 44 = .ok (.iinc 5 1, 3) := dk_132 5 1 (dk_at dksX9_count_1 20 rfl rfl)
theorem dX9_count_47 : decode cX9_count 47 = .ok (.goto (-33), 3) := dk_167 255 223 (dk_at dksX9_count_2 0 rfl rfl)
theorem dX9_count_50 : decode cX9_count 50 = .ok (.iload_n 2, 1) := dk_28 (dk_at dksX9_count_2 3 rfl rfl)
theorem dX9_count_51 : decode cX9_count 51 = .ok (.ireturn, 1) := dk_172 (dk_at dksX9_count_2 4 rfl rfl)
abbrev cX9_ways : ByteArray := prog_8_method_10_code
def yX9_ways : MethodName := ⟨RX9, "ways", "(I)[I"⟩
def dkwX9_ways_3 : List UInt8 := [132, 3, 1, 167, 255, 216, 44, 176]
abbrev dktX9_ways_3 : List UInt8 := dkwX9_ways_3 ++ []
def dkwX9_ways_2 : List UInt8 := [162, 0, 24, 44, 21, 4, 46, 29, 160, 0, 10, 42, 44, 21, 4, 182, 0, 26, 132, 4, 1, 167, 255, 231]
abbrev dktX9_ways_2 : List UInt8 := dkwX9_ways_2 ++ dktX9_ways_3
def dkwX9_ways_1 : List UInt8 := [2, 79, 132, 3, 1, 167, 255, 234, 3, 62, 29, 16, 36, 162, 0, 40, 3, 54, 4, 21, 4, 16, 36]
abbrev dktX9_ways_1 : List UInt8 := dkwX9_ways_1 ++ dktX9_ways_2
def dkwX9_ways_0 : List UInt8 := [16, 36, 188, 10, 77, 3, 62, 29, 16, 36, 162, 0, 22, 44, 29, 29, 27, 160, 0, 7, 3, 167, 0, 4]
abbrev dktX9_ways_0 : List UInt8 := dkwX9_ways_0 ++ dktX9_ways_1
theorem dksX9_ways_0 : cX9_ways.data.toList.drop 0 = dktX9_ways_0 := by decide +kernel
theorem dksX9_ways_1 : cX9_ways.data.toList.drop 24 = dktX9_ways_1 := dk_seg dksX9_ways_0 24 rfl rfl
theorem dksX9_ways_2 : cX9_ways.data.toList.drop 47 = dktX9_ways_2 := dk_seg dksX9_ways_1 23 rfl rfl
theorem dksX9_ways_3 : cX9_ways.data.toList.drop 71 = dktX9_ways_3 := dk_seg dksX9_ways_2 24 rfl rfl
theorem dX9_ways_0 : decode cX9_ways 0 = .ok (.bipush 36, 2) := dk_16 36 (dk_at dksX9_ways_0 0 rfl rfl)
theorem dX9_ways_2 : decode cX9_ways 2 = .ok (.newarray .int, 2) := dk_188_10 (dk_at dksX9_ways_0 2 rfl rfl)
theorem dX9_ways_4 : decode cX9_ways 4 = .ok (.astore_n 2, 1) := dk_77 (dk_at dksX9_ways_0 4 rfl rfl)
theorem dX9_ways_5 : decode cX9_ways 5 = .ok (.iconst 0, 1) := dk_3 (dk_at dksX9_ways_0 5 rfl rfl)
theorem dX9_ways_6 : decode cX9_ways 6 = .ok (.istore_n 3, 1) := dk_62 (dk_at dksX9_ways_0 6 rfl rfl)
theorem dX9_ways_7 : decode cX9_ways 7 = .ok (.iload_n 3, 1) := dk_29 (dk_at dksX9_ways_0 7 rfl rfl)
theorem dX9_ways_8 : decode cX9_ways 8 = .ok (.bipush 36, 2) := dk_16 36 (dk_at dksX9_ways_0 8 rfl rfl)
theorem dX9_ways_10 : decode cX9_ways 10 = .ok (.if_icmp .ge 22, 3) := dk_162 0 22 (dk_at dksX9_ways_0 10 rfl rfl)
theorem dX9_ways_13 : decode cX9_ways 13 = .ok (.aload_n 2, 1) := dk_44 (dk_at dksX9_ways_0 13 rfl rfl)
theorem dX9_ways_14 : decode cX9_ways 14 = .ok (.iload_n 3, 1) := dk_29 (dk_at dksX9_ways_0 14 rfl rfl)
theorem dX9_ways_15 : decode cX9_ways 15 = .ok (.iload_n 3, 1) := dk_29 (dk_at dksX9_ways_0 15 rfl rfl)
theorem dX9_ways_16 : decode cX9_ways 16 = .ok (.iload_n 1, 1) := dk_27 (dk_at dksX9_ways_0 16 rfl rfl)
theorem dX9_ways_17 : decode cX9_ways 17 = .ok (.if_icmp .ne 7, 3) := dk_160 0 7 (dk_at dksX9_ways_0 17 rfl rfl)
theorem dX9_ways_20 : decode cX9_ways 20 = .ok (.iconst 0, 1) := dk_3 (dk_at dksX9_ways_0 20 rfl rfl)
theorem dX9_ways_21 : decode cX9_ways 21 = .ok (.goto 4, 3) := dk_167 0 4 (dk_at dksX9_ways_0 21 rfl rfl)
theorem dX9_ways_24 : decode cX9_ways 24 = .ok (.iconst (-1), 1) := dk_2 (dk_at dksX9_ways_1 0 rfl rfl)
theorem dX9_ways_25 : decode cX9_ways 25 = .ok (.iastore, 1) := dk_79 (dk_at dksX9_ways_1 1 rfl rfl)
theorem dX9_ways_26 : decode cX9_ways 26 = .ok (.iinc 3 1, 3) := dk_132 3 1 (dk_at dksX9_ways_1 2 rfl rfl)
theorem dX9_ways_29 : decode cX9_ways 29 = .ok (.goto (-22), 3) := dk_167 255 234 (dk_at dksX9_ways_1 5 rfl rfl)
theorem dX9_ways_32 : decode cX9_ways 32 = .ok (.iconst 0, 1) := dk_3 (dk_at dksX9_ways_1 8 rfl rfl)
theorem dX9_ways_33 : decode cX9_ways 33 = .ok (.istore_n 3, 1) := dk_62 (dk_at dksX9_ways_1 9 rfl rfl)
theorem dX9_ways_34 : decode cX9_ways 34 = .ok (.iload_n 3, 1) := dk_29 (dk_at dksX9_ways_1 10 rfl rfl)
theorem dX9_ways_35 : decode cX9_ways 35 = .ok (.bipush 36, 2) := dk_16 36 (dk_at dksX9_ways_1 11 rfl rfl)
theorem dX9_ways_37 : decode cX9_ways 37 = .ok (.if_icmp .ge 40, 3) := dk_162 0 40 (dk_at dksX9_ways_1 13 rfl rfl)
theorem dX9_ways_40 : decode cX9_ways 40 = .ok (.iconst 0, 1) := dk_3 (dk_at dksX9_ways_1 16 rfl rfl)
theorem dX9_ways_41 : decode cX9_ways 41 = .ok (.istore 4, 2) := dk_54 4 (dk_at dksX9_ways_1 17 rfl rfl)
theorem dX9_ways_43 : decode cX9_ways 43 = .ok (.iload 4, 2) := dk_21 4 (dk_at dksX9_ways_1 19 rfl rfl)
theorem dX9_ways_45 : decode cX9_ways 45 = .ok (.bipush 36, 2) := dk_16 36 (dk_at dksX9_ways_1 21 rfl rfl)
theorem dX9_ways_47 : decode cX9_ways 47 = .ok (.if_icmp .ge 24, 3) := dk_162 0 24 (dk_at dksX9_ways_2 0 rfl rfl)
theorem dX9_ways_50 : decode cX9_ways 50 = .ok (.aload_n 2, 1) := dk_44 (dk_at dksX9_ways_2 3 rfl rfl)
theorem dX9_ways_51 : decode cX9_ways 51 = .ok (.iload 4, 2) := dk_21 4 (dk_at dksX9_ways_2 4 rfl rfl)
theorem dX9_ways_53 : decode cX9_ways 53 = .ok (.iaload, 1) := dk_46 (dk_at dksX9_ways_2 6 rfl rfl)
theorem dX9_ways_54 : decode cX9_ways 54 = .ok (.iload_n 3, 1) := dk_29 (dk_at dksX9_ways_2 7 rfl rfl)
theorem dX9_ways_55 : decode cX9_ways 55 = .ok (.if_icmp .ne 10, 3) := dk_160 0 10 (dk_at dksX9_ways_2 8 rfl rfl)
theorem dX9_ways_58 : decode cX9_ways 58 = .ok (.aload_n 0, 1) := dk_42 (dk_at dksX9_ways_2 11 rfl rfl)
theorem dX9_ways_59 : decode cX9_ways 59 = .ok (.aload_n 2, 1) := dk_44 (dk_at dksX9_ways_2 12 rfl rfl)
theorem dX9_ways_60 : decode cX9_ways 60 = .ok (.iload 4, 2) := dk_21 4 (dk_at dksX9_ways_2 13 rfl rfl)
theorem dX9_ways_62 : decode cX9_ways 62 = .ok (.invokevirtual 26, 3) := dk_182 0 26 (dk_at dksX9_ways_2 15 rfl rfl)
theorem dX9_ways_65 : decode cX9_ways 65 = .ok (.iinc 4 1, 3) := dk_132 4 1 (dk_at dksX9_ways_2 18 rfl rfl)
theorem dX9_ways_68 : decode cX9_ways 68 = .ok (.goto (-25), 3) := dk_167 255 231 (dk_at dksX9_ways_2 21 rfl rfl)
theorem dX9_ways_71 : decode cX9_ways 71 = .ok (.iinc 3 1, 3) := dk_132 3 1 (dk_at dksX9_ways_3 0 rfl rfl)
theorem dX9_ways_74 : decode cX9_ways 74 = .ok (.goto (-40), 3) := dk_167 255 216 (dk_at dksX9_ways_3 3 rfl rfl)
theorem dX9_ways_77 : decode cX9_ways 77 = .ok (.aload_n 2, 1) := dk_44 (dk_at dksX9_ways_3 6 rfl rfl)
theorem dX9_ways_78 : decode cX9_ways 78 = .ok (.areturn, 1) := dk_176 (dk_at dksX9_ways_3 7 rfl rfl)
abbrev cX9_spread : ByteArray := prog_8_method_11_code
def yX9_spread : MethodName := ⟨RX9, "spread", "([II)V"⟩
def dkwX9_spread_1 : List UInt8 := [43, 21, 4, 46, 2, 160, 0, 12, 43, 21, 4, 43, 28, 46, 4, 96, 79, 132, 3, 1, 167, 255, 214, 177]
abbrev dktX9_spread_1 : List UInt8 := dkwX9_spread_1 ++ []
def dkwX9_spread_0 : List UInt8 := [3, 62, 29, 7, 162, 0, 43, 28, 29, 184, 0, 30, 54, 4, 42, 28, 29, 182, 0, 23, 4, 160, 0, 20]
abbrev dktX9_spread_0 : List UInt8 := dkwX9_spread_0 ++ dktX9_spread_1
theorem dksX9_spread_0 : cX9_spread.data.toList.drop 0 = dktX9_spread_0 := by decide +kernel
theorem dksX9_spread_1 : cX9_spread.data.toList.drop 24 = dktX9_spread_1 := dk_seg dksX9_spread_0 24 rfl rfl
theorem dX9_spread_0 : decode cX9_spread 0 = .ok (.iconst 0, 1) := dk_3 (dk_at dksX9_spread_0 0 rfl rfl)
theorem dX9_spread_1 : decode cX9_spread 1 = .ok (.istore_n 3, 1) := dk_62 (dk_at dksX9_spread_0 1 rfl rfl)
theorem dX9_spread_2 : decode cX9_spread 2 = .ok (.iload_n 3, 1) := dk_29 (dk_at dksX9_spread_0 2 rfl rfl)
theorem dX9_spread_3 : decode cX9_spread 3 = .ok (.iconst 4, 1) := dk_7 (dk_at dksX9_spread_0 3 rfl rfl)
theorem dX9_spread_4 : decode cX9_spread 4 = .ok (.if_icmp .ge 43, 3) := dk_162 0 43 (dk_at dksX9_spread_0 4 rfl rfl)
theorem dX9_spread_7 : decode cX9_spread 7 = .ok (.iload_n 2, 1) := dk_28 (dk_at dksX9_spread_0 7 rfl rfl)
theorem dX9_spread_8 : decode cX9_spread 8 = .ok (.iload_n 3, 1) := dk_29 (dk_at dksX9_spread_0 8 rfl rfl)
theorem dX9_spread_9 : decode cX9_spread 9 = .ok (.invokestatic 30, 3) := dk_184 0 30 (dk_at dksX9_spread_0 9 rfl rfl)
theorem dX9_spread_12 : decode cX9_spread 12 = .ok (.istore 4, 2) := dk_54 4 (dk_at dksX9_spread_0 12 rfl rfl)
theorem dX9_spread_14 : decode cX9_spread 14 = .ok (.aload_n 0, 1) := dk_42 (dk_at dksX9_spread_0 14 rfl rfl)
theorem dX9_spread_15 : decode cX9_spread 15 = .ok (.iload_n 2, 1) := dk_28 (dk_at dksX9_spread_0 15 rfl rfl)
theorem dX9_spread_16 : decode cX9_spread 16 = .ok (.iload_n 3, 1) := dk_29 (dk_at dksX9_spread_0 16 rfl rfl)
theorem dX9_spread_17 : decode cX9_spread 17 = .ok (.invokevirtual 23, 3) := dk_182 0 23 (dk_at dksX9_spread_0 17 rfl rfl)
theorem dX9_spread_20 : decode cX9_spread 20 = .ok (.iconst 1, 1) := dk_4 (dk_at dksX9_spread_0 20 rfl rfl)
theorem dX9_spread_21 : decode cX9_spread 21 = .ok (.if_icmp .ne 20, 3) := dk_160 0 20 (dk_at dksX9_spread_0 21 rfl rfl)
theorem dX9_spread_24 : decode cX9_spread 24 = .ok (.aload_n 1, 1) := dk_43 (dk_at dksX9_spread_1 0 rfl rfl)
theorem dX9_spread_25 : decode cX9_spread 25 = .ok (.iload 4, 2) := dk_21 4 (dk_at dksX9_spread_1 1 rfl rfl)
theorem dX9_spread_27 : decode cX9_spread 27 = .ok (.iaload, 1) := dk_46 (dk_at dksX9_spread_1 3 rfl rfl)
theorem dX9_spread_28 : decode cX9_spread 28 = .ok (.iconst (-1), 1) := dk_2 (dk_at dksX9_spread_1 4 rfl rfl)
theorem dX9_spread_29 : decode cX9_spread 29 = .ok (.if_icmp .ne 12, 3) := dk_160 0 12 (dk_at dksX9_spread_1 5 rfl rfl)
theorem dX9_spread_32 : decode cX9_spread 32 = .ok (.aload_n 1, 1) := dk_43 (dk_at dksX9_spread_1 8 rfl rfl)
theorem dX9_spread_33 : decode cX9_spread 33 = .ok (.iload 4, 2) := dk_21 4 (dk_at dksX9_spread_1 9 rfl rfl)
theorem dX9_spread_35 : decode cX9_spread 35 = .ok (.aload_n 1, 1) := dk_43 (dk_at dksX9_spread_1 11 rfl rfl)
theorem dX9_spread_36 : decode cX9_spread 36 = .ok (.iload_n 2, 1) := dk_28 (dk_at dksX9_spread_1 12 rfl rfl)
theorem dX9_spread_37 : decode cX9_spread 37 = .ok (.iaload, 1) := dk_46 (dk_at dksX9_spread_1 13 rfl rfl)
theorem dX9_spread_38 : decode cX9_spread 38 = .ok (.iconst 1, 1) := dk_4 (dk_at dksX9_spread_1 14 rfl rfl)
theorem dX9_spread_39 : decode cX9_spread 39 = .ok (.iadd, 1) := dk_96 (dk_at dksX9_spread_1 15 rfl rfl)
theorem dX9_spread_40 : decode cX9_spread 40 = .ok (.iastore, 1) := dk_79 (dk_at dksX9_spread_1 16 rfl rfl)
theorem dX9_spread_41 : decode cX9_spread 41 = .ok (.iinc 3 1, 3) := dk_132 3 1 (dk_at dksX9_spread_1 17 rfl rfl)
theorem dX9_spread_44 : decode cX9_spread 44 = .ok (.goto (-42), 3) := dk_167 255 214 (dk_at dksX9_spread_1 20 rfl rfl)
theorem dX9_spread_47 : decode cX9_spread 47 = .ok (.return_, 1) := dk_177 (dk_at dksX9_spread_1 23 rfl rfl)
abbrev cX9_at : ByteArray := prog_8_method_2_code
def yX9_at : MethodName := ⟨RX9, "at", "(II)I"⟩
def dkwX9_at_0 : List UInt8 := [27, 28, 184, 0, 15, 62, 29, 2, 160, 0, 7, 5, 167, 0, 9, 42, 180, 0, 9, 29, 46, 172]
abbrev dktX9_at_0 : List UInt8 := dkwX9_at_0 ++ []
theorem dksX9_at_0 : cX9_at.data.toList.drop 0 = dktX9_at_0 := by decide +kernel
theorem dX9_at_0 : decode cX9_at 0 = .ok (.iload_n 1, 1) := dk_27 (dk_at dksX9_at_0 0 rfl rfl)
theorem dX9_at_1 : decode cX9_at 1 = .ok (.iload_n 2, 1) := dk_28 (dk_at dksX9_at_0 1 rfl rfl)
theorem dX9_at_2 : decode cX9_at 2 = .ok (.invokestatic 15, 3) := dk_184 0 15 (dk_at dksX9_at_0 2 rfl rfl)
theorem dX9_at_5 : decode cX9_at 5 = .ok (.istore_n 3, 1) := dk_62 (dk_at dksX9_at_0 5 rfl rfl)
theorem dX9_at_6 : decode cX9_at 6 = .ok (.iload_n 3, 1) := dk_29 (dk_at dksX9_at_0 6 rfl rfl)
theorem dX9_at_7 : decode cX9_at 7 = .ok (.iconst (-1), 1) := dk_2 (dk_at dksX9_at_0 7 rfl rfl)
theorem dX9_at_8 : decode cX9_at 8 = .ok (.if_icmp .ne 7, 3) := dk_160 0 7 (dk_at dksX9_at_0 8 rfl rfl)
theorem dX9_at_11 : decode cX9_at 11 = .ok (.iconst 2, 1) := dk_5 (dk_at dksX9_at_0 11 rfl rfl)
theorem dX9_at_12 : decode cX9_at 12 = .ok (.goto 9, 3) := dk_167 0 9 (dk_at dksX9_at_0 12 rfl rfl)
theorem dX9_at_15 : decode cX9_at 15 = .ok (.aload_n 0, 1) := dk_42 (dk_at dksX9_at_0 15 rfl rfl)
theorem dX9_at_16 : decode cX9_at 16 = .ok (.getfield 9, 3) := dk_180 0 9 (dk_at dksX9_at_0 16 rfl rfl)
theorem dX9_at_19 : decode cX9_at 19 = .ok (.iload_n 3, 1) := dk_29 (dk_at dksX9_at_0 19 rfl rfl)
theorem dX9_at_20 : decode cX9_at 20 = .ok (.iaload, 1) := dk_46 (dk_at dksX9_at_0 20 rfl rfl)
theorem dX9_at_21 : decode cX9_at 21 = .ok (.ireturn, 1) := dk_172 (dk_at dksX9_at_0 21 rfl rfl)
abbrev cX9_isOpenEnded : ByteArray := prog_8_method_9_code
def yX9_isOpenEnded : MethodName := ⟨RX9, "isOpenEnded", "(I)Z"⟩
def dkwX9_isOpenEnded_1 : List UInt8 := [3, 172]
abbrev dktX9_isOpenEnded_1 : List UInt8 := dkwX9_isOpenEnded_1 ++ []
def dkwX9_isOpenEnded_0 : List UInt8 := [3, 61, 28, 7, 162, 0, 20, 42, 27, 28, 182, 0, 23, 154, 0, 5, 4, 172, 132, 2, 1, 167, 255, 237]
abbrev dktX9_isOpenEnded_0 : List UInt8 := dkwX9_isOpenEnded_0 ++ dktX9_isOpenEnded_1
theorem dksX9_isOpenEnded_0 : cX9_isOpenEnded.data.toList.drop 0 = dktX9_isOpenEnded_0 := by decide +kernel
theorem dksX9_isOpenEnded_1 : cX9_isOpenEnded.data.toList.drop 24 = dktX9_isOpenEnded_1 := dk_seg dksX9_isOpenEnded_0 24 rfl rfl
theorem dX9_isOpenEnded_0 : decode cX9_isOpenEnded 0 = .ok (.iconst 0, 1) := dk_3 (dk_at dksX9_isOpenEnded_0 0 rfl rfl)
theorem dX9_isOpenEnded_1 : decode cX9_isOpenEnded 1 = .ok (.istore_n 2, 1) := dk_61 (dk_at dksX9_isOpenEnded_0 1 rfl rfl)
theorem dX9_isOpenEnded_2 : decode cX9_isOpenEnded 2 = .ok (.iload_n 2, 1) := dk_28 (dk_at dksX9_isOpenEnded_0 2 rfl rfl)
theorem dX9_isOpenEnded_3 : decode cX9_isOpenEnded 3 = .ok (.iconst 4, 1) := dk_7 (dk_at dksX9_isOpenEnded_0 3 rfl rfl)
theorem dX9_isOpenEnded_4 : decode cX9_isOpenEnded 4 = .ok (.if_icmp .ge 20, 3) := dk_162 0 20 (dk_at dksX9_isOpenEnded_0 4 rfl rfl)
theorem dX9_isOpenEnded_7 : decode cX9_isOpenEnded 7 = .ok (.aload_n 0, 1) := dk_42 (dk_at dksX9_isOpenEnded_0 7 rfl rfl)
theorem dX9_isOpenEnded_8 : decode cX9_isOpenEnded 8 = .ok (.iload_n 1, 1) := dk_27 (dk_at dksX9_isOpenEnded_0 8 rfl rfl)
theorem dX9_isOpenEnded_9 : decode cX9_isOpenEnded 9 = .ok (.iload_n 2, 1) := dk_28 (dk_at dksX9_isOpenEnded_0 9 rfl rfl)
theorem dX9_isOpenEnded_10 : decode cX9_isOpenEnded 10 = .ok (.invokevirtual 23, 3) := dk_182 0 23 (dk_at dksX9_isOpenEnded_0 10 rfl rfl)
theorem dX9_isOpenEnded_13 : decode cX9_isOpenEnded 13 = .ok (.ifCond .ne 5, 3) := dk_154 0 5 (dk_at dksX9_isOpenEnded_0 13 rfl rfl)
theorem dX9_isOpenEnded_16 : decode cX9_isOpenEnded 16 = .ok (.iconst 1, 1) := dk_4 (dk_at dksX9_isOpenEnded_0 16 rfl rfl)
theorem dX9_isOpenEnded_17 : decode cX9_isOpenEnded 17 = .ok (.ireturn, 1) := dk_172 (dk_at dksX9_isOpenEnded_0 17 rfl rfl)
theorem dX9_isOpenEnded_18 : decode cX9_isOpenEnded 18 = .ok (.iinc 2 1, 3) := dk_132 2 1 (dk_at dksX9_isOpenEnded_0 18 rfl rfl)
theorem dX9_isOpenEnded_21 : decode cX9_isOpenEnded 21 = .ok (.goto (-19), 3) := dk_167 255 237 (dk_at dksX9_isOpenEnded_0 21 rfl rfl)
theorem dX9_isOpenEnded_24 : decode cX9_isOpenEnded 24 = .ok (.iconst 0, 1) := dk_3 (dk_at dksX9_isOpenEnded_1 0 rfl rfl)
theorem dX9_isOpenEnded_25 : decode cX9_isOpenEnded 25 = .ok (.ireturn, 1) := dk_172 (dk_at dksX9_isOpenEnded_1 1 rfl rfl)
abbrev cX9_canBe : ByteArray := prog_8_method_6_code
def yX9_canBe : MethodName := ⟨RX9, "canBe", "(IIZ)Z"⟩
def dkwX9_canBe_0 : List UInt8 := [42, 27, 28, 182, 0, 23, 29, 153, 0, 7, 4, 167, 0, 4, 5, 159, 0, 7, 4, 167, 0, 4, 3, 172]
abbrev dktX9_canBe_0 : List UInt8 := dkwX9_canBe_0 ++ []
theorem dksX9_canBe_0 : cX9_canBe.data.toList.drop 0 = dktX9_canBe_0 := by decide +kernel
theorem dX9_canBe_0 : decode cX9_canBe 0 = .ok (.aload_n 0, 1) := dk_42 (dk_at dksX9_canBe_0 0 rfl rfl)
theorem dX9_canBe_1 : decode cX9_canBe 1 = .ok (.iload_n 1, 1) := dk_27 (dk_at dksX9_canBe_0 1 rfl rfl)
theorem dX9_canBe_2 : decode cX9_canBe 2 = .ok (.iload_n 2, 1) := dk_28 (dk_at dksX9_canBe_0 2 rfl rfl)
theorem dX9_canBe_3 : decode cX9_canBe 3 = .ok (.invokevirtual 23, 3) := dk_182 0 23 (dk_at dksX9_canBe_0 3 rfl rfl)
theorem dX9_canBe_6 : decode cX9_canBe 6 = .ok (.iload_n 3, 1) := dk_29 (dk_at dksX9_canBe_0 6 rfl rfl)
theorem dX9_canBe_7 : decode cX9_canBe 7 = .ok (.ifCond .eq 7, 3) := dk_153 0 7 (dk_at dksX9_canBe_0 7 rfl rfl)
theorem dX9_canBe_10 : decode cX9_canBe 10 = .ok (.iconst 1, 1) := dk_4 (dk_at dksX9_canBe_0 10 rfl rfl)
theorem dX9_canBe_11 : decode cX9_canBe 11 = .ok (.goto 4, 3) := dk_167 0 4 (dk_at dksX9_canBe_0 11 rfl rfl)
theorem dX9_canBe_14 : decode cX9_canBe 14 = .ok (.iconst 2, 1) := dk_5 (dk_at dksX9_canBe_0 14 rfl rfl)
theorem dX9_canBe_15 : decode cX9_canBe 15 = .ok (.if_icmp .eq 7, 3) := dk_159 0 7 (dk_at dksX9_canBe_0 15 rfl rfl)
theorem dX9_canBe_18 : decode cX9_canBe 18 = .ok (.iconst 1, 1) := dk_4 (dk_at dksX9_canBe_0 18 rfl rfl)
theorem dX9_canBe_19 : decode cX9_canBe 19 = .ok (.goto 4, 3) := dk_167 0 4 (dk_at dksX9_canBe_0 19 rfl rfl)
theorem dX9_canBe_22 : decode cX9_canBe 22 = .ok (.iconst 0, 1) := dk_3 (dk_at dksX9_canBe_0 22 rfl rfl)
theorem dX9_canBe_23 : decode cX9_canBe 23 = .ok (.ireturn, 1) := dk_172 (dk_at dksX9_canBe_0 23 rfl rfl)
abbrev cX9_init : ByteArray := prog_8_method_1_code
def yX9_init : MethodName := ⟨RX9, "<init>", "()V"⟩
def dkwX9_init_0 : List UInt8 := [42, 183, 0, 3, 42, 16, 60, 188, 10, 181, 0, 9, 177]
abbrev dktX9_init_0 : List UInt8 := dkwX9_init_0 ++ []
theorem dksX9_init_0 : cX9_init.data.toList.drop 0 = dktX9_init_0 := by decide +kernel
theorem dX9_init_0 : decode cX9_init 0 = .ok (.aload_n 0, 1) := dk_42 (dk_at dksX9_init_0 0 rfl rfl)
theorem dX9_init_1 : decode cX9_init 1 = .ok (.invokespecial 3, 3) := dk_183 0 3 (dk_at dksX9_init_0 1 rfl rfl)
theorem dX9_init_4 : decode cX9_init 4 = .ok (.aload_n 0, 1) := dk_42 (dk_at dksX9_init_0 4 rfl rfl)
theorem dX9_init_5 : decode cX9_init 5 = .ok (.bipush 60, 2) := dk_16 60 (dk_at dksX9_init_0 5 rfl rfl)
theorem dX9_init_7 : decode cX9_init 7 = .ok (.newarray .int, 2) := dk_188_10 (dk_at dksX9_init_0 7 rfl rfl)
theorem dX9_init_9 : decode cX9_init 9 = .ok (.putfield 9, 3) := dk_181 0 9 (dk_at dksX9_init_0 9 rfl rfl)
theorem dX9_init_12 : decode cX9_init 12 = .ok (.return_, 1) := dk_177 (dk_at dksX9_init_0 12 rfl rfl)
abbrev cX9_tell : ByteArray := prog_8_method_4_code
def yX9_tell : MethodName := ⟨RX9, "tell", "(IIZ)V"⟩
def dkwX9_tell_1 : List UInt8 := [167, 0, 4, 4, 79, 177]
abbrev dktX9_tell_1 : List UInt8 := dkwX9_tell_1 ++ []
def dkwX9_tell_0 : List UInt8 := [27, 28, 184, 0, 15, 54, 4, 21, 4, 2, 159, 0, 19, 42, 180, 0, 9, 21, 4, 29, 153, 0, 7, 5]
abbrev dktX9_tell_0 : List UInt8 := dkwX9_tell_0 ++ dktX9_tell_1
theorem dksX9_tell_0 : cX9_tell.data.toList.drop 0 = dktX9_tell_0 := by decide +kernel
theorem dksX9_tell_1 : cX9_tell.data.toList.drop 24 = dktX9_tell_1 := dk_seg dksX9_tell_0 24 rfl rfl
theorem dX9_tell_0 : decode cX9_tell 0 = .ok (.iload_n 1, 1) := dk_27 (dk_at dksX9_tell_0 0 rfl rfl)
theorem dX9_tell_1 : decode cX9_tell 1 = .ok (.iload_n 2, 1) := dk_28 (dk_at dksX9_tell_0 1 rfl rfl)
theorem dX9_tell_2 : decode cX9_tell 2 = .ok (.invokestatic 15, 3) := dk_184 0 15 (dk_at dksX9_tell_0 2 rfl rfl)
theorem dX9_tell_5 : decode cX9_tell 5 = .ok (.istore 4, 2) := dk_54 4 (dk_at dksX9_tell_0 5 rfl rfl)
theorem dX9_tell_7 : decode cX9_tell 7 = .ok (.iload 4, 2) := dk_21 4 (dk_at dksX9_tell_0 7 rfl rfl)
theorem dX9_tell_9 : decode cX9_tell 9 = .ok (.iconst (-1), 1) := dk_2 (dk_at dksX9_tell_0 9 rfl rfl)
theorem dX9_tell_10 : decode cX9_tell 10 = .ok (.if_icmp .eq 19, 3) := dk_159 0 19 (dk_at dksX9_tell_0 10 rfl rfl)
theorem dX9_tell_13 : decode cX9_tell 13 = .ok (.aload_n 0, 1) := dk_42 (dk_at dksX9_tell_0 13 rfl rfl)
theorem dX9_tell_14 : decode cX9_tell 14 = .ok (.getfield 9, 3) := dk_180 0 9 (dk_at dksX9_tell_0 14 rfl rfl)
theorem dX9_tell_17 : decode cX9_tell 17 = .ok (.iload 4, 2) := dk_21 4 (dk_at dksX9_tell_0 17 rfl rfl)
theorem dX9_tell_19 : decode cX9_tell 19 = .ok (.iload_n 3, 1) := dk_29 (dk_at dksX9_tell_0 19 rfl rfl)
theorem dX9_tell_20 : decode cX9_tell 20 = .ok (.ifCond .eq 7, 3) := dk_153 0 7 (dk_at dksX9_tell_0 20 rfl rfl)
theorem dX9_tell_23 : decode cX9_tell 23 = .ok (.iconst 2, 1) := dk_5 (dk_at dksX9_tell_0 23 rfl rfl)
theorem dX9_tell_24 : decode cX9_tell 24 = .ok (.goto 4, 3) := dk_167 0 4 (dk_at dksX9_tell_1 0 rfl rfl)
theorem dX9_tell_27 : decode cX9_tell 27 = .ok (.iconst 1, 1) := dk_4 (dk_at dksX9_tell_1 3 rfl rfl)
theorem dX9_tell_28 : decode cX9_tell 28 = .ok (.iastore, 1) := dk_79 (dk_at dksX9_tell_1 4 rfl rfl)
theorem dX9_tell_29 : decode cX9_tell 29 = .ok (.return_, 1) := dk_177 (dk_at dksX9_tell_1 5 rfl rfl)
abbrev cX9_disputes : ByteArray := prog_8_method_8_code
def yX9_disputes : MethodName := ⟨RX9, "disputes", "(LBumpward$Plan;)I"⟩
def dkwX9_disputes_2 : List UInt8 := [3, 184, 0, 19, 96, 61, 132, 3, 1, 167, 255, 203, 28, 172]
abbrev dktX9_disputes_2 : List UInt8 := dkwX9_disputes_2 ++ []
def dkwX9_disputes_1 : List UInt8 := [29, 46, 153, 0, 22, 42, 180, 0, 9, 29, 46, 43, 180, 0, 9, 29, 46, 159, 0, 7, 4, 167, 0, 4]
abbrev dktX9_disputes_1 : List UInt8 := dkwX9_disputes_1 ++ dktX9_disputes_2
def dkwX9_disputes_0 : List UInt8 := [3, 61, 3, 62, 29, 16, 60, 162, 0, 53, 28, 42, 180, 0, 9, 29, 46, 153, 0, 31, 43, 180, 0, 9]
abbrev dktX9_disputes_0 : List UInt8 := dkwX9_disputes_0 ++ dktX9_disputes_1
theorem dksX9_disputes_0 : cX9_disputes.data.toList.drop 0 = dktX9_disputes_0 := by decide +kernel
theorem dksX9_disputes_1 : cX9_disputes.data.toList.drop 24 = dktX9_disputes_1 := dk_seg dksX9_disputes_0 24 rfl rfl
theorem dksX9_disputes_2 : cX9_disputes.data.toList.drop 48 = dktX9_disputes_2 := dk_seg dksX9_disputes_1 24 rfl rfl
theorem dX9_disputes_0 : decode cX9_disputes 0 = .ok (.iconst 0, 1) := dk_3 (dk_at dksX9_disputes_0 0 rfl rfl)
theorem dX9_disputes_1 : decode cX9_disputes 1 = .ok (.istore_n 2, 1) := dk_61 (dk_at dksX9_disputes_0 1 rfl rfl)
theorem dX9_disputes_2 : decode cX9_disputes 2 = .ok (.iconst 0, 1) := dk_3 (dk_at dksX9_disputes_0 2 rfl rfl)
theorem dX9_disputes_3 : decode cX9_disputes 3 = .ok (.istore_n 3, 1) := dk_62 (dk_at dksX9_disputes_0 3 rfl rfl)
theorem dX9_disputes_4 : decode cX9_disputes 4 = .ok (.iload_n 3, 1) := dk_29 (dk_at dksX9_disputes_0 4 rfl rfl)
theorem dX9_disputes_5 : decode cX9_disputes 5 = .ok (.bipush 60, 2) := dk_16 60 (dk_at dksX9_disputes_0 5 rfl rfl)
theorem dX9_disputes_7 : decode cX9_disputes 7 = .ok (.if_icmp .ge 53, 3) := dk_162 0 53 (dk_at dksX9_disputes_0 7 rfl rfl)
theorem dX9_disputes_10 : decode cX9_disputes 10 = .ok (.iload_n 2, 1) := dk_28 (dk_at dksX9_disputes_0 10 rfl rfl)
theorem dX9_disputes_11 : decode cX9_disputes 11 = .ok (.aload_n 0, 1) := dk_42 (dk_at dksX9_disputes_0 11 rfl rfl)
theorem dX9_disputes_12 : decode cX9_disputes 12 = .ok (.getfield 9, 3) := dk_180 0 9 (dk_at dksX9_disputes_0 12 rfl rfl)
theorem dX9_disputes_15 : decode cX9_disputes 15 = .ok (.iload_n 3, 1) := dk_29 (dk_at dksX9_disputes_0 15 rfl rfl)
theorem dX9_disputes_16 : decode cX9_disputes 16 = .ok (.iaload, 1) := dk_46 (dk_at dksX9_disputes_0 16 rfl rfl)
theorem dX9_disputes_17 : decode cX9_disputes 17 = .ok (.ifCond .eq 31, 3) := dk_153 0 31 (dk_at dksX9_disputes_0 17 rfl rfl)
theorem dX9_disputes_20 : decode cX9_disputes 20 = .ok (.aload_n 1, 1) := dk_43 (dk_at dksX9_disputes_0 20 rfl rfl)
theorem dX9_disputes_21 : decode cX9_disputes 21 = .ok (.getfield 9, 3) := dk_180 0 9 (dk_at dksX9_disputes_0 21 rfl rfl)
theorem dX9_disputes_24 : decode cX9_disputes 24 = .ok (.iload_n 3, 1) := dk_29 (dk_at dksX9_disputes_1 0 rfl rfl)
theorem dX9_disputes_25 : decode cX9_disputes 25 = .ok (.iaload, 1) := dk_46 (dk_at dksX9_disputes_1 1 rfl rfl)
theorem dX9_disputes_26 : decode cX9_disputes 26 = .ok (.ifCond .eq 22, 3) := dk_153 0 22 (dk_at dksX9_disputes_1 2 rfl rfl)
theorem dX9_disputes_29 : decode cX9_disputes 29 = .ok (.aload_n 0, 1) := dk_42 (dk_at dksX9_disputes_1 5 rfl rfl)
theorem dX9_disputes_30 : decode cX9_disputes 30 = .ok (.getfield 9, 3) := dk_180 0 9 (dk_at dksX9_disputes_1 6 rfl rfl)
theorem dX9_disputes_33 : decode cX9_disputes 33 = .ok (.iload_n 3, 1) := dk_29 (dk_at dksX9_disputes_1 9 rfl rfl)
theorem dX9_disputes_34 : decode cX9_disputes 34 = .ok (.iaload, 1) := dk_46 (dk_at dksX9_disputes_1 10 rfl rfl)
theorem dX9_disputes_35 : decode cX9_disputes 35 = .ok (.aload_n 1, 1) := dk_43 (dk_at dksX9_disputes_1 11 rfl rfl)
theorem dX9_disputes_36 : decode cX9_disputes 36 = .ok (.getfield 9, 3) := dk_180 0 9 (dk_at dksX9_disputes_1 12 rfl rfl)
theorem dX9_disputes_39 : decode cX9_disputes 39 = .ok (.iload_n 3, 1) := dk_29 (dk_at dksX9_disputes_1 15 rfl rfl)
theorem dX9_disputes_40 : decode cX9_disputes 40 = .ok (.iaload, 1) := dk_46 (dk_at dksX9_disputes_1 16 rfl rfl)
theorem dX9_disputes_41 : decode cX9_disputes 41 = .ok (.if_icmp .eq 7, 3) := dk_159 0 7 (dk_at dksX9_disputes_1 17 rfl rfl)
theorem dX9_disputes_44 : decode cX9_disputes 44 = .ok (.iconst 1, 1) := dk_4 (dk_at dksX9_disputes_1 20 rfl rfl)
theorem dX9_disputes_45 : decode cX9_disputes 45 = .ok (.goto 4, 3) := dk_167 0 4 (dk_at dksX9_disputes_1 21 rfl rfl)
theorem dX9_disputes_48 : decode cX9_disputes 48 = .ok (.iconst 0, 1) := dk_3 (dk_at dksX9_disputes_2 0 rfl rfl)
theorem dX9_disputes_49 : decode cX9_disputes 49 = .ok (.invokestatic 19, 3) := dk_184 0 19 (dk_at dksX9_disputes_2 1 rfl rfl)
theorem dX9_disputes_52 : decode cX9_disputes 52 = .ok (.iadd, 1) := dk_96 (dk_at dksX9_disputes_2 4 rfl rfl)
theorem dX9_disputes_53 : decode cX9_disputes 53 = .ok (.istore_n 2, 1) := dk_61 (dk_at dksX9_disputes_2 5 rfl rfl)
theorem dX9_disputes_54 : decode cX9_disputes 54 = .ok (.iinc 3 1, 3) := dk_132 3 1 (dk_at dksX9_disputes_2 6 rfl rfl)
theorem dX9_disputes_57 : decode cX9_disputes 57 = .ok (.goto (-53), 3) := dk_167 255 203 (dk_at dksX9_disputes_2 9 rfl rfl)
theorem dX9_disputes_60 : decode cX9_disputes 60 = .ok (.iload_n 2, 1) := dk_28 (dk_at dksX9_disputes_2 12 rfl rfl)
theorem dX9_disputes_61 : decode cX9_disputes 61 = .ok (.ireturn, 1) := dk_172 (dk_at dksX9_disputes_2 13 rfl rfl)
abbrev cX9_learn : ByteArray := prog_8_method_7_code
def yX9_learn : MethodName := ⟨RX9, "learn", "(LBumpward$Plan;)I"⟩
def dkwX9_learn_2 : List UInt8 := [132, 3, 1, 167, 255, 211, 28, 172]
abbrev dktX9_learn_2 : List UInt8 := dkwX9_learn_2 ++ []
def dkwX9_learn_1 : List UInt8 := [46, 154, 0, 6, 167, 0, 18, 42, 180, 0, 9, 29, 43, 180, 0, 9, 29, 46, 79, 132, 2, 1]
abbrev dktX9_learn_1 : List UInt8 := dkwX9_learn_1 ++ dktX9_learn_2
def dkwX9_learn_0 : List UInt8 := [3, 61, 3, 62, 29, 16, 60, 162, 0, 45, 42, 180, 0, 9, 29, 46, 154, 0, 30, 43, 180, 0, 9, 29]
abbrev dktX9_learn_0 : List UInt8 := dkwX9_learn_0 ++ dktX9_learn_1
theorem dksX9_learn_0 : cX9_learn.data.toList.drop 0 = dktX9_learn_0 := by decide +kernel
theorem dksX9_learn_1 : cX9_learn.data.toList.drop 24 = dktX9_learn_1 := dk_seg dksX9_learn_0 24 rfl rfl
theorem dksX9_learn_2 : cX9_learn.data.toList.drop 46 = dktX9_learn_2 := dk_seg dksX9_learn_1 22 rfl rfl
theorem dX9_learn_0 : decode cX9_learn 0 = .ok (.iconst 0, 1) := dk_3 (dk_at dksX9_learn_0 0 rfl rfl)
theorem dX9_learn_1 : decode cX9_learn 1 = .ok (.istore_n 2, 1) := dk_61 (dk_at dksX9_learn_0 1 rfl rfl)
theorem dX9_learn_2 : decode cX9_learn 2 = .ok (.iconst 0, 1) := dk_3 (dk_at dksX9_learn_0 2 rfl rfl)
theorem dX9_learn_3 : decode cX9_learn 3 = .ok (.istore_n 3, 1) := dk_62 (dk_at dksX9_learn_0 3 rfl rfl)
theorem dX9_learn_4 : decode cX9_learn 4 = .ok (.iload_n 3, 1) := dk_29 (dk_at dksX9_learn_0 4 rfl rfl)
theorem dX9_learn_5 : decode cX9_learn 5 = .ok (.bipush 60, 2) := dk_16 60 (dk_at dksX9_learn_0 5 rfl rfl)
theorem dX9_learn_7 : decode cX9_learn 7 = .ok (.if_icmp .ge 45, 3) := dk_162 0 45 (dk_at dksX9_learn_0 7 rfl rfl)
theorem dX9_learn_10 : decode cX9_learn 10 = .ok (.aload_n 0, 1) := dk_42 (dk_at dksX9_learn_0 10 rfl rfl)
theorem dX9_learn_11 : decode cX9_learn 11 = .ok (.getfield 9, 3) := dk_180 0 9 (dk_at dksX9_learn_0 11 rfl rfl)
theorem dX9_learn_14 : decode cX9_learn 14 = .ok (.iload_n 3, 1) := dk_29 (dk_at dksX9_learn_0 14 rfl rfl)
theorem dX9_learn_15 : decode cX9_learn 15 = .ok (.iaload, 1) := dk_46 (dk_at dksX9_learn_0 15 rfl rfl)
theorem dX9_learn_16 : decode cX9_learn 16 = .ok (.ifCond .ne 30, 3) := dk_154 0 30 (dk_at dksX9_learn_0 16 rfl rfl)
theorem dX9_learn_19 : decode cX9_learn 19 = .ok (.aload_n 1, 1) := dk_43 (dk_at dksX9_learn_0 19 rfl rfl)
theorem dX9_learn_20 : decode cX9_learn 20 = .ok (.getfield 9, 3) := dk_180 0 9 (dk_at dksX9_learn_0 20 rfl rfl)
theorem dX9_learn_23 : decode cX9_learn 23 = .ok (.iload_n 3, 1) := dk_29 (dk_at dksX9_learn_0 23 rfl rfl)
theorem dX9_learn_24 : decode cX9_learn 24 = .ok (.iaload, 1) := dk_46 (dk_at dksX9_learn_1 0 rfl rfl)
theorem dX9_learn_25 : decode cX9_learn 25 = .ok (.ifCond .ne 6, 3) := dk_154 0 6 (dk_at dksX9_learn_1 1 rfl rfl)
theorem dX9_learn_28 : decode cX9_learn 28 = .ok (.goto 18, 3) := dk_167 0 18 (dk_at dksX9_learn_1 4 rfl rfl)
theorem dX9_learn_31 : decode cX9_learn 31 = .ok (.aload_n 0, 1) := dk_42 (dk_at dksX9_learn_1 7 rfl rfl)
theorem dX9_learn_32 : decode cX9_learn 32 = .ok (.getfield 9, 3) := dk_180 0 9 (dk_at dksX9_learn_1 8 rfl rfl)
theorem dX9_learn_35 : decode cX9_learn 35 = .ok (.iload_n 3, 1) := dk_29 (dk_at dksX9_learn_1 11 rfl rfl)
theorem dX9_learn_36 : decode cX9_learn 36 = .ok (.aload_n 1, 1) := dk_43 (dk_at dksX9_learn_1 12 rfl rfl)
theorem dX9_learn_37 : decode cX9_learn 37 = .ok (.getfield 9, 3) := dk_180 0 9 (dk_at dksX9_learn_1 13 rfl rfl)
theorem dX9_learn_40 : decode cX9_learn 40 = .ok (.iload_n 3, 1) := dk_29 (dk_at dksX9_learn_1 16 rfl rfl)
theorem dX9_learn_41 : decode cX9_learn 41 = .ok (.iaload, 1) := dk_46 (dk_at dksX9_learn_1 17 rfl rfl)
theorem dX9_learn_42 : decode cX9_learn 42 = .ok (.iastore, 1) := dk_79 (dk_at dksX9_learn_1 18 rfl rfl)
theorem dX9_learn_43 : decode cX9_learn 43 = .ok (.iinc 2 1, 3) := dk_132 2 1 (dk_at dksX9_learn_1 19 rfl rfl)
theorem dX9_learn_46 : decode cX9_learn 46 = .ok (.iinc 3 1, 3) := dk_132 3 1 (dk_at dksX9_learn_2 0 rfl rfl)
theorem dX9_learn_49 : decode cX9_learn 49 = .ok (.goto (-45), 3) := dk_167 255 211 (dk_at dksX9_learn_2 3 rfl rfl)
theorem dX9_learn_52 : decode cX9_learn 52 = .ok (.iload_n 2, 1) := dk_28 (dk_at dksX9_learn_2 6 rfl rfl)
theorem dX9_learn_53 : decode cX9_learn 53 = .ok (.ireturn, 1) := dk_172 (dk_at dksX9_learn_2 7 rfl rfl)
theorem q72 : (Jvm.Cond.initialized "Bumpward$Plan") ∈ lw_all := lw_g (lw_at lw_m1 24 rfl) rfl
theorem q269 : (Jvm.Cond.instanceMethod ({ cls := "Bumpward$Plan", name := "of", desc := "(I)I" } : Jvm.MethodName)) ∈ lw_all := lw_g (lw_at lw_m1 221 rfl) rfl
theorem q270 : (Jvm.Cond.selects "Bumpward$Plan" ({ cls := "Bumpward$Plan", name := "of", desc := "(I)I" } : Jvm.MethodName) ({ cls := "Bumpward$Plan", name := "of", desc := "(I)I" } : Jvm.MethodName)) ∈ lw_all := lw_g (lw_at lw_m1 222 rfl) rfl
theorem q271 : (Jvm.Cond.code ({ cls := "Bumpward$Plan", name := "of", desc := "(I)I" } : Jvm.MethodName) prog_8_method_3_code (2 : Nat) (Option.some Jvm.ClassFile.FieldType.int)) ∈ lw_all := lw_g (lw_at lw_m1 223 rfl) rfl
theorem q295 : (Jvm.Cond.instanceMethod ({ cls := "Bumpward$Plan", name := "count", desc := "(I)I" } : Jvm.MethodName)) ∈ lw_all := lw_g (lw_at lw_m2 7 rfl) rfl
theorem q296 : (Jvm.Cond.selects "Bumpward$Plan" ({ cls := "Bumpward$Plan", name := "count", desc := "(I)I" } : Jvm.MethodName) ({ cls := "Bumpward$Plan", name := "count", desc := "(I)I" } : Jvm.MethodName)) ∈ lw_all := lw_g (lw_at lw_m2 8 rfl) rfl
theorem q297 : (Jvm.Cond.code ({ cls := "Bumpward$Plan", name := "count", desc := "(I)I" } : Jvm.MethodName) prog_8_method_5_code (7 : Nat) (Option.some Jvm.ClassFile.FieldType.int)) ∈ lw_all := lw_g (lw_at lw_m2 9 rfl) rfl
theorem q298 : (Jvm.Cond.methodLinkNest "Bumpward$Plan" (19 : Nat) ({ cls := "Bumpward", name := "one", desc := "(Z)I" } : Jvm.MethodName) "Bumpward") ∈ lw_tbl := lw_at lw_m2 10 rfl
theorem q444 : (Jvm.Cond.instanceMethod ({ cls := "Bumpward$Plan", name := "ways", desc := "(I)[I" } : Jvm.MethodName)) ∈ lw_all := lw_g (lw_at lw_m2 156 rfl) rfl
theorem q445 : (Jvm.Cond.selects "Bumpward$Plan" ({ cls := "Bumpward$Plan", name := "ways", desc := "(I)[I" } : Jvm.MethodName) ({ cls := "Bumpward$Plan", name := "ways", desc := "(I)[I" } : Jvm.MethodName)) ∈ lw_all := lw_g (lw_at lw_m2 157 rfl) rfl
theorem q446 : (Jvm.Cond.code ({ cls := "Bumpward$Plan", name := "ways", desc := "(I)[I" } : Jvm.MethodName) prog_8_method_10_code (5 : Nat) (Option.some (Jvm.ClassFile.FieldType.array Jvm.ClassFile.FieldType.int))) ∈ lw_all := lw_g (lw_at lw_m2 158 rfl) rfl
theorem q447 : (Jvm.Cond.methodLink "Bumpward$Plan" (26 : Nat) ({ cls := "Bumpward$Plan", name := "spread", desc := "([II)V" } : Jvm.MethodName)) ∈ lw_all := lw_g (lw_at lw_m2 159 rfl) rfl
theorem q448 : (Jvm.Cond.privateMethod ({ cls := "Bumpward$Plan", name := "spread", desc := "([II)V" } : Jvm.MethodName)) ∈ lw_tbl := lw_at lw_m2 160 rfl
theorem q449 : (Jvm.Cond.instanceMethod ({ cls := "Bumpward$Plan", name := "spread", desc := "([II)V" } : Jvm.MethodName)) ∈ lw_all := lw_g (lw_at lw_m2 161 rfl) rfl
theorem q450 : (Jvm.Cond.instantiable "Bumpward$Plan" (1 : Nat)) ∈ lw_all := lw_g (lw_at lw_m2 162 rfl) rfl
theorem q451 : (Jvm.Cond.code ({ cls := "Bumpward$Plan", name := "spread", desc := "([II)V" } : Jvm.MethodName) prog_8_method_11_code (5 : Nat) (Option.none : Option Jvm.ClassFile.FieldType)) ∈ lw_all := lw_g (lw_at lw_m2 163 rfl) rfl
theorem q452 : (Jvm.Cond.methodLinkNest "Bumpward$Plan" (30 : Nat) ({ cls := "Bumpward", name := "beside", desc := "(II)I" } : Jvm.MethodName) "Bumpward") ∈ lw_tbl := lw_at lw_m2 164 rfl
theorem q453 : (Jvm.Cond.methodLink "Bumpward$Plan" (23 : Nat) ({ cls := "Bumpward$Plan", name := "at", desc := "(II)I" } : Jvm.MethodName)) ∈ lw_all := lw_g (lw_at lw_m2 165 rfl) rfl
theorem q454 : (Jvm.Cond.instanceMethod ({ cls := "Bumpward$Plan", name := "at", desc := "(II)I" } : Jvm.MethodName)) ∈ lw_all := lw_g (lw_at lw_m2 166 rfl) rfl
theorem q455 : (Jvm.Cond.selects "Bumpward$Plan" ({ cls := "Bumpward$Plan", name := "at", desc := "(II)I" } : Jvm.MethodName) ({ cls := "Bumpward$Plan", name := "at", desc := "(II)I" } : Jvm.MethodName)) ∈ lw_all := lw_g (lw_at lw_m2 167 rfl) rfl
theorem q456 : (Jvm.Cond.code ({ cls := "Bumpward$Plan", name := "at", desc := "(II)I" } : Jvm.MethodName) prog_8_method_2_code (4 : Nat) (Option.some Jvm.ClassFile.FieldType.int)) ∈ lw_all := lw_g (lw_at lw_m2 168 rfl) rfl
theorem q457 : (Jvm.Cond.methodLinkNest "Bumpward$Plan" (15 : Nat) ({ cls := "Bumpward", name := "edgeAt", desc := "(II)I" } : Jvm.MethodName) "Bumpward") ∈ lw_tbl := lw_at lw_m2 169 rfl
theorem q473 : (Jvm.Cond.instanceMethod ({ cls := "Bumpward$Plan", name := "isOpenEnded", desc := "(I)Z" } : Jvm.MethodName)) ∈ lw_all := lw_g (lw_at lw_m2 185 rfl) rfl
theorem q474 : (Jvm.Cond.selects "Bumpward$Plan" ({ cls := "Bumpward$Plan", name := "isOpenEnded", desc := "(I)Z" } : Jvm.MethodName) ({ cls := "Bumpward$Plan", name := "isOpenEnded", desc := "(I)Z" } : Jvm.MethodName)) ∈ lw_all := lw_g (lw_at lw_m2 186 rfl) rfl
theorem q475 : (Jvm.Cond.code ({ cls := "Bumpward$Plan", name := "isOpenEnded", desc := "(I)Z" } : Jvm.MethodName) prog_8_method_9_code (3 : Nat) (Option.some Jvm.ClassFile.FieldType.boolean)) ∈ lw_all := lw_g (lw_at lw_m2 187 rfl) rfl
theorem q496 : (Jvm.Cond.instanceMethod ({ cls := "Bumpward$Plan", name := "canBe", desc := "(IIZ)Z" } : Jvm.MethodName)) ∈ lw_all := lw_g (lw_at lw_m2 208 rfl) rfl
theorem q497 : (Jvm.Cond.selects "Bumpward$Plan" ({ cls := "Bumpward$Plan", name := "canBe", desc := "(IIZ)Z" } : Jvm.MethodName) ({ cls := "Bumpward$Plan", name := "canBe", desc := "(IIZ)Z" } : Jvm.MethodName)) ∈ lw_all := lw_g (lw_at lw_m2 209 rfl) rfl
theorem q498 : (Jvm.Cond.code ({ cls := "Bumpward$Plan", name := "canBe", desc := "(IIZ)Z" } : Jvm.MethodName) prog_8_method_6_code (4 : Nat) (Option.some Jvm.ClassFile.FieldType.boolean)) ∈ lw_all := lw_g (lw_at lw_m2 210 rfl) rfl
theorem q746 : (Jvm.Cond.instanceMethod ({ cls := "Bumpward$Plan", name := "<init>", desc := "()V" } : Jvm.MethodName)) ∈ lw_all := lw_g (lw_at lw_m3 218 rfl) rfl
theorem q747 : (Jvm.Cond.code ({ cls := "Bumpward$Plan", name := "<init>", desc := "()V" } : Jvm.MethodName) prog_8_method_1_code (1 : Nat) (Option.none : Option Jvm.ClassFile.FieldType)) ∈ lw_all := lw_g (lw_at lw_m3 219 rfl) rfl
theorem q748 : (Jvm.Cond.methodLink "Bumpward$Plan" (3 : Nat) ({ cls := "java/lang/Object", name := "<init>", desc := "()V" } : Jvm.MethodName)) ∈ lw_all := lw_g (lw_at lw_m3 220 rfl) rfl
theorem q749 : (Jvm.Cond.fieldLink "Bumpward$Plan" (9 : Nat) "Bumpward$Plan" "edges" "[I") ∈ lw_all := lw_g (lw_at lw_m3 221 rfl) rfl
theorem q750 : (Jvm.Cond.laysFinal "Bumpward$Plan" "Bumpward$Plan" "edges" "[I") ∈ lw_all := lw_g (lw_at lw_m3 222 rfl) rfl
theorem q751 : (Jvm.Cond.soleField "Bumpward$Plan" "edges") ∈ lw_all := lw_g (lw_at lw_m3 223 rfl) rfl
theorem q752 : (Jvm.Cond.superclass "Bumpward$Plan" "java/lang/Object") ∈ lw_all := lw_g (lw_at lw_m3 224 rfl) rfl
theorem q834 : (Jvm.Cond.selects "Bumpward$Plan" ({ cls := "java/lang/Object", name := "getClass", desc := "()Ljava/lang/Class;" } : Jvm.MethodName) ({ cls := "java/lang/Object", name := "getClass", desc := "()Ljava/lang/Class;" } : Jvm.MethodName)) ∈ lw_all := lw_g (lw_at lw_m4 66 rfl) rfl
theorem q908 : (Jvm.Cond.instanceMethod ({ cls := "Bumpward$Plan", name := "tell", desc := "(IIZ)V" } : Jvm.MethodName)) ∈ lw_all := lw_g (lw_at lw_m4 140 rfl) rfl
theorem q909 : (Jvm.Cond.selects "Bumpward$Plan" ({ cls := "Bumpward$Plan", name := "tell", desc := "(IIZ)V" } : Jvm.MethodName) ({ cls := "Bumpward$Plan", name := "tell", desc := "(IIZ)V" } : Jvm.MethodName)) ∈ lw_all := lw_g (lw_at lw_m4 141 rfl) rfl
theorem q910 : (Jvm.Cond.code ({ cls := "Bumpward$Plan", name := "tell", desc := "(IIZ)V" } : Jvm.MethodName) prog_8_method_4_code (5 : Nat) (Option.none : Option Jvm.ClassFile.FieldType)) ∈ lw_all := lw_g (lw_at lw_m4 142 rfl) rfl
theorem q991 : (Jvm.Cond.instanceMethod ({ cls := "Bumpward$Plan", name := "disputes", desc := "(LBumpward$Plan;)I" } : Jvm.MethodName)) ∈ lw_all := lw_g (lw_at lw_m4 223 rfl) rfl
theorem q992 : (Jvm.Cond.selects "Bumpward$Plan" ({ cls := "Bumpward$Plan", name := "disputes", desc := "(LBumpward$Plan;)I" } : Jvm.MethodName) ({ cls := "Bumpward$Plan", name := "disputes", desc := "(LBumpward$Plan;)I" } : Jvm.MethodName)) ∈ lw_all := lw_g (lw_at lw_m4 224 rfl) rfl
theorem q993 : (Jvm.Cond.code ({ cls := "Bumpward$Plan", name := "disputes", desc := "(LBumpward$Plan;)I" } : Jvm.MethodName) prog_8_method_8_code (4 : Nat) (Option.some Jvm.ClassFile.FieldType.int)) ∈ lw_all := lw_g (lw_at lw_m4 225 rfl) rfl
theorem q995 : (Jvm.Cond.instanceMethod ({ cls := "Bumpward$Plan", name := "learn", desc := "(LBumpward$Plan;)I" } : Jvm.MethodName)) ∈ lw_all := lw_g (lw_at lw_m4 227 rfl) rfl
theorem q996 : (Jvm.Cond.selects "Bumpward$Plan" ({ cls := "Bumpward$Plan", name := "learn", desc := "(LBumpward$Plan;)I" } : Jvm.MethodName) ({ cls := "Bumpward$Plan", name := "learn", desc := "(LBumpward$Plan;)I" } : Jvm.MethodName)) ∈ lw_all := lw_g (lw_at lw_m4 228 rfl) rfl
theorem q997 : (Jvm.Cond.code ({ cls := "Bumpward$Plan", name := "learn", desc := "(LBumpward$Plan;)I" } : Jvm.MethodName) prog_8_method_7_code (4 : Nat) (Option.some Jvm.ClassFile.FieldType.int)) ∈ lw_all := lw_g (lw_at lw_m4 229 rfl) rfl
theorem q1808 : (Jvm.Cond.castable "Bumpward$Plan" "java/lang/Object") ∈ lw_tbl := lw_at lw_m8 80 rfl
theorem in_X9 : ∀ w ∈ wsX90, w ∈ lw_all := lw_in wsX90 [750] (by decide +kernel) (by decide +kernel)
/-! Bumpward$Belief -/
set_option maxRecDepth 100000
def RX10 : String := "Bumpward$Belief"
def TX10 : u_T := fun k => match k with
  | _ => ("Bumpward$Belief", "are", "[Z", true)
def tyX10 : Nat → FieldType := fun k => match k with
  | _ => .array .boolean
abbrev wsX100 : List Cond := u_ws RX10 TX10 1
theorem nmX10 : ∀ a, a < 1 → ∀ b, b < 1 → a ≠ b → (TX10 a).2.1 ≠ (TX10 b).2.1 := by decide +kernel
theorem tyX10_ok : ∀ k, k < 1 → parseFieldDescriptor (TX10 k).2.2.1 = some (tyX10 k) := by decide +kernel
abbrev cX10_size : ByteArray := prog_2_method_5_code
def yX10_size : MethodName := ⟨RX10, "size", "()I"⟩
def dkwX10_size_1 : List UInt8 := [54, 5, 27, 21, 5, 184, 0, 16, 96, 60, 132, 4, 1, 167, 255, 233, 27, 172]
abbrev dktX10_size_1 : List UInt8 := dkwX10_size_1 ++ []
def dkwX10_size_0 : List UInt8 := [3, 60, 42, 180, 0, 9, 77, 44, 190, 62, 3, 54, 4, 21, 4, 29, 162, 0, 23, 44, 21, 4, 51]
abbrev dktX10_size_0 : List UInt8 := dkwX10_size_0 ++ dktX10_size_1
theorem dksX10_size_0 : cX10_size.data.toList.drop 0 = dktX10_size_0 := by decide +kernel
theorem dksX10_size_1 : cX10_size.data.toList.drop 23 = dktX10_size_1 := dk_seg dksX10_size_0 23 rfl rfl
theorem dX10_size_0 : decode cX10_size 0 = .ok (.iconst 0, 1) := dk_3 (dk_at dksX10_size_0 0 rfl rfl)
theorem dX10_size_1 : decode cX10_size 1 = .ok (.istore_n 1, 1) := dk_60 (dk_at dksX10_size_0 1 rfl rfl)
theorem dX10_size_2 : decode cX10_size 2 = .ok (.aload_n 0, 1) := dk_42 (dk_at dksX10_size_0 2 rfl rfl)
theorem dX10_size_3 : decode cX10_size 3 = .ok (.getfield 9, 3) := dk_180 0 9 (dk_at dksX10_size_0 3 rfl rfl)
theorem dX10_size_6 : decode cX10_size 6 = .ok (.astore_n 2, 1) := dk_77 (dk_at dksX10_size_0 6 rfl rfl)
theorem dX10_size_7 : decode cX10_size 7 = .ok (.aload_n 2, 1) := dk_44 (dk_at dksX10_size_0 7 rfl rfl)
theorem dX10_size_8 : decode cX10_size 8 = .ok (.arraylength, 1) := dk_190 (dk_at dksX10_size_0 8 rfl rfl)
theorem dX10_size_9 : decode cX10_size 9 = .ok (.istore_n 3, 1) := dk_62 (dk_at dksX10_size_0 9 rfl rfl)
theorem dX10_size_10 : decode cX10_size 10 = .ok (.iconst 0, 1) := dk_3 (dk_at dksX10_size_0 10 rfl rfl)
theorem dX10_size_11 : decode cX10_size 11 = .ok (.istore 4, 2) := dk_54 4 (dk_at dksX10_size_0 11 rfl rfl)
theorem dX10_size_13 : decode cX10_size 13 = .ok (.iload 4, 2) := dk_21 4 (dk_at dksX10_size_0 13 rfl rfl)
theorem dX10_size_15 : decode cX10_size 15 = .ok (.iload_n 3, 1) := dk_29 (dk_at dksX10_size_0 15 rfl rfl)
theorem dX10_size_16 : decode cX10_size 16 = .ok (.if_icmp .ge 23, 3) := dk_162 0 23 (dk_at dksX10_size_0 16 rfl rfl)
theorem dX10_size_19 : decode cX10_size 19 = .ok (.aload_n 2, 1) := dk_44 (dk_at dksX10_size_0 19 rfl rfl)
theorem dX10_size_20 : decode cX10_size 20 = .ok (.iload 4, 2) := dk_21 4 (dk_at dksX10_size_0 20 rfl rfl)
theorem dX10_size_22 : decode cX10_size 22 = .ok (.baload, 1) := dk_51 (dk_at dksX10_size_0 22 rfl rfl)
theorem dX10_size_23 : decode cX10_size 23 = .ok (.istore 5, 2) := dk_54 5 (dk_at dksX10_size_1 0 rfl rfl)
theorem dX10_size_25 : decode cX10_size 25 = .ok (.iload_n 1, 1) := dk_27 (dk_at dksX10_size_1 2 rfl rfl)
theorem dX10_size_26 : decode cX10_size 26 = .ok (.iload 5, 2) := dk_21 5 (dk_at dksX10_size_1 3 rfl rfl)
theorem dX10_size_28 : decode cX10_size 28 = .ok (.invokestatic 16, 3) := dk_184 0 16 (dk_at dksX10_size_1 5 rfl rfl)
theorem dX10_size_31 : decode cX10_size 31 = .ok (.iadd, 1) := dk_96 (dk_at dksX10_size_1 8 rfl rfl)
theorem dX10_size_32 : decode cX10_size 32 = .ok (.istore_n 1, 1) := dk_60 (dk_at dksX10_size_1 9 rfl rfl)
theorem dX10_size_33 : decode cX10_size 33 = .ok (.iinc 4 1, 3) := dk_132 4 1 (dk_at dksX10_size_1 10 rfl rfl)
theorem dX10_size_36 : decode cX10_size 36 = .ok (.goto (-23), 3) := dk_167 255 233 (dk_at dksX10_size_1 13 rfl rfl)
theorem dX10_size_39 : decode cX10_size 39 = .ok (.iload_n 1, 1) := dk_27 (dk_at dksX10_size_1 16 rfl rfl)
theorem dX10_size_40 : decode cX10_size 40 = .ok (.ireturn, 1) := dk_172 (dk_at dksX10_size_1 17 rfl rfl)
abbrev cX10_isSure : ByteArray := prog_2_method_6_code
def yX10_isSure : MethodName := ⟨RX10, "isSure", "()Z"⟩
def dkwX10_isSure_0 : List UInt8 := [42, 182, 0, 20, 4, 160, 0, 7, 4, 167, 0, 4, 3, 172]
abbrev dktX10_isSure_0 : List UInt8 := dkwX10_isSure_0 ++ []
theorem dksX10_isSure_0 : cX10_isSure.data.toList.drop 0 = dktX10_isSure_0 := by decide +kernel
theorem dX10_isSure_0 : decode cX10_isSure 0 = .ok (.aload_n 0, 1) := dk_42 (dk_at dksX10_isSure_0 0 rfl rfl)
theorem dX10_isSure_1 : decode cX10_isSure 1 = .ok (.invokevirtual 20, 3) := dk_182 0 20 (dk_at dksX10_isSure_0 1 rfl rfl)
theorem dX10_isSure_4 : decode cX10_isSure 4 = .ok (.iconst 1, 1) := dk_4 (dk_at dksX10_isSure_0 4 rfl rfl)
theorem dX10_isSure_5 : decode cX10_isSure 5 = .ok (.if_icmp .ne 7, 3) := dk_160 0 7 (dk_at dksX10_isSure_0 5 rfl rfl)
theorem dX10_isSure_8 : decode cX10_isSure 8 = .ok (.iconst 1, 1) := dk_4 (dk_at dksX10_isSure_0 8 rfl rfl)
theorem dX10_isSure_9 : decode cX10_isSure 9 = .ok (.goto 4, 3) := dk_167 0 4 (dk_at dksX10_isSure_0 9 rfl rfl)
theorem dX10_isSure_12 : decode cX10_isSure 12 = .ok (.iconst 0, 1) := dk_3 (dk_at dksX10_isSure_0 12 rfl rfl)
theorem dX10_isSure_13 : decode cX10_isSure 13 = .ok (.ireturn, 1) := dk_172 (dk_at dksX10_isSure_0 13 rfl rfl)
abbrev cX10_cells : ByteArray := prog_2_method_12_code
def yX10_cells : MethodName := ⟨RX10, "cells", "(I)J"⟩
def dkwX10_cells_1 : List UInt8 := [153, 0, 10, 32, 10, 21, 4, 121, 129, 65, 132, 4, 1, 167, 255, 225, 32, 173]
abbrev dktX10_cells_1 : List UInt8 := dkwX10_cells_1 ++ []
def dkwX10_cells_0 : List UInt8 := [9, 65, 3, 54, 4, 21, 4, 16, 36, 162, 0, 30, 42, 180, 0, 9, 21, 4, 7, 104, 27, 96, 51]
abbrev dktX10_cells_0 : List UInt8 := dkwX10_cells_0 ++ dktX10_cells_1
theorem dksX10_cells_0 : cX10_cells.data.toList.drop 0 = dktX10_cells_0 := by decide +kernel
theorem dksX10_cells_1 : cX10_cells.data.toList.drop 23 = dktX10_cells_1 := dk_seg dksX10_cells_0 23 rfl rfl
theorem dX10_cells_0 : decode cX10_cells 0 = .ok (.lconst 0, 1) := dk_9 (dk_at dksX10_cells_0 0 rfl rfl)
theorem dX10_cells_1 : decode cX10_cells 1 = .ok (.lstore_n 2, 1) := dk_65 (dk_at dksX10_cells_0 1 rfl rfl)
theorem dX10_cells_2 : decode cX10_cells 2 = .ok (.iconst 0, 1) := dk_3 (dk_at dksX10_cells_0 2 rfl rfl)
theorem dX10_cells_3 : decode cX10_cells 3 = .ok (.istore 4, 2) := dk_54 4 (dk_at dksX10_cells_0 3 rfl rfl)
theorem dX10_cells_5 : decode cX10_cells 5 = .ok (.iload 4, 2) := dk_21 4 (dk_at dksX10_cells_0 5 rfl rfl)
theorem dX10_cells_7 : decode cX10_cells 7 = .ok (.bipush 36, 2) := dk_16 36 (dk_at dksX10_cells_0 7 rfl rfl)
theorem dX10_cells_9 : decode cX10_cells 9 = .ok (.if_icmp .ge 30, 3) := dk_162 0 30 (dk_at dksX10_cells_0 9 rfl rfl)
theorem dX10_cells_12 : decode cX10_cells 12 = .ok (.aload_n 0, 1) := dk_42 (dk_at dksX10_cells_0 12 rfl rfl)
theorem dX10_cells_13 : decode cX10_cells 13 = .ok (.getfield 9, 3) := dk_180 0 9 (dk_at dksX10_cells_0 13 rfl rfl)
theorem dX10_cells_16 : decode cX10_cells 16 = .ok (.iload 4, 2) := dk_21 4 (dk_at dksX10_cells_0 16 rfl rfl)
theorem dX10_cells_18 : decode cX10_cells 18 = .ok (.iconst 4, 1) := dk_7 (dk_at dksX10_cells_0 18 rfl rfl)
theorem dX10_cells_19 : decode cX10_cells 19 = .ok (.imul, 1) := dk_104 (dk_at dksX10_cells_0 19 rfl rfl)
theorem dX10_cells_20 : decode cX10_cells 20 = .ok (.iload_n 1, 1) := dk_27 (dk_at dksX10_cells_0 20 rfl rfl)
theorem dX10_cells_21 : decode cX10_cells 21 = .ok (.iadd, 1) := dk_96 (dk_at dksX10_cells_0 21 rfl rfl)
theorem dX10_cells_22 : decode cX10_cells 22 = .ok (.baload, 1) := dk_51 (dk_at dksX10_cells_0 22 rfl rfl)
theorem dX10_cells_23 : decode cX10_cells 23 = .ok (.ifCond .eq 10, 3) := dk_153 0 10 (dk_at dksX10_cells_1 0 rfl rfl)
theorem dX10_cells_26 : decode cX10_cells 26 = .ok (.lload_n 2, 1) := dk_32 (dk_at dksX10_cells_1 3 rfl rfl)
theorem dX10_cells_27 : decode cX10_cells 27 = .ok (.lconst 1, 1) := dk_10 (dk_at dksX10_cells_1 4 rfl rfl)
theorem dX10_cells_28 : decode cX10_cells 28 = .ok (.iload 4, 2) := dk_21 4 (dk_at dksX10_cells_1 5 rfl rfl)
theorem dX10_cells_30 : decode cX10_cells 30 = .ok (.lshl, 1) := dk_121 (dk_at dksX10_cells_1 7 rfl rfl)
theorem dX10_cells_31 : decode cX10_cells 31 = .ok (.lor, 1) := dk_129 (dk_at dksX10_cells_1 8 rfl rfl)
theorem dX10_cells_32 : decode cX10_cells 32 = .ok (.lstore_n 2, 1) := dk_65 (dk_at dksX10_cells_1 9 rfl rfl)
theorem dX10_cells_33 : decode cX10_cells 33 = .ok (.iinc 4 1, 3) := dk_132 4 1 (dk_at dksX10_cells_1 10 rfl rfl)
theorem dX10_cells_36 : decode cX10_cells 36 = .ok (.goto (-31), 3) := dk_167 255 225 (dk_at dksX10_cells_1 13 rfl rfl)
theorem dX10_cells_39 : decode cX10_cells 39 = .ok (.lload_n 2, 1) := dk_32 (dk_at dksX10_cells_1 16 rfl rfl)
theorem dX10_cells_40 : decode cX10_cells 40 = .ok (.lreturn, 1) := dk_173 (dk_at dksX10_cells_1 17 rfl rfl)
abbrev cX10_first : ByteArray := prog_2_method_7_code
def yX10_first : MethodName := ⟨RX10, "first", "()I"⟩
def dkwX10_first_1 : List UInt8 := [27, 172]
abbrev dktX10_first_1 : List UInt8 := dkwX10_first_1 ++ []
def dkwX10_first_0 : List UInt8 := [3, 60, 27, 17, 0, 143, 162, 0, 18, 42, 180, 0, 9, 27, 51, 154, 0, 9, 132, 1, 1, 167, 255, 237]
abbrev dktX10_first_0 : List UInt8 := dkwX10_first_0 ++ dktX10_first_1
theorem dksX10_first_0 : cX10_first.data.toList.drop 0 = dktX10_first_0 := by decide +kernel
theorem dksX10_first_1 : cX10_first.data.toList.drop 24 = dktX10_first_1 := dk_seg dksX10_first_0 24 rfl rfl
theorem dX10_first_0 : decode cX10_first 0 = .ok (.iconst 0, 1) := dk_3 (dk_at dksX10_first_0 0 rfl rfl)
theorem dX10_first_1 : decode cX10_first 1 = .ok (.istore_n 1, 1) := dk_60 (dk_at dksX10_first_0 1 rfl rfl)
theorem dX10_first_2 : decode cX10_first 2 = .ok (.iload_n 1, 1) := dk_27 (dk_at dksX10_first_0 2 rfl rfl)
theorem dX10_first_3 : decode cX10_first 3 = .ok (.sipush 143, 3) := dk_17 0 143 (dk_at dksX10_first_0 3 rfl rfl)
theorem dX10_first_6 : decode cX10_first 6 = .ok (.if_icmp .ge 18, 3) := dk_162 0 18 (dk_at dksX10_first_0 6 rfl rfl)
theorem dX10_first_9 : decode cX10_first 9 = .ok (.aload_n 0, 1) := dk_42 (dk_at dksX10_first_0 9 rfl rfl)
theorem dX10_first_10 : decode cX10_first 10 = .ok (.getfield 9, 3) := dk_180 0 9 (dk_at dksX10_first_0 10 rfl rfl)
theorem dX10_first_13 : decode cX10_first 13 = .ok (.iload_n 1, 1) := dk_27 (dk_at dksX10_first_0 13 rfl rfl)
theorem dX10_first_14 : decode cX10_first 14 = .ok (.baload, 1) := dk_51 (dk_at dksX10_first_0 14 rfl rfl)
theorem dX10_first_15 : decode cX10_first 15 = .ok (.ifCond .ne 9, 3) := dk_154 0 9 (dk_at dksX10_first_0 15 rfl rfl)
theorem dX10_first_18 : decode cX10_first 18 = .ok (.iinc 1 1, 3) := dk_132 1 1 (dk_at dksX10_first_0 18 rfl rfl)
theorem dX10_first_21 : decode cX10_first 21 = .ok (.goto (-19), 3) := dk_167 255 237 (dk_at dksX10_first_0 21 rfl rfl)
theorem dX10_first_24 : decode cX10_first 24 = .ok (.iload_n 1, 1) := dk_27 (dk_at dksX10_first_1 0 rfl rfl)
theorem dX10_first_25 : decode cX10_first 25 = .ok (.ireturn, 1) := dk_172 (dk_at dksX10_first_1 1 rfl rfl)
abbrev cX10_forward : ByteArray := prog_2_method_8_code
def yX10_forward : MethodName := ⟨RX10, "forward", "(LBumpward$Plan;Z)LBumpward$Belief;"⟩
def dkwX10_forward_3 : List UInt8 := [21, 4, 7, 112, 184, 0, 30, 7, 104, 21, 4, 7, 112, 96, 4, 84, 132, 4, 1, 167, 255, 180, 45, 176]
abbrev dktX10_forward_3 : List UInt8 := dkwX10_forward_3 ++ []
def dkwX10_forward_2 : List UInt8 := [167, 0, 39, 45, 180, 0, 9, 21, 4, 4, 84, 28, 154, 0, 27, 45, 180, 0, 9, 21, 4, 7, 108]
abbrev dktX10_forward_2 : List UInt8 := dkwX10_forward_2 ++ dktX10_forward_3
def dkwX10_forward_1 : List UInt8 := [21, 4, 51, 153, 0, 58, 43, 21, 4, 7, 108, 21, 4, 7, 112, 28, 182, 0, 24, 154, 0, 6]
abbrev dktX10_forward_1 : List UInt8 := dkwX10_forward_1 ++ dktX10_forward_2
def dkwX10_forward_0 : List UInt8 := [187, 0, 10, 89, 183, 0, 15, 78, 3, 54, 4, 21, 4, 17, 0, 144, 162, 0, 74, 42, 180, 0, 9]
abbrev dktX10_forward_0 : List UInt8 := dkwX10_forward_0 ++ dktX10_forward_1
theorem dksX10_forward_0 : cX10_forward.data.toList.drop 0 = dktX10_forward_0 := by decide +kernel
theorem dksX10_forward_1 : cX10_forward.data.toList.drop 23 = dktX10_forward_1 := dk_seg dksX10_forward_0 23 rfl rfl
theorem dksX10_forward_2 : cX10_forward.data.toList.drop 45 = dktX10_forward_2 := dk_seg dksX10_forward_1 22 rfl rfl
theorem dksX10_forward_3 : cX10_forward.data.toList.drop 68 = dktX10_forward_3 := dk_seg dksX10_forward_2 23 rfl rfl
theorem dX10_forward_0 : decode cX10_forward 0 = .ok (.new 10, 3) := dk_187 0 10 (dk_at dksX10_forward_0 0 rfl rfl)
theorem dX10_forward_3 : decode cX10_forward 3 = .ok (.dup, 1) := dk_89 (dk_at dksX10_forward_0 3 rfl rfl)
theorem dX10_forward_4 : decode cX10_forward 4 = .ok (.invokespecial 15, 3) := dk_183 0 15 (dk_at dksX10_forward_0 4 rfl rfl)
theorem dX10_forward_7 : decode cX10_forward 7 = .ok (.astore_n 3, 1) := dk_78 (dk_at dksX10_forward_0 7 rfl rfl)
theorem dX10_forward_8 : decode cX10_forward 8 = .ok (.iconst 0, 1) := dk_3 (dk_at dksX10_forward_0 8 rfl rfl)
theorem dX10_forward_9 : decode cX10_forward 9 = .ok (.istore 4, 2) := dk_54 4 (dk_at dksX10_forward_0 9 rfl rfl)
theorem dX10_forward_11 : decode cX10_forward 11 = .ok (.iload 4, 2) := dk_21 4 (dk_at dksX10_forward_0 11 rfl rfl)
theorem dX10_forward_13 : decode cX10_forward 13 = .ok (.sipush 144, 3) := dk_17 0 144 (dk_at dksX10_forward_0 13 rfl rfl)
theorem dX10_forward_16 : decode cX10_forward 16 = .ok (.if_icmp .ge 74, 3) := dk_162 0 74 (dk_at dksX10_forward_0 16 rfl rfl)
theorem dX10_forward_19 : decode cX10_forward 19 = .ok (.aload_n 0, 1) := dk_42 (dk_at dksX10_forward_0 19 rfl rfl)
theorem dX10_forward_20 : decode cX10_forward 20 = .ok (.getfield 9, 3) := dk_180 0 9 (dk_at dksX10_forward_0 20 rfl rfl)
theorem dX10_forward_23 : decode cX10_forward 23 = .ok (.iload 4, 2) := dk_21 4 (dk_at dksX10_forward_1 0 rfl rfl)
theorem dX10_forward_25 : decode cX10_forward 25 = .ok (.baload, 1) := dk_51 (dk_at dksX10_forward_1 2 rfl rfl)
theorem dX10_forward_26 : decode cX10_forward 26 = .ok (.ifCond .eq 58, 3) := dk_153 0 58 (dk_at dksX10_forward_1 3 rfl rfl)
theorem dX10_forward_29 : decode cX10_forward 29 = .ok (.aload_n 1, 1) := dk_43 (dk_at dksX10_forward_1 6 rfl rfl)
theorem dX10_forward_30 : decode cX10_forward 30 = .ok (.iload 4, 2) := dk_21 4 (dk_at dksX10_forward_1 7 rfl rfl)
theorem dX10_forward_32 : decode cX10_forward 32 = .ok (.iconst 4, 1) := dk_7 (dk_at dksX10_forward_1 9 rfl rfl)
theorem dX10_forward_33 : decode cX10_forward 33 = .ok (.idiv, 1) := dk_108 (dk_at dksX10_forward_1 10 rfl rfl)
theorem dX10_forward_34 : decode cX10_forward 34 = .ok (.iload 4, 2) := dk_21 4 (dk_at dksX10_forward_1 11 rfl rfl)
theorem dX10_forward_36 : decode cX10_forward 36 = .ok (.iconst 4, 1) := dk_7 (dk_at dksX10_forward_1 13 rfl rfl)
theorem dX10_forward_37 : decode cX10_forward 37 = .ok (.irem, 1) := dk_112 (dk_at dksX10_forward_1 14 rfl rfl)
theorem dX10_forward_38 : decode cX10_forward 38 = .ok (.iload_n 2, 1) := dk_28 (dk_at dksX10_forward_1 15 rfl rfl)
theorem dX10_forward_39 : decode cX10_forward 39 = .ok (.invokevirtual 24, 3) := dk_182 0 24 (dk_at dksX10_forward_1 16 rfl rfl)
theorem dX10_forward_42 : decode cX10_forward 42 = .ok (.ifCond .ne 6, 3) := dk_154 0 6 (dk_at dksX10_forward_1 19 rfl rfl)
theorem dX10_forward_45 : decode cX10_forward 45 = .ok (.goto 39, 3) := dk_167 0 39 (dk_at dksX10_forward_2 0 rfl rfl)
theorem dX10_forward_48 : decode cX10_forward 48 = .ok (.aload_n 3, 1) := dk_45 (dk_at dksX10_forward_2 3 rfl rfl)
theorem dX10_forward_49 : decode cX10_forward 49 = .ok (.getfield 9, 3) := dk_180 0 9 (dk_at dksX10_forward_2 4 rfl rfl)
theorem dX10_forward_52 : decode cX10_forward 52 = .ok (.iload 4, 2) := dk_21 4 (dk_at dksX10_forward_2 7 rfl rfl)
theorem dX10_forward_54 : decode cX10_forward 54 = .ok (.iconst 1, 1) := dk_4 (dk_at dksX10_forward_2 9 rfl rfl)
theorem dX10_forward_55 : decode cX10_forward 55 = .ok (.bastore, 1) := dk_84 (dk_at dksX10_forward_2 10 rfl rfl)
theorem dX10_forward_56 : decode cX10_forward 56 = .ok (.iload_n 2, 1) := dk_28 (dk_at dksX10_forward_2 11 rfl rfl)
theorem dX10_forward_57 : decode cX10_forward 57 = .ok (.ifCond .ne 27, 3) := dk_154 0 27 (dk_at dksX10_forward_2 12 rfl rfl)
theorem dX10_forward_60 : decode cX10_forward 60 = .ok (.aload_n 3, 1) := dk_45 (dk_at dksX10_forward_2 15 rfl rfl)
theorem dX10_forward_61 : decode cX10_forward 61 = .ok (.getfield 9, 3) := dk_180 0 9 (dk_at dksX10_forward_2 16 rfl rfl)
theorem dX10_forward_64 : decode cX10_forward 64 = .ok (.iload 4, 2) := dk_21 4 (dk_at dksX10_forward_2 19 rfl rfl)
theorem dX10_forward_66 : decode cX10_forward 66 = .ok (.iconst 4, 1) := dk_7 (dk_at dksX10_forward_2 21 rfl rfl)
theorem dX10_forward_67 : decode cX10_forward 67 = .ok (.idiv, 1) := dk_108 (dk_at dksX10_forward_2 22 rfl rfl)
theorem dX10_forward_68 : decode cX10_forward 68 = .ok (.iload 4, 2) := dk_21 4 (dk_at dksX10_forward_3 0 rfl rfl)
theorem dX10_forward_70 : decode cX10_forward 70 = .ok (.iconst 4, 1) := dk_7 (dk_at dksX10_forward_3 2 rfl rfl)
theorem dX10_forward_71 : decode cX10_forward 71 = .ok (.irem, 1) := dk_112 (dk_at dksX10_forward_3 3 rfl rfl)
theorem dX10_forward_72 : decode cX10_forward 72 = .ok (.invokestatic 30, 3) := dk_184 0 30 (dk_at dksX10_forward_3 4 rfl rfl)
theorem dX10_forward_75 : decode cX10_forward 75 = .ok (.iconst 4, 1) := dk_7 (dk_at dksX10_forward_3 7 rfl rfl)
theorem dX10_forward_76 : decode cX10_forward 76 = .ok (.imul, 1) := dk_104 (dk_at dksX10_forward_3 8 rfl rfl)
theorem dX10_forward_77 : decode cX10_forward 77 = .ok (.iload 4, 2) := dk_21 4 (dk_at dksX10_forward_3 9 rfl rfl)
theorem dX10_forward_79 : decode cX10_forward 79 = .ok (.iconst 4, 1) := dk_7 (dk_at dksX10_forward_3 11 rfl rfl)
theorem dX10_forward_80 : decode cX10_forward 80 = .ok (.irem, 1) := dk_112 (dk_at dksX10_forward_3 12 rfl rfl)
theorem dX10_forward_81 : decode cX10_forward 81 = .ok (.iadd, 1) := dk_96 (dk_at dksX10_forward_3 13 rfl rfl)
theorem dX10_forward_82 : decode cX10_forward 82 = .ok (.iconst 1, 1) := dk_4 (dk_at dksX10_forward_3 14 rfl rfl)
theorem dX10_forward_83 : decode cX10_forward 83 = .ok (.bastore, 1) := dk_84 (dk_at dksX10_forward_3 15 rfl rfl)
theorem dX10_forward_84 : decode cX10_forward 84 = .ok (.iinc 4 1, 3) := dk_132 4 1 (dk_at dksX10_forward_3 16 rfl rfl)
theorem dX10_forward_87 : decode cX10_forward 87 = .ok (.goto (-76), 3) := dk_167 255 180 (dk_at dksX10_forward_3 19 rfl rfl)
theorem dX10_forward_90 : decode cX10_forward 90 = .ok (.aload_n 3, 1) := dk_45 (dk_at dksX10_forward_3 22 rfl rfl)
theorem dX10_forward_91 : decode cX10_forward 91 = .ok (.areturn, 1) := dk_176 (dk_at dksX10_forward_3 23 rfl rfl)
abbrev cX10_init : ByteArray := prog_2_method_1_code
def yX10_init : MethodName := ⟨RX10, "<init>", "()V"⟩
def dkwX10_init_0 : List UInt8 := [42, 183, 0, 3, 42, 17, 0, 144, 188, 4, 181, 0, 9, 177]
abbrev dktX10_init_0 : List UInt8 := dkwX10_init_0 ++ []
theorem dksX10_init_0 : cX10_init.data.toList.drop 0 = dktX10_init_0 := by decide +kernel
theorem dX10_init_0 : decode cX10_init 0 = .ok (.aload_n 0, 1) := dk_42 (dk_at dksX10_init_0 0 rfl rfl)
theorem dX10_init_1 : decode cX10_init 1 = .ok (.invokespecial 3, 3) := dk_183 0 3 (dk_at dksX10_init_0 1 rfl rfl)
theorem dX10_init_4 : decode cX10_init 4 = .ok (.aload_n 0, 1) := dk_42 (dk_at dksX10_init_0 4 rfl rfl)
theorem dX10_init_5 : decode cX10_init 5 = .ok (.sipush 144, 3) := dk_17 0 144 (dk_at dksX10_init_0 5 rfl rfl)
theorem dX10_init_8 : decode cX10_init 8 = .ok (.newarray .boolean, 2) := dk_188_4 (dk_at dksX10_init_0 8 rfl rfl)
theorem dX10_init_10 : decode cX10_init 10 = .ok (.putfield 9, 3) := dk_181 0 9 (dk_at dksX10_init_0 10 rfl rfl)
theorem dX10_init_13 : decode cX10_init 13 = .ok (.return_, 1) := dk_177 (dk_at dksX10_init_0 13 rfl rfl)
abbrev cX10_felt : ByteArray := prog_2_method_10_code
def yX10_felt : MethodName := ⟨RX10, "felt", "(LBumpward$Plan;I)LBumpward$Belief;"⟩
def dkwX10_felt_2 : List UInt8 := [167, 0, 4, 3, 84, 132, 4, 1, 167, 255, 213, 45, 176]
abbrev dktX10_felt_2 : List UInt8 := dkwX10_felt_2 ++ []
def dkwX10_felt_1 : List UInt8 := [21, 4, 42, 180, 0, 9, 21, 4, 51, 153, 0, 17, 43, 21, 4, 28, 184, 0, 38, 153, 0, 7, 4]
abbrev dktX10_felt_1 : List UInt8 := dkwX10_felt_1 ++ dktX10_felt_2
def dkwX10_felt_0 : List UInt8 := [187, 0, 10, 89, 183, 0, 15, 78, 3, 54, 4, 21, 4, 17, 0, 144, 162, 0, 41, 45, 180, 0, 9]
abbrev dktX10_felt_0 : List UInt8 := dkwX10_felt_0 ++ dktX10_felt_1
theorem dksX10_felt_0 : cX10_felt.data.toList.drop 0 = dktX10_felt_0 := by decide +kernel
theorem dksX10_felt_1 : cX10_felt.data.toList.drop 23 = dktX10_felt_1 := dk_seg dksX10_felt_0 23 rfl rfl
theorem dksX10_felt_2 : cX10_felt.data.toList.drop 46 = dktX10_felt_2 := dk_seg dksX10_felt_1 23 rfl rfl
theorem dX10_felt_0 : decode cX10_felt 0 = .ok (.new 10, 3) := dk_187 0 10 (dk_at dksX10_felt_0 0 rfl rfl)
theorem dX10_felt_3 : decode cX10_felt 3 = .ok (.dup, 1) := dk_89 (dk_at dksX10_felt_0 3 rfl rfl)
theorem dX10_felt_4 : decode cX10_felt 4 = .ok (.invokespecial 15, 3) := dk_183 0 15 (dk_at dksX10_felt_0 4 rfl rfl)
theorem dX10_felt_7 : decode cX10_felt 7 = .ok (.astore_n 3, 1) := dk_78 (dk_at dksX10_felt_0 7 rfl rfl)
theorem dX10_felt_8 : decode cX10_felt 8 = .ok (.iconst 0, 1) := dk_3 (dk_at dksX10_felt_0 8 rfl rfl)
theorem dX10_felt_9 : decode cX10_felt 9 = .ok (.istore 4, 2) := dk_54 4 (dk_at dksX10_felt_0 9 rfl rfl)
theorem dX10_felt_11 : decode cX10_felt 11 = .ok (.iload 4, 2) := dk_21 4 (dk_at dksX10_felt_0 11 rfl rfl)
theorem dX10_felt_13 : decode cX10_felt 13 = .ok (.sipush 144, 3) := dk_17 0 144 (dk_at dksX10_felt_0 13 rfl rfl)
theorem dX10_felt_16 : decode cX10_felt 16 = .ok (.if_icmp .ge 41, 3) := dk_162 0 41 (dk_at dksX10_felt_0 16 rfl rfl)
theorem dX10_felt_19 : decode cX10_felt 19 = .ok (.aload_n 3, 1) := dk_45 (dk_at dksX10_felt_0 19 rfl rfl)
theorem dX10_felt_20 : decode cX10_felt 20 = .ok (.getfield 9, 3) := dk_180 0 9 (dk_at dksX10_felt_0 20 rfl rfl)
theorem dX10_felt_23 : decode cX10_felt 23 = .ok (.iload 4, 2) := dk_21 4 (dk_at dksX10_felt_1 0 rfl rfl)
theorem dX10_felt_25 : decode cX10_felt 25 = .ok (.aload_n 0, 1) := dk_42 (dk_at dksX10_felt_1 2 rfl rfl)
theorem dX10_felt_26 : decode cX10_felt 26 = .ok (.getfield 9, 3) := dk_180 0 9 (dk_at dksX10_felt_1 3 rfl rfl)
theorem dX10_felt_29 : decode cX10_felt 29 = .ok (.iload 4, 2) := dk_21 4 (dk_at dksX10_felt_1 6 rfl rfl)
theorem dX10_felt_31 : decode cX10_felt 31 = .ok (.baload, 1) := dk_51 (dk_at dksX10_felt_1 8 rfl rfl)
theorem dX10_felt_32 : decode cX10_felt 32 = .ok (.ifCond .eq 17, 3) := dk_153 0 17 (dk_at dksX10_felt_1 9 rfl rfl)
theorem dX10_felt_35 : decode cX10_felt 35 = .ok (.aload_n 1, 1) := dk_43 (dk_at dksX10_felt_1 12 rfl rfl)
theorem dX10_felt_36 : decode cX10_felt 36 = .ok (.iload 4, 2) := dk_21 4 (dk_at dksX10_felt_1 13 rfl rfl)
theorem dX10_felt_38 : decode cX10_felt 38 = .ok (.iload_n 2, 1) := dk_28 (dk_at dksX10_felt_1 15 rfl rfl)
theorem dX10_felt_39 : decode cX10_felt 39 = .ok (.invokestatic 38, 3) := dk_184 0 38 (dk_at dksX10_felt_1 16 rfl rfl)
theorem dX10_felt_42 : decode cX10_felt 42 = .ok (.ifCond .eq 7, 3) := dk_153 0 7 (dk_at dksX10_felt_1 19 rfl rfl)
theorem dX10_felt_45 : decode cX10_felt 45 = .ok (.iconst 1, 1) := dk_4 (dk_at dksX10_felt_1 22 rfl rfl)
theorem dX10_felt_46 : decode cX10_felt 46 = .ok (.goto 4, 3) := dk_167 0 4 (dk_at dksX10_felt_2 0 rfl rfl)
theorem dX10_felt_49 : decode cX10_felt 49 = .ok (.iconst 0, 1) := dk_3 (dk_at dksX10_felt_2 3 rfl rfl)
theorem dX10_felt_50 : decode cX10_felt 50 = .ok (.bastore, 1) := dk_84 (dk_at dksX10_felt_2 4 rfl rfl)
theorem dX10_felt_51 : decode cX10_felt 51 = .ok (.iinc 4 1, 3) := dk_132 4 1 (dk_at dksX10_felt_2 5 rfl rfl)
theorem dX10_felt_54 : decode cX10_felt 54 = .ok (.goto (-43), 3) := dk_167 255 213 (dk_at dksX10_felt_2 8 rfl rfl)
theorem dX10_felt_57 : decode cX10_felt 57 = .ok (.aload_n 3, 1) := dk_45 (dk_at dksX10_felt_2 11 rfl rfl)
theorem dX10_felt_58 : decode cX10_felt 58 = .ok (.areturn, 1) := dk_176 (dk_at dksX10_felt_2 12 rfl rfl)
abbrev cX10_canFeel : ByteArray := prog_2_method_11_code
def yX10_canFeel : MethodName := ⟨RX10, "canFeel", "(LBumpward$Plan;II)Z"⟩
def dkwX10_canFeel_1 : List UInt8 := [160, 0, 7, 4, 167, 0, 4, 3, 182, 0, 24, 154, 0, 5, 3, 172, 132, 3, 1, 167, 255, 215, 4, 172]
abbrev dktX10_canFeel_1 : List UInt8 := dkwX10_canFeel_1 ++ []
def dkwX10_canFeel_0 : List UInt8 := [3, 62, 29, 6, 162, 0, 42, 42, 27, 7, 108, 27, 29, 96, 6, 96, 7, 112, 28, 29, 122, 4, 126, 4]
abbrev dktX10_canFeel_0 : List UInt8 := dkwX10_canFeel_0 ++ dktX10_canFeel_1
theorem dksX10_canFeel_0 : cX10_canFeel.data.toList.drop 0 = dktX10_canFeel_0 := by decide +kernel
theorem dksX10_canFeel_1 : cX10_canFeel.data.toList.drop 24 = dktX10_canFeel_1 := dk_seg dksX10_canFeel_0 24 rfl rfl
theorem dX10_canFeel_0 : decode cX10_canFeel 0 = .ok (.iconst 0, 1) := dk_3 (dk_at dksX10_canFeel_0 0 rfl rfl)
theorem dX10_canFeel_1 : decode cX10_canFeel 1 = .ok (.istore_n 3, 1) := dk_62 (dk_at dksX10_canFeel_0 1 rfl rfl)
theorem dX10_canFeel_2 : decode cX10_canFeel 2 = .ok (.iload_n 3, 1) := dk_29 (dk_at dksX10_canFeel_0 2 rfl rfl)
theorem dX10_canFeel_3 : decode cX10_canFeel 3 = .ok (.iconst 3, 1) := dk_6 (dk_at dksX10_canFeel_0 3 rfl rfl)
theorem dX10_canFeel_4 : decode cX10_canFeel 4 = .ok (.if_icmp .ge 42, 3) := dk_162 0 42 (dk_at dksX10_canFeel_0 4 rfl rfl)
theorem dX10_canFeel_7 : decode cX10_canFeel 7 = .ok (.aload_n 0, 1) := dk_42 (dk_at dksX10_canFeel_0 7 rfl rfl)
theorem dX10_canFeel_8 : decode cX10_canFeel 8 = .ok (.iload_n 1, 1) := dk_27 (dk_at dksX10_canFeel_0 8 rfl rfl)
theorem dX10_canFeel_9 : decode cX10_canFeel 9 = .ok (.iconst 4, 1) := dk_7 (dk_at dksX10_canFeel_0 9 rfl rfl)
theorem dX10_canFeel_10 : decode cX10_canFeel 10 = .ok (.idiv, 1) := dk_108 (dk_at dksX10_canFeel_0 10 rfl rfl)
theorem dX10_canFeel_11 : decode cX10_canFeel 11 = .ok (.iload_n 1, 1) := dk_27 (dk_at dksX10_canFeel_0 11 rfl rfl)
theorem dX10_canFeel_12 : decode cX10_canFeel 12 = .ok (.iload_n 3, 1) := dk_29 (dk_at dksX10_canFeel_0 12 rfl rfl)
theorem dX10_canFeel_13 : decode cX10_canFeel 13 = .ok (.iadd, 1) := dk_96 (dk_at dksX10_canFeel_0 13 rfl rfl)
theorem dX10_canFeel_14 : decode cX10_canFeel 14 = .ok (.iconst 3, 1) := dk_6 (dk_at dksX10_canFeel_0 14 rfl rfl)
theorem dX10_canFeel_15 : decode cX10_canFeel 15 = .ok (.iadd, 1) := dk_96 (dk_at dksX10_canFeel_0 15 rfl rfl)
theorem dX10_canFeel_16 : decode cX10_canFeel 16 = .ok (.iconst 4, 1) := dk_7 (dk_at dksX10_canFeel_0 16 rfl rfl)
theorem dX10_canFeel_17 : decode cX10_canFeel 17 = .ok (.irem, 1) := dk_112 (dk_at dksX10_canFeel_0 17 rfl rfl)
theorem dX10_canFeel_18 : decode cX10_canFeel 18 = .ok (.iload_n 2, 1) := dk_28 (dk_at dksX10_canFeel_0 18 rfl rfl)
theorem dX10_canFeel_19 : decode cX10_canFeel 19 = .ok (.iload_n 3, 1) := dk_29 (dk_at dksX10_canFeel_0 19 rfl rfl)
theorem dX10_canFeel_20 : decode cX10_canFeel 20 = .ok (.ishr, 1) := dk_122 (dk_at dksX10_canFeel_0 20 rfl rfl)
theorem dX10_canFeel_21 : decode cX10_canFeel 21 = .ok (.iconst 1, 1) := dk_4 (dk_at dksX10_canFeel_0 21 rfl rfl)
theorem dX10_canFeel_22 : decode cX10_canFeel 22 = .ok (.iand, 1) := dk_126 (dk_at dksX10_canFeel_0 22 rfl rfl)
theorem dX10_canFeel_23 : decode cX10_canFeel 23 = .ok (.iconst 1, 1) := dk_4 (dk_at dksX10_canFeel_0 23 rfl rfl)
theorem dX10_canFeel_24 : decode cX10_canFeel 24 = .ok (.if_icmp .ne 7, 3) := dk_160 0 7 (dk_at dksX10_canFeel_1 0 rfl rfl)
theorem dX10_canFeel_27 : decode cX10_canFeel 27 = .ok (.iconst 1, 1) := dk_4 (dk_at dksX10_canFeel_1 3 rfl rfl)
theorem dX10_canFeel_28 : decode cX10_canFeel 28 = .ok (.goto 4, 3) := dk_167 0 4 (dk_at dksX10_canFeel_1 4 rfl rfl)
theorem dX10_canFeel_31 : decode cX10_canFeel 31 = .ok (.iconst 0, 1) := dk_3 (dk_at dksX10_canFeel_1 7 rfl rfl)
theorem dX10_canFeel_32 : decode cX10_canFeel 32 = .ok (.invokevirtual 24, 3) := dk_182 0 24 (dk_at dksX10_canFeel_1 8 rfl rfl)
theorem dX10_canFeel_35 : decode cX10_canFeel 35 = .ok (.ifCond .ne 5, 3) := dk_154 0 5 (dk_at dksX10_canFeel_1 11 rfl rfl)
theorem dX10_canFeel_38 : decode cX10_canFeel 38 = .ok (.iconst 0, 1) := dk_3 (dk_at dksX10_canFeel_1 14 rfl rfl)
theorem dX10_canFeel_39 : decode cX10_canFeel 39 = .ok (.ireturn, 1) := dk_172 (dk_at dksX10_canFeel_1 15 rfl rfl)
theorem dX10_canFeel_40 : decode cX10_canFeel 40 = .ok (.iinc 3 1, 3) := dk_132 3 1 (dk_at dksX10_canFeel_1 16 rfl rfl)
theorem dX10_canFeel_43 : decode cX10_canFeel 43 = .ok (.goto (-41), 3) := dk_167 255 215 (dk_at dksX10_canFeel_1 19 rfl rfl)
theorem dX10_canFeel_46 : decode cX10_canFeel 46 = .ok (.iconst 1, 1) := dk_4 (dk_at dksX10_canFeel_1 22 rfl rfl)
theorem dX10_canFeel_47 : decode cX10_canFeel 47 = .ok (.ireturn, 1) := dk_172 (dk_at dksX10_canFeel_1 23 rfl rfl)
abbrev cX10_of : ByteArray := prog_2_method_3_code
def yX10_of : MethodName := ⟨RX10, "of", "(I)LBumpward$Belief;"⟩
def dkwX10_of_0 : List UInt8 := [187, 0, 10, 89, 183, 0, 15, 76, 43, 180, 0, 9, 26, 4, 84, 43, 176]
abbrev dktX10_of_0 : List UInt8 := dkwX10_of_0 ++ []
theorem dksX10_of_0 : cX10_of.data.toList.drop 0 = dktX10_of_0 := by decide +kernel
theorem dX10_of_0 : decode cX10_of 0 = .ok (.new 10, 3) := dk_187 0 10 (dk_at dksX10_of_0 0 rfl rfl)
theorem dX10_of_3 : decode cX10_of 3 = .ok (.dup, 1) := dk_89 (dk_at dksX10_of_0 3 rfl rfl)
theorem dX10_of_4 : decode cX10_of 4 = .ok (.invokespecial 15, 3) := dk_183 0 15 (dk_at dksX10_of_0 4 rfl rfl)
theorem dX10_of_7 : decode cX10_of 7 = .ok (.astore_n 1, 1) := dk_76 (dk_at dksX10_of_0 7 rfl rfl)
theorem dX10_of_8 : decode cX10_of 8 = .ok (.aload_n 1, 1) := dk_43 (dk_at dksX10_of_0 8 rfl rfl)
theorem dX10_of_9 : decode cX10_of 9 = .ok (.getfield 9, 3) := dk_180 0 9 (dk_at dksX10_of_0 9 rfl rfl)
theorem dX10_of_12 : decode cX10_of 12 = .ok (.iload_n 0, 1) := dk_26 (dk_at dksX10_of_0 12 rfl rfl)
theorem dX10_of_13 : decode cX10_of 13 = .ok (.iconst 1, 1) := dk_4 (dk_at dksX10_of_0 13 rfl rfl)
theorem dX10_of_14 : decode cX10_of 14 = .ok (.bastore, 1) := dk_84 (dk_at dksX10_of_0 14 rfl rfl)
theorem dX10_of_15 : decode cX10_of 15 = .ok (.aload_n 1, 1) := dk_43 (dk_at dksX10_of_0 15 rfl rfl)
theorem dX10_of_16 : decode cX10_of 16 = .ok (.areturn, 1) := dk_176 (dk_at dksX10_of_0 16 rfl rfl)
abbrev cX10_all : ByteArray := prog_2_method_2_code
def yX10_all : MethodName := ⟨RX10, "all", "()LBumpward$Belief;"⟩
def dkwX10_all_1 : List UInt8 := [132, 1, 1, 167, 255, 239, 42, 176]
abbrev dktX10_all_1 : List UInt8 := dkwX10_all_1 ++ []
def dkwX10_all_0 : List UInt8 := [187, 0, 10, 89, 183, 0, 15, 75, 3, 60, 27, 17, 0, 144, 162, 0, 16, 42, 180, 0, 9, 27, 4, 84]
abbrev dktX10_all_0 : List UInt8 := dkwX10_all_0 ++ dktX10_all_1
theorem dksX10_all_0 : cX10_all.data.toList.drop 0 = dktX10_all_0 := by decide +kernel
theorem dksX10_all_1 : cX10_all.data.toList.drop 24 = dktX10_all_1 := dk_seg dksX10_all_0 24 rfl rfl
theorem dX10_all_0 : decode cX10_all 0 = .ok (.new 10, 3) := dk_187 0 10 (dk_at dksX10_all_0 0 rfl rfl)
theorem dX10_all_3 : decode cX10_all 3 = .ok (.dup, 1) := dk_89 (dk_at dksX10_all_0 3 rfl rfl)
theorem dX10_all_4 : decode cX10_all 4 = .ok (.invokespecial 15, 3) := dk_183 0 15 (dk_at dksX10_all_0 4 rfl rfl)
theorem dX10_all_7 : decode cX10_all 7 = .ok (.astore_n 0, 1) := dk_75 (dk_at dksX10_all_0 7 rfl rfl)
theorem dX10_all_8 : decode cX10_all 8 = .ok (.iconst 0, 1) := dk_3 (dk_at dksX10_all_0 8 rfl rfl)
theorem dX10_all_9 : decode cX10_all 9 = .ok (.istore_n 1, 1) := dk_60 (dk_at dksX10_all_0 9 rfl rfl)
theorem dX10_all_10 : decode cX10_all 10 = .ok (.iload_n 1, 1) := dk_27 (dk_at dksX10_all_0 10 rfl rfl)
theorem dX10_all_11 : decode cX10_all 11 = .ok (.sipush 144, 3) := dk_17 0 144 (dk_at dksX10_all_0 11 rfl rfl)
theorem dX10_all_14 : decode cX10_all 14 = .ok (.if_icmp .ge 16, 3) := dk_162 0 16 (dk_at dksX10_all_0 14 rfl rfl)
theorem dX10_all_17 : decode cX10_all 17 = .ok (.aload_n 0, 1) := dk_42 (dk_at dksX10_all_0 17 rfl rfl)
theorem dX10_all_18 : decode cX10_all 18 = .ok (.getfield 9, 3) := dk_180 0 9 (dk_at dksX10_all_0 18 rfl rfl)
theorem dX10_all_21 : decode cX10_all 21 = .ok (.iload_n 1, 1) := dk_27 (dk_at dksX10_all_0 21 rfl rfl)
theorem dX10_all_22 : decode cX10_all 22 = .ok (.iconst 1, 1) := dk_4 (dk_at dksX10_all_0 22 rfl rfl)
theorem dX10_all_23 : decode cX10_all 23 = .ok (.bastore, 1) := dk_84 (dk_at dksX10_all_0 23 rfl rfl)
theorem dX10_all_24 : decode cX10_all 24 = .ok (.iinc 1 1, 3) := dk_132 1 1 (dk_at dksX10_all_1 0 rfl rfl)
theorem dX10_all_27 : decode cX10_all 27 = .ok (.goto (-17), 3) := dk_167 255 239 (dk_at dksX10_all_1 3 rfl rfl)
theorem dX10_all_30 : decode cX10_all 30 = .ok (.aload_n 0, 1) := dk_42 (dk_at dksX10_all_1 6 rfl rfl)
theorem dX10_all_31 : decode cX10_all 31 = .ok (.areturn, 1) := dk_176 (dk_at dksX10_all_1 7 rfl rfl)
abbrev cX10_turned : ByteArray := prog_2_method_9_code
def yX10_turned : MethodName := ⟨RX10, "turned", "(Z)LBumpward$Belief;"⟩
def dkwX10_turned_1 : List UInt8 := [153, 0, 14, 44, 180, 0, 9, 29, 27, 184, 0, 34, 4, 84, 132, 3, 1, 167, 255, 226, 44, 176]
abbrev dktX10_turned_1 : List UInt8 := dkwX10_turned_1 ++ []
def dkwX10_turned_0 : List UInt8 := [187, 0, 10, 89, 183, 0, 15, 77, 3, 62, 29, 17, 0, 144, 162, 0, 29, 42, 180, 0, 9, 29, 51]
abbrev dktX10_turned_0 : List UInt8 := dkwX10_turned_0 ++ dktX10_turned_1
theorem dksX10_turned_0 : cX10_turned.data.toList.drop 0 = dktX10_turned_0 := by decide +kernel
theorem dksX10_turned_1 : cX10_turned.data.toList.drop 23 = dktX10_turned_1 := dk_seg dksX10_turned_0 23 rfl rfl
theorem dX10_turned_0 : decode cX10_turned 0 = .ok (.new 10, 3) := dk_187 0 10 (dk_at dksX10_turned_0 0 rfl rfl)
theorem dX10_turned_3 : decode cX10_turned 3 = .ok (.dup, 1) := dk_89 (dk_at dksX10_turned_0 3 rfl rfl)
theorem dX10_turned_4 : decode cX10_turned 4 = .ok (.invokespecial 15, 3) := dk_183 0 15 (dk_at dksX10_turned_0 4 rfl rfl)
theorem dX10_turned_7 : decode cX10_turned 7 = .ok (.astore_n 2, 1) := dk_77 (dk_at dksX10_turned_0 7 rfl rfl)
theorem dX10_turned_8 : decode cX10_turned 8 = .ok (.iconst 0, 1) := dk_3 (dk_at dksX10_turned_0 8 rfl rfl)
theorem dX10_turned_9 : decode cX10_turned 9 = .ok (.istore_n 3, 1) := dk_62 (dk_at dksX10_turned_0 9 rfl rfl)
theorem dX10_turned_10 : decode cX10_turned 10 = .ok (.iload_n 3, 1) := dk_29 (dk_at dksX10_turned_0 10 rfl rfl)
theorem dX10_turned_11 : decode cX10_turned 11 = .ok (.sipush 144, 3) := dk_17 0 144 (dk_at dksX10_turned_0 11 rfl rfl)
theorem dX10_turned_14 : decode cX10_turned 14 = .ok (.if_icmp .ge 29, 3) := dk_162 0 29 (dk_at dksX10_turned_0 14 rfl rfl)
theorem dX10_turned_17 : decode cX10_turned 17 = .ok (.aload_n 0, 1) := dk_42 (dk_at dksX10_turned_0 17 rfl rfl)
theorem dX10_turned_18 : decode cX10_turned 18 = .ok (.getfield 9, 3) := dk_180 0 9 (dk_at dksX10_turned_0 18 rfl rfl)
theorem dX10_turned_21 : decode cX10_turned 21 = .ok (.iload_n 3, 1) := dk_29 (dk_at dksX10_turned_0 21 rfl rfl)
theorem dX10_turned_22 : decode cX10_turned 22 = .ok (.baload, 1) := dk_51 (dk_at dksX10_turned_0 22 rfl rfl)
theorem dX10_turned_23 : decode cX10_turned 23 = .ok (.ifCond .eq 14, 3) := dk_153 0 14 (dk_at dksX10_turned_1 0 rfl rfl)
theorem dX10_turned_26 : decode cX10_turned 26 = .ok (.aload_n 2, 1) := dk_44 (dk_at dksX10_turned_1 3 rfl rfl)
theorem dX10_turned_27 : decode cX10_turned 27 = .ok (.getfield 9, 3) := dk_180 0 9 (dk_at dksX10_turned_1 4 rfl rfl)
theorem dX10_turned_30 : decode cX10_turned 30 = .ok (.iload_n 3, 1) := dk_29 (dk_at dksX10_turned_1 7 rfl rfl)
theorem dX10_turned_31 : decode cX10_turned 31 = .ok (.iload_n 1, 1) := dk_27 (dk_at dksX10_turned_1 8 rfl rfl)
theorem dX10_turned_32 : decode cX10_turned 32 = .ok (.invokestatic 34, 3) := dk_184 0 34 (dk_at dksX10_turned_1 9 rfl rfl)
theorem dX10_turned_35 : decode cX10_turned 35 = .ok (.iconst 1, 1) := dk_4 (dk_at dksX10_turned_1 12 rfl rfl)
theorem dX10_turned_36 : decode cX10_turned 36 = .ok (.bastore, 1) := dk_84 (dk_at dksX10_turned_1 13 rfl rfl)
theorem dX10_turned_37 : decode cX10_turned 37 = .ok (.iinc 3 1, 3) := dk_132 3 1 (dk_at dksX10_turned_1 14 rfl rfl)
theorem dX10_turned_40 : decode cX10_turned 40 = .ok (.goto (-30), 3) := dk_167 255 226 (dk_at dksX10_turned_1 17 rfl rfl)
theorem dX10_turned_43 : decode cX10_turned 43 = .ok (.aload_n 2, 1) := dk_44 (dk_at dksX10_turned_1 20 rfl rfl)
theorem dX10_turned_44 : decode cX10_turned 44 = .ok (.areturn, 1) := dk_176 (dk_at dksX10_turned_1 21 rfl rfl)
abbrev cX10_has : ByteArray := prog_2_method_4_code
def yX10_has : MethodName := ⟨RX10, "has", "(I)Z"⟩
def dkwX10_has_0 : List UInt8 := [42, 180, 0, 9, 27, 51, 172]
abbrev dktX10_has_0 : List UInt8 := dkwX10_has_0 ++ []
theorem dksX10_has_0 : cX10_has.data.toList.drop 0 = dktX10_has_0 := by decide +kernel
theorem dX10_has_0 : decode cX10_has 0 = .ok (.aload_n 0, 1) := dk_42 (dk_at dksX10_has_0 0 rfl rfl)
theorem dX10_has_1 : decode cX10_has 1 = .ok (.getfield 9, 3) := dk_180 0 9 (dk_at dksX10_has_0 1 rfl rfl)
theorem dX10_has_4 : decode cX10_has 4 = .ok (.iload_n 1, 1) := dk_27 (dk_at dksX10_has_0 4 rfl rfl)
theorem dX10_has_5 : decode cX10_has 5 = .ok (.baload, 1) := dk_51 (dk_at dksX10_has_0 5 rfl rfl)
theorem dX10_has_6 : decode cX10_has 6 = .ok (.ireturn, 1) := dk_172 (dk_at dksX10_has_0 6 rfl rfl)
theorem q73 : (Jvm.Cond.initialized "Bumpward$Belief") ∈ lw_all := lw_g (lw_at lw_m1 25 rfl) rfl
theorem q300 : (Jvm.Cond.instanceMethod ({ cls := "Bumpward$Belief", name := "size", desc := "()I" } : Jvm.MethodName)) ∈ lw_all := lw_g (lw_at lw_m2 12 rfl) rfl
theorem q301 : (Jvm.Cond.selects "Bumpward$Belief" ({ cls := "Bumpward$Belief", name := "size", desc := "()I" } : Jvm.MethodName) ({ cls := "Bumpward$Belief", name := "size", desc := "()I" } : Jvm.MethodName)) ∈ lw_all := lw_g (lw_at lw_m2 13 rfl) rfl
theorem q302 : (Jvm.Cond.code ({ cls := "Bumpward$Belief", name := "size", desc := "()I" } : Jvm.MethodName) prog_2_method_5_code (6 : Nat) (Option.some Jvm.ClassFile.FieldType.int)) ∈ lw_all := lw_g (lw_at lw_m2 14 rfl) rfl
theorem q303 : (Jvm.Cond.methodLinkNest "Bumpward$Belief" (16 : Nat) ({ cls := "Bumpward", name := "one", desc := "(Z)I" } : Jvm.MethodName) "Bumpward") ∈ lw_tbl := lw_at lw_m2 15 rfl
theorem q419 : (Jvm.Cond.instanceMethod ({ cls := "Bumpward$Belief", name := "isSure", desc := "()Z" } : Jvm.MethodName)) ∈ lw_all := lw_g (lw_at lw_m2 131 rfl) rfl
theorem q420 : (Jvm.Cond.selects "Bumpward$Belief" ({ cls := "Bumpward$Belief", name := "isSure", desc := "()Z" } : Jvm.MethodName) ({ cls := "Bumpward$Belief", name := "isSure", desc := "()Z" } : Jvm.MethodName)) ∈ lw_all := lw_g (lw_at lw_m2 132 rfl) rfl
theorem q421 : (Jvm.Cond.code ({ cls := "Bumpward$Belief", name := "isSure", desc := "()Z" } : Jvm.MethodName) prog_2_method_6_code (1 : Nat) (Option.some Jvm.ClassFile.FieldType.boolean)) ∈ lw_all := lw_g (lw_at lw_m2 133 rfl) rfl
theorem q422 : (Jvm.Cond.methodLink "Bumpward$Belief" (20 : Nat) ({ cls := "Bumpward$Belief", name := "size", desc := "()I" } : Jvm.MethodName)) ∈ lw_all := lw_g (lw_at lw_m2 134 rfl) rfl
theorem q424 : (Jvm.Cond.instanceMethod ({ cls := "Bumpward$Belief", name := "cells", desc := "(I)J" } : Jvm.MethodName)) ∈ lw_all := lw_g (lw_at lw_m2 136 rfl) rfl
theorem q425 : (Jvm.Cond.selects "Bumpward$Belief" ({ cls := "Bumpward$Belief", name := "cells", desc := "(I)J" } : Jvm.MethodName) ({ cls := "Bumpward$Belief", name := "cells", desc := "(I)J" } : Jvm.MethodName)) ∈ lw_all := lw_g (lw_at lw_m2 137 rfl) rfl
theorem q426 : (Jvm.Cond.code ({ cls := "Bumpward$Belief", name := "cells", desc := "(I)J" } : Jvm.MethodName) prog_2_method_12_code (5 : Nat) (Option.some Jvm.ClassFile.FieldType.long)) ∈ lw_all := lw_g (lw_at lw_m2 138 rfl) rfl
theorem q440 : (Jvm.Cond.instanceMethod ({ cls := "Bumpward$Belief", name := "first", desc := "()I" } : Jvm.MethodName)) ∈ lw_all := lw_g (lw_at lw_m2 152 rfl) rfl
theorem q441 : (Jvm.Cond.selects "Bumpward$Belief" ({ cls := "Bumpward$Belief", name := "first", desc := "()I" } : Jvm.MethodName) ({ cls := "Bumpward$Belief", name := "first", desc := "()I" } : Jvm.MethodName)) ∈ lw_all := lw_g (lw_at lw_m2 153 rfl) rfl
theorem q442 : (Jvm.Cond.code ({ cls := "Bumpward$Belief", name := "first", desc := "()I" } : Jvm.MethodName) prog_2_method_7_code (2 : Nat) (Option.some Jvm.ClassFile.FieldType.int)) ∈ lw_all := lw_g (lw_at lw_m2 154 rfl) rfl
theorem q481 : (Jvm.Cond.instanceMethod ({ cls := "Bumpward$Belief", name := "forward", desc := "(LBumpward$Plan;Z)LBumpward$Belief;" } : Jvm.MethodName)) ∈ lw_all := lw_g (lw_at lw_m2 193 rfl) rfl
theorem q482 : (Jvm.Cond.selects "Bumpward$Belief" ({ cls := "Bumpward$Belief", name := "forward", desc := "(LBumpward$Plan;Z)LBumpward$Belief;" } : Jvm.MethodName) ({ cls := "Bumpward$Belief", name := "forward", desc := "(LBumpward$Plan;Z)LBumpward$Belief;" } : Jvm.MethodName)) ∈ lw_all := lw_g (lw_at lw_m2 194 rfl) rfl
theorem q483 : (Jvm.Cond.code ({ cls := "Bumpward$Belief", name := "forward", desc := "(LBumpward$Plan;Z)LBumpward$Belief;" } : Jvm.MethodName) prog_2_method_8_code (5 : Nat) (Option.some (Jvm.ClassFile.FieldType.object "Bumpward$Belief"))) ∈ lw_all := lw_g (lw_at lw_m2 195 rfl) rfl
theorem q484 : (Jvm.Cond.classLink "Bumpward$Belief" (10 : Nat) "Bumpward$Belief") ∈ lw_all := lw_g (lw_at lw_m2 196 rfl) rfl
theorem q485 : (Jvm.Cond.instantiable "Bumpward$Belief" (1 : Nat)) ∈ lw_all := lw_g (lw_at lw_m2 197 rfl) rfl
theorem q486 : (Jvm.Cond.methodLink "Bumpward$Belief" (15 : Nat) ({ cls := "Bumpward$Belief", name := "<init>", desc := "()V" } : Jvm.MethodName)) ∈ lw_all := lw_g (lw_at lw_m2 198 rfl) rfl
theorem q487 : (Jvm.Cond.instanceMethod ({ cls := "Bumpward$Belief", name := "<init>", desc := "()V" } : Jvm.MethodName)) ∈ lw_all := lw_g (lw_at lw_m2 199 rfl) rfl
theorem q488 : (Jvm.Cond.code ({ cls := "Bumpward$Belief", name := "<init>", desc := "()V" } : Jvm.MethodName) prog_2_method_1_code (1 : Nat) (Option.none : Option Jvm.ClassFile.FieldType)) ∈ lw_all := lw_g (lw_at lw_m2 200 rfl) rfl
theorem q489 : (Jvm.Cond.methodLink "Bumpward$Belief" (3 : Nat) ({ cls := "java/lang/Object", name := "<init>", desc := "()V" } : Jvm.MethodName)) ∈ lw_all := lw_g (lw_at lw_m2 201 rfl) rfl
theorem q490 : (Jvm.Cond.fieldLink "Bumpward$Belief" (9 : Nat) "Bumpward$Belief" "are" "[Z") ∈ lw_all := lw_g (lw_at lw_m2 202 rfl) rfl
theorem q491 : (Jvm.Cond.laysFinal "Bumpward$Belief" "Bumpward$Belief" "are" "[Z") ∈ lw_all := lw_g (lw_at lw_m2 203 rfl) rfl
theorem q492 : (Jvm.Cond.soleField "Bumpward$Belief" "are") ∈ lw_all := lw_g (lw_at lw_m2 204 rfl) rfl
theorem q493 : (Jvm.Cond.superclass "Bumpward$Belief" "java/lang/Object") ∈ lw_all := lw_g (lw_at lw_m2 205 rfl) rfl
theorem q495 : (Jvm.Cond.methodLink "Bumpward$Belief" (24 : Nat) ({ cls := "Bumpward$Plan", name := "canBe", desc := "(IIZ)Z" } : Jvm.MethodName)) ∈ lw_all := lw_g (lw_at lw_m2 207 rfl) rfl
theorem q499 : (Jvm.Cond.methodLinkNest "Bumpward$Belief" (30 : Nat) ({ cls := "Bumpward", name := "beside", desc := "(II)I" } : Jvm.MethodName) "Bumpward") ∈ lw_tbl := lw_at lw_m2 211 rfl
theorem q505 : (Jvm.Cond.instanceMethod ({ cls := "Bumpward$Belief", name := "felt", desc := "(LBumpward$Plan;I)LBumpward$Belief;" } : Jvm.MethodName)) ∈ lw_all := lw_g (lw_at lw_m2 217 rfl) rfl
theorem q506 : (Jvm.Cond.selects "Bumpward$Belief" ({ cls := "Bumpward$Belief", name := "felt", desc := "(LBumpward$Plan;I)LBumpward$Belief;" } : Jvm.MethodName) ({ cls := "Bumpward$Belief", name := "felt", desc := "(LBumpward$Plan;I)LBumpward$Belief;" } : Jvm.MethodName)) ∈ lw_all := lw_g (lw_at lw_m2 218 rfl) rfl
theorem q507 : (Jvm.Cond.code ({ cls := "Bumpward$Belief", name := "felt", desc := "(LBumpward$Plan;I)LBumpward$Belief;" } : Jvm.MethodName) prog_2_method_10_code (5 : Nat) (Option.some (Jvm.ClassFile.FieldType.object "Bumpward$Belief"))) ∈ lw_all := lw_g (lw_at lw_m2 219 rfl) rfl
theorem q508 : (Jvm.Cond.methodLink "Bumpward$Belief" (38 : Nat) ({ cls := "Bumpward$Belief", name := "canFeel", desc := "(LBumpward$Plan;II)Z" } : Jvm.MethodName)) ∈ lw_all := lw_g (lw_at lw_m2 220 rfl) rfl
theorem q509 : (Jvm.Cond.static ({ cls := "Bumpward$Belief", name := "canFeel", desc := "(LBumpward$Plan;II)Z" } : Jvm.MethodName)) ∈ lw_all := lw_g (lw_at lw_m2 221 rfl) rfl
theorem q510 : (Jvm.Cond.code ({ cls := "Bumpward$Belief", name := "canFeel", desc := "(LBumpward$Plan;II)Z" } : Jvm.MethodName) prog_2_method_11_code (4 : Nat) (Option.some Jvm.ClassFile.FieldType.boolean)) ∈ lw_all := lw_g (lw_at lw_m2 222 rfl) rfl
theorem q754 : (Jvm.Cond.static ({ cls := "Bumpward$Belief", name := "of", desc := "(I)LBumpward$Belief;" } : Jvm.MethodName)) ∈ lw_all := lw_g (lw_at lw_m3 226 rfl) rfl
theorem q755 : (Jvm.Cond.code ({ cls := "Bumpward$Belief", name := "of", desc := "(I)LBumpward$Belief;" } : Jvm.MethodName) prog_2_method_3_code (2 : Nat) (Option.some (Jvm.ClassFile.FieldType.object "Bumpward$Belief"))) ∈ lw_all := lw_g (lw_at lw_m3 227 rfl) rfl
theorem q757 : (Jvm.Cond.static ({ cls := "Bumpward$Belief", name := "all", desc := "()LBumpward$Belief;" } : Jvm.MethodName)) ∈ lw_all := lw_g (lw_at lw_m3 229 rfl) rfl
theorem q758 : (Jvm.Cond.code ({ cls := "Bumpward$Belief", name := "all", desc := "()LBumpward$Belief;" } : Jvm.MethodName) prog_2_method_2_code (2 : Nat) (Option.some (Jvm.ClassFile.FieldType.object "Bumpward$Belief"))) ∈ lw_all := lw_g (lw_at lw_m3 230 rfl) rfl
theorem q828 : (Jvm.Cond.selects "Bumpward$Belief" ({ cls := "java/lang/Object", name := "getClass", desc := "()Ljava/lang/Class;" } : Jvm.MethodName) ({ cls := "java/lang/Object", name := "getClass", desc := "()Ljava/lang/Class;" } : Jvm.MethodName)) ∈ lw_all := lw_g (lw_at lw_m4 60 rfl) rfl
theorem q935 : (Jvm.Cond.instanceMethod ({ cls := "Bumpward$Belief", name := "turned", desc := "(Z)LBumpward$Belief;" } : Jvm.MethodName)) ∈ lw_all := lw_g (lw_at lw_m4 167 rfl) rfl
theorem q936 : (Jvm.Cond.selects "Bumpward$Belief" ({ cls := "Bumpward$Belief", name := "turned", desc := "(Z)LBumpward$Belief;" } : Jvm.MethodName) ({ cls := "Bumpward$Belief", name := "turned", desc := "(Z)LBumpward$Belief;" } : Jvm.MethodName)) ∈ lw_all := lw_g (lw_at lw_m4 168 rfl) rfl
theorem q937 : (Jvm.Cond.code ({ cls := "Bumpward$Belief", name := "turned", desc := "(Z)LBumpward$Belief;" } : Jvm.MethodName) prog_2_method_9_code (4 : Nat) (Option.some (Jvm.ClassFile.FieldType.object "Bumpward$Belief"))) ∈ lw_all := lw_g (lw_at lw_m4 169 rfl) rfl
theorem q938 : (Jvm.Cond.methodLinkNest "Bumpward$Belief" (34 : Nat) ({ cls := "Bumpward", name := "turn", desc := "(IZ)I" } : Jvm.MethodName) "Bumpward") ∈ lw_tbl := lw_at lw_m4 170 rfl
theorem q1297 : (Jvm.Cond.instanceMethod ({ cls := "Bumpward$Belief", name := "has", desc := "(I)Z" } : Jvm.MethodName)) ∈ lw_all := lw_g (lw_at lw_m6 49 rfl) rfl
theorem q1298 : (Jvm.Cond.selects "Bumpward$Belief" ({ cls := "Bumpward$Belief", name := "has", desc := "(I)Z" } : Jvm.MethodName) ({ cls := "Bumpward$Belief", name := "has", desc := "(I)Z" } : Jvm.MethodName)) ∈ lw_all := lw_g (lw_at lw_m6 50 rfl) rfl
theorem q1299 : (Jvm.Cond.code ({ cls := "Bumpward$Belief", name := "has", desc := "(I)Z" } : Jvm.MethodName) prog_2_method_4_code (2 : Nat) (Option.some Jvm.ClassFile.FieldType.boolean)) ∈ lw_all := lw_g (lw_at lw_m6 51 rfl) rfl
theorem q1809 : (Jvm.Cond.castable "Bumpward$Belief" "java/lang/Object") ∈ lw_tbl := lw_at lw_m8 81 rfl
theorem in_X10 : ∀ w ∈ wsX100, w ∈ lw_all := lw_in wsX100 [491] (by decide +kernel) (by decide +kernel)
/-! Bumpward$Walker -/
set_option maxRecDepth 100000
def RX8 : String := "Bumpward$Walker"
def TX8 : u_T := fun k => match k with
  | 0 => ("Bumpward$Walker", "number", "I", true)
  | 1 => ("Bumpward$Walker", "home", "I", true)
  | 2 => ("Bumpward$Walker", "plan", "LBumpward$Plan;", true)
  | 3 => ("Bumpward$Walker", "pose", "I", false)
  | 4 => ("Bumpward$Walker", "charge", "I", false)
  | 5 => ("Bumpward$Walker", "belief", "LBumpward$Belief;", false)
  | 6 => ("Bumpward$Walker", "lost", "I", false)
  | 7 => ("Bumpward$Walker", "acts", "I", false)
  | 8 => ("Bumpward$Walker", "bumps", "I", false)
  | _ => ("Bumpward$Walker", "slips", "I", false)
def tyX8 : Nat → FieldType := fun k => match k with
  | 0 => .int
  | 1 => .int
  | 2 => .object "Bumpward$Plan"
  | 3 => .int
  | 4 => .int
  | 5 => .object "Bumpward$Belief"
  | 6 => .int
  | 7 => .int
  | 8 => .int
  | _ => .int
abbrev wsX80 : List Cond := u_ws RX8 TX8 10
theorem nmX8 : ∀ a, a < 10 → ∀ b, b < 10 → a ≠ b → (TX8 a).2.1 ≠ (TX8 b).2.1 := by decide +kernel
theorem tyX8_ok : ∀ k, k < 10 → parseFieldDescriptor (TX8 k).2.2.1 = some (tyX8 k) := by decide +kernel
abbrev cX8_isSure : ByteArray := prog_10_method_4_code
def yX8_isSure : MethodName := ⟨RX8, "isSure", "()Z"⟩
def dkwX8_isSure_0 : List UInt8 := [42, 180, 0, 41, 182, 0, 45, 172]
abbrev dktX8_isSure_0 : List UInt8 := dkwX8_isSure_0 ++ []
theorem dksX8_isSure_0 : cX8_isSure.data.toList.drop 0 = dktX8_isSure_0 := by decide +kernel
theorem dX8_isSure_0 : decode cX8_isSure 0 = .ok (.aload_n 0, 1) := dk_42 (dk_at dksX8_isSure_0 0 rfl rfl)
theorem dX8_isSure_1 : decode cX8_isSure 1 = .ok (.getfield 41, 3) := dk_180 0 41 (dk_at dksX8_isSure_0 1 rfl rfl)
theorem dX8_isSure_4 : decode cX8_isSure 4 = .ok (.invokevirtual 45, 3) := dk_182 0 45 (dk_at dksX8_isSure_0 4 rfl rfl)
theorem dX8_isSure_7 : decode cX8_isSure 7 = .ok (.ireturn, 1) := dk_172 (dk_at dksX8_isSure_0 7 rfl rfl)
abbrev cX8_comingHome : ByteArray := prog_10_method_7_code
def yX8_comingHome : MethodName := ⟨RX8, "comingHome", "()I"⟩
def dkwX8_comingHome_1 : List UInt8 := [167, 0, 5, 16, 254, 172]
abbrev dktX8_comingHome_1 : List UInt8 := dkwX8_comingHome_1 ++ []
def dkwX8_comingHome_0 : List UInt8 := [42, 182, 0, 59, 153, 0, 22, 42, 180, 0, 12, 42, 182, 0, 60, 182, 0, 63, 42, 180, 0, 28, 46]
abbrev dktX8_comingHome_0 : List UInt8 := dkwX8_comingHome_0 ++ dktX8_comingHome_1
theorem dksX8_comingHome_0 : cX8_comingHome.data.toList.drop 0 = dktX8_comingHome_0 := by decide +kernel
theorem dksX8_comingHome_1 : cX8_comingHome.data.toList.drop 23 = dktX8_comingHome_1 := dk_seg dksX8_comingHome_0 23 rfl rfl
theorem dX8_comingHome_0 : decode cX8_comingHome 0 = .ok (.aload_n 0, 1) := dk_42 (dk_at dksX8_comingHome_0 0 rfl rfl)
theorem dX8_comingHome_1 : decode cX8_comingHome 1 = .ok (.invokevirtual 59, 3) := dk_182 0 59 (dk_at dksX8_comingHome_0 1 rfl rfl)
theorem dX8_comingHome_4 : decode cX8_comingHome 4 = .ok (.ifCond .eq 22, 3) := dk_153 0 22 (dk_at dksX8_comingHome_0 4 rfl rfl)
theorem dX8_comingHome_7 : decode cX8_comingHome 7 = .ok (.aload_n 0, 1) := dk_42 (dk_at dksX8_comingHome_0 7 rfl rfl)
theorem dX8_comingHome_8 : decode cX8_comingHome 8 = .ok (.getfield 12, 3) := dk_180 0 12 (dk_at dksX8_comingHome_0 8 rfl rfl)
theorem dX8_comingHome_11 : decode cX8_comingHome 11 = .ok (.aload_n 0, 1) := dk_42 (dk_at dksX8_comingHome_0 11 rfl rfl)
theorem dX8_comingHome_12 : decode cX8_comingHome 12 = .ok (.invokevirtual 60, 3) := dk_182 0 60 (dk_at dksX8_comingHome_0 12 rfl rfl)
theorem dX8_comingHome_15 : decode cX8_comingHome 15 = .ok (.invokevirtual 63, 3) := dk_182 0 63 (dk_at dksX8_comingHome_0 15 rfl rfl)
theorem dX8_comingHome_18 : decode cX8_comingHome 18 = .ok (.aload_n 0, 1) := dk_42 (dk_at dksX8_comingHome_0 18 rfl rfl)
theorem dX8_comingHome_19 : decode cX8_comingHome 19 = .ok (.getfield 28, 3) := dk_180 0 28 (dk_at dksX8_comingHome_0 19 rfl rfl)
theorem dX8_comingHome_22 : decode cX8_comingHome 22 = .ok (.iaload, 1) := dk_46 (dk_at dksX8_comingHome_0 22 rfl rfl)
theorem dX8_comingHome_23 : decode cX8_comingHome 23 = .ok (.goto 5, 3) := dk_167 0 5 (dk_at dksX8_comingHome_1 0 rfl rfl)
theorem dX8_comingHome_26 : decode cX8_comingHome 26 = .ok (.bipush (-2), 2) := dk_16 254 (dk_at dksX8_comingHome_1 3 rfl rfl)
theorem dX8_comingHome_28 : decode cX8_comingHome 28 = .ok (.ireturn, 1) := dk_172 (dk_at dksX8_comingHome_1 5 rfl rfl)
abbrev cX8_sureCell : ByteArray := prog_10_method_5_code
def yX8_sureCell : MethodName := ⟨RX8, "sureCell", "()I"⟩
def dkwX8_sureCell_0 : List UInt8 := [42, 180, 0, 41, 182, 0, 49, 7, 108, 172]
abbrev dktX8_sureCell_0 : List UInt8 := dkwX8_sureCell_0 ++ []
theorem dksX8_sureCell_0 : cX8_sureCell.data.toList.drop 0 = dktX8_sureCell_0 := by decide +kernel
theorem dX8_sureCell_0 : decode cX8_sureCell 0 = .ok (.aload_n 0, 1) := dk_42 (dk_at dksX8_sureCell_0 0 rfl rfl)
theorem dX8_sureCell_1 : decode cX8_sureCell 1 = .ok (.getfield 41, 3) := dk_180 0 41 (dk_at dksX8_sureCell_0 1 rfl rfl)
theorem dX8_sureCell_4 : decode cX8_sureCell 4 = .ok (.invokevirtual 49, 3) := dk_182 0 49 (dk_at dksX8_sureCell_0 4 rfl rfl)
theorem dX8_sureCell_7 : decode cX8_sureCell 7 = .ok (.iconst 4, 1) := dk_7 (dk_at dksX8_sureCell_0 7 rfl rfl)
theorem dX8_sureCell_8 : decode cX8_sureCell 8 = .ok (.idiv, 1) := dk_108 (dk_at dksX8_sureCell_0 8 rfl rfl)
theorem dX8_sureCell_9 : decode cX8_sureCell 9 = .ok (.ireturn, 1) := dk_172 (dk_at dksX8_sureCell_0 9 rfl rfl)
abbrev cX8_cost : ByteArray := prog_10_method_8_code
def yX8_cost : MethodName := ⟨RX8, "cost", "()I"⟩
def dkwX8_cost_0 : List UInt8 := [42, 182, 0, 67, 156, 0, 10, 42, 182, 0, 67, 167, 0, 11, 5, 42, 182, 0, 67, 104, 5, 96, 172]
abbrev dktX8_cost_0 : List UInt8 := dkwX8_cost_0 ++ []
theorem dksX8_cost_0 : cX8_cost.data.toList.drop 0 = dktX8_cost_0 := by decide +kernel
theorem dX8_cost_0 : decode cX8_cost 0 = .ok (.aload_n 0, 1) := dk_42 (dk_at dksX8_cost_0 0 rfl rfl)
theorem dX8_cost_1 : decode cX8_cost 1 = .ok (.invokevirtual 67, 3) := dk_182 0 67 (dk_at dksX8_cost_0 1 rfl rfl)
theorem dX8_cost_4 : decode cX8_cost 4 = .ok (.ifCond .ge 10, 3) := dk_156 0 10 (dk_at dksX8_cost_0 4 rfl rfl)
theorem dX8_cost_7 : decode cX8_cost 7 = .ok (.aload_n 0, 1) := dk_42 (dk_at dksX8_cost_0 7 rfl rfl)
theorem dX8_cost_8 : decode cX8_cost 8 = .ok (.invokevirtual 67, 3) := dk_182 0 67 (dk_at dksX8_cost_0 8 rfl rfl)
theorem dX8_cost_11 : decode cX8_cost 11 = .ok (.goto 11, 3) := dk_167 0 11 (dk_at dksX8_cost_0 11 rfl rfl)
theorem dX8_cost_14 : decode cX8_cost 14 = .ok (.iconst 2, 1) := dk_5 (dk_at dksX8_cost_0 14 rfl rfl)
theorem dX8_cost_15 : decode cX8_cost 15 = .ok (.aload_n 0, 1) := dk_42 (dk_at dksX8_cost_0 15 rfl rfl)
theorem dX8_cost_16 : decode cX8_cost 16 = .ok (.invokevirtual 67, 3) := dk_182 0 67 (dk_at dksX8_cost_0 16 rfl rfl)
theorem dX8_cost_19 : decode cX8_cost 19 = .ok (.imul, 1) := dk_104 (dk_at dksX8_cost_0 19 rfl rfl)
theorem dX8_cost_20 : decode cX8_cost 20 = .ok (.iconst 2, 1) := dk_5 (dk_at dksX8_cost_0 20 rfl rfl)
theorem dX8_cost_21 : decode cX8_cost 21 = .ok (.iadd, 1) := dk_96 (dk_at dksX8_cost_0 21 rfl rfl)
theorem dX8_cost_22 : decode cX8_cost 22 = .ok (.ireturn, 1) := dk_172 (dk_at dksX8_cost_0 22 rfl rfl)
abbrev cX8_isSafe : ByteArray := prog_10_method_9_code
def yX8_isSafe : MethodName := ⟨RX8, "isSafe", "()Z"⟩
def dkwX8_isSafe_1 : List UInt8 := [3, 167, 0, 17, 42, 180, 0, 25, 16, 20, 164, 0, 7, 4, 167, 0, 4, 3, 172]
abbrev dktX8_isSafe_1 : List UInt8 := dkwX8_isSafe_1 ++ []
def dkwX8_isSafe_0 : List UInt8 := [42, 182, 0, 70, 155, 0, 24, 42, 180, 0, 25, 4, 100, 42, 182, 0, 70, 161, 0, 7, 4, 167, 0, 21]
abbrev dktX8_isSafe_0 : List UInt8 := dkwX8_isSafe_0 ++ dktX8_isSafe_1
theorem dksX8_isSafe_0 : cX8_isSafe.data.toList.drop 0 = dktX8_isSafe_0 := by decide +kernel
theorem dksX8_isSafe_1 : cX8_isSafe.data.toList.drop 24 = dktX8_isSafe_1 := dk_seg dksX8_isSafe_0 24 rfl rfl
theorem dX8_isSafe_0 : decode cX8_isSafe 0 = .ok (.aload_n 0, 1) := dk_42 (dk_at dksX8_isSafe_0 0 rfl rfl)
theorem dX8_isSafe_1 : decode cX8_isSafe 1 = .ok (.invokevirtual 70, 3) := dk_182 0 70 (dk_at dksX8_isSafe_0 1 rfl rfl)
theorem dX8_isSafe_4 : decode cX8_isSafe 4 = .ok (.ifCond .lt 24, 3) := dk_155 0 24 (dk_at dksX8_isSafe_0 4 rfl rfl)
theorem dX8_isSafe_7 : decode cX8_isSafe 7 = .ok (.aload_n 0, 1) := dk_42 (dk_at dksX8_isSafe_0 7 rfl rfl)
theorem dX8_isSafe_8 : decode cX8_isSafe 8 = .ok (.getfield 25, 3) := dk_180 0 25 (dk_at dksX8_isSafe_0 8 rfl rfl)
theorem dX8_isSafe_11 : decode cX8_isSafe 11 = .ok (.iconst 1, 1) := dk_4 (dk_at dksX8_isSafe_0 11 rfl rfl)
theorem dX8_isSafe_12 : decode cX8_isSafe 12 = .ok (.isub, 1) := dk_100 (dk_at dksX8_isSafe_0 12 rfl rfl)
theorem dX8_isSafe_13 : decode cX8_isSafe 13 = .ok (.aload_n 0, 1) := dk_42 (dk_at dksX8_isSafe_0 13 rfl rfl)
theorem dX8_isSafe_14 : decode cX8_isSafe 14 = .ok (.invokevirtual 70, 3) := dk_182 0 70 (dk_at dksX8_isSafe_0 14 rfl rfl)
theorem dX8_isSafe_17 : decode cX8_isSafe 17 = .ok (.if_icmp .lt 7, 3) := dk_161 0 7 (dk_at dksX8_isSafe_0 17 rfl rfl)
theorem dX8_isSafe_20 : decode cX8_isSafe 20 = .ok (.iconst 1, 1) := dk_4 (dk_at dksX8_isSafe_0 20 rfl rfl)
theorem dX8_isSafe_21 : decode cX8_isSafe 21 = .ok (.goto 21, 3) := dk_167 0 21 (dk_at dksX8_isSafe_0 21 rfl rfl)
theorem dX8_isSafe_24 : decode cX8_isSafe 24 = .ok (.iconst 0, 1) := dk_3 (dk_at dksX8_isSafe_1 0 rfl rfl)
theorem dX8_isSafe_25 : decode cX8_isSafe 25 = .ok (.goto 17, 3) := dk_167 0 17 (dk_at dksX8_isSafe_1 1 rfl rfl)
theorem dX8_isSafe_28 : decode cX8_isSafe 28 = .ok (.aload_n 0, 1) := dk_42 (dk_at dksX8_isSafe_1 4 rfl rfl)
theorem dX8_isSafe_29 : decode cX8_isSafe 29 = .ok (.getfield 25, 3) := dk_180 0 25 (dk_at dksX8_isSafe_1 5 rfl rfl)
theorem dX8_isSafe_32 : decode cX8_isSafe 32 = .ok (.bipush 20, 2) := dk_16 20 (dk_at dksX8_isSafe_1 8 rfl rfl)
theorem dX8_isSafe_34 : decode cX8_isSafe 34 = .ok (.if_icmp .le 7, 3) := dk_164 0 7 (dk_at dksX8_isSafe_1 10 rfl rfl)
theorem dX8_isSafe_37 : decode cX8_isSafe 37 = .ok (.iconst 1, 1) := dk_4 (dk_at dksX8_isSafe_1 13 rfl rfl)
theorem dX8_isSafe_38 : decode cX8_isSafe 38 = .ok (.goto 4, 3) := dk_167 0 4 (dk_at dksX8_isSafe_1 14 rfl rfl)
theorem dX8_isSafe_41 : decode cX8_isSafe 41 = .ok (.iconst 0, 1) := dk_3 (dk_at dksX8_isSafe_1 17 rfl rfl)
theorem dX8_isSafe_42 : decode cX8_isSafe 42 = .ok (.ireturn, 1) := dk_172 (dk_at dksX8_isSafe_1 18 rfl rfl)
abbrev cX8_goal : ByteArray := prog_10_method_10_code
def yX8_goal : MethodName := ⟨RX8, "goal", "()I"⟩
def dkwX8_goal_3 : List UInt8 := [167, 255, 213, 28, 172]
abbrev dktX8_goal_3 : List UInt8 := dkwX8_goal_3 ++ []
def dkwX8_goal_2 : List UInt8 := [153, 0, 19, 28, 2, 159, 0, 12, 43, 29, 46, 43, 28, 46, 162, 0, 5, 29, 61, 132, 3, 1]
abbrev dktX8_goal_2 : List UInt8 := dkwX8_goal_2 ++ dktX8_goal_3
def dkwX8_goal_1 : List UInt8 := [3, 62, 29, 16, 36, 162, 0, 43, 43, 29, 46, 2, 159, 0, 30, 42, 180, 0, 12, 29, 182, 0, 73]
abbrev dktX8_goal_1 : List UInt8 := dkwX8_goal_1 ++ dktX8_goal_2
def dkwX8_goal_0 : List UInt8 := [42, 182, 0, 59, 154, 0, 6, 16, 254, 172, 42, 180, 0, 12, 42, 182, 0, 60, 182, 0, 63, 76, 2, 61]
abbrev dktX8_goal_0 : List UInt8 := dkwX8_goal_0 ++ dktX8_goal_1
theorem dksX8_goal_0 : cX8_goal.data.toList.drop 0 = dktX8_goal_0 := by decide +kernel
theorem dksX8_goal_1 : cX8_goal.data.toList.drop 24 = dktX8_goal_1 := dk_seg dksX8_goal_0 24 rfl rfl
theorem dksX8_goal_2 : cX8_goal.data.toList.drop 47 = dktX8_goal_2 := dk_seg dksX8_goal_1 23 rfl rfl
theorem dksX8_goal_3 : cX8_goal.data.toList.drop 69 = dktX8_goal_3 := dk_seg dksX8_goal_2 22 rfl rfl
theorem dX8_goal_0 : decode cX8_goal 0 = .ok (.aload_n 0, 1) := dk_42 (dk_at dksX8_goal_0 0 rfl rfl)
theorem dX8_goal_1 : decode cX8_goal 1 = .ok (.invokevirtual 59, 3) := dk_182 0 59 (dk_at dksX8_goal_0 1 rfl rfl)
theorem dX8_goal_4 : decode cX8_goal 4 = .ok (.ifCond .ne 6, 3) := dk_154 0 6 (dk_at dksX8_goal_0 4 rfl rfl)
theorem dX8_goal_7 : decode cX8_goal 7 = .ok (.bipush (-2), 2) := dk_16 254 (dk_at dksX8_goal_0 7 rfl rfl)
theorem dX8_goal_9 : decode cX8_goal 9 = .ok (.ireturn, 1) := dk_172 (dk_at dksX8_goal_0 9 rfl rfl)
theorem dX8_goal_10 : decode cX8_goal 10 = .ok (.aload_n 0, 1) := dk_42 (dk_at dksX8_goal_0 10 rfl rfl)
theorem dX8_goal_11 : decode cX8_goal 11 = .ok (.getfield 12, 3) := dk_180 0 12 (dk_at dksX8_goal_0 11 rfl rfl)
theorem dX8_goal_14 : decode cX8_goal 14 = .ok (.aload_n 0, 1) := dk_42 (dk_at dksX8_goal_0 14 rfl rfl)
theorem dX8_goal_15 : decode cX8_goal 15 = .ok (.invokevirtual 60, 3) := dk_182 0 60 (dk_at dksX8_goal_0 15 rfl rfl)
theorem dX8_goal_18 : decode cX8_goal 18 = .ok (.invokevirtual 63, 3) := dk_182 0 63 (dk_at dksX8_goal_0 18 rfl rfl)
theorem dX8_goal_21 : decode cX8_goal 21 = .ok (.astore_n 1, 1) := dk_76 (dk_at dksX8_goal_0 21 rfl rfl)
theorem dX8_goal_22 : decode cX8_goal 22 = .ok (.iconst (-1), 1) := dk_2 (dk_at dksX8_goal_0 22 rfl rfl)
theorem dX8_goal_23 : decode cX8_goal 23 = .ok (.istore_n 2, 1) := dk_61 (dk_at dksX8_goal_0 23 rfl rfl)
theorem dX8_goal_24 : decode cX8_goal 24 = .ok (.iconst 0, 1) := dk_3 (dk_at dksX8_goal_1 0 rfl rfl)
theorem dX8_goal_25 : decode cX8_goal 25 = .ok (.istore_n 3, 1) := dk_62 (dk_at dksX8_goal_1 1 rfl rfl)
theorem dX8_goal_26 : decode cX8_goal 26 = .ok (.iload_n 3, 1) := dk_29 (dk_at dksX8_goal_1 2 rfl rfl)
theorem dX8_goal_27 : decode cX8_goal 27 = .ok (.bipush 36, 2) := dk_16 36 (dk_at dksX8_goal_1 3 rfl rfl)
theorem dX8_goal_29 : decode cX8_goal 29 = .ok (.if_icmp .ge 43, 3) := dk_162 0 43 (dk_at dksX8_goal_1 5 rfl rfl)
theorem dX8_goal_32 : decode cX8_goal 32 = .ok (.aload_n 1, 1) := dk_43 (dk_at dksX8_goal_1 8 rfl rfl)
theorem dX8_goal_33 : decode cX8_goal 33 = .ok (.iload_n 3, 1) := dk_29 (dk_at dksX8_goal_1 9 rfl rfl)
theorem dX8_goal_34 : decode cX8_goal 34 = .ok (.iaload, 1) := dk_46 (dk_at dksX8_goal_1 10 rfl rfl)
theorem dX8_goal_35 : decode cX8_goal 35 = .ok (.iconst (-1), 1) := dk_2 (dk_at dksX8_goal_1 11 rfl rfl)
theorem dX8_goal_36 : decode cX8_goal 36 = .ok (.if_icmp .eq 30, 3) := dk_159 0 30 (dk_at dksX8_goal_1 12 rfl rfl)
theorem dX8_goal_39 : decode cX8_goal 39 = .ok (.aload_n 0, 1) := dk_42 (dk_at dksX8_goal_1 15 rfl rfl)
theorem dX8_goal_40 : decode cX8_goal 40 = .ok (.getfield 12, 3) := dk_180 0 12 (dk_at dksX8_goal_1 16 rfl rfl)
theorem dX8_goal_43 : decode cX8_goal 43 = .ok (.iload_n 3, 1) := dk_29 (dk_at dksX8_goal_1 19 rfl rfl)
theorem dX8_goal_44 : decode cX8_goal 44 = .ok (.invokevirtual 73, 3) := dk_182 0 73 (dk_at dksX8_goal_1 20 rfl rfl)
theorem dX8_goal_47 : decode cX8_goal 47 = .ok (.ifCond .eq 19, 3) := dk_153 0 19 (dk_at dksX8_goal_2 0 rfl rfl)
theorem dX8_goal_50 : decode cX8_goal 50 = .ok (.iload_n 2, 1) := dk_28 (dk_at dksX8_goal_2 3 rfl rfl)
theorem dX8_goal_51 : decode cX8_goal 51 = .ok (.iconst (-1), 1) := dk_2 (dk_at dksX8_goal_2 4 rfl rfl)
theorem dX8_goal_52 : decode cX8_goal 52 = .ok (.if_icmp .eq 12, 3) := dk_159 0 12 (dk_at dksX8_goal_2 5 rfl rfl)
theorem dX8_goal_55 : decode cX8_goal 55 = .ok (.aload_n 1, 1) := dk_43 (dk_at dksX8_goal_2 8 rfl rfl)
theorem dX8_goal_56 : decode cX8_goal 56 = .ok (.iload_n 3, 1) := dk_29 (dk_at dksX8_goal_2 9 rfl rfl)
theorem dX8_goal_57 : decode cX8_goal 57 = .ok (.iaload, 1) := dk_46 (dk_at dksX8_goal_2 10 rfl rfl)
theorem dX8_goal_58 : decode cX8_goal 58 = .ok (.aload_n 1, 1) := dk_43 (dk_at dksX8_goal_2 11 rfl rfl)
theorem dX8_goal_59 : decode cX8_goal 59 = .ok (.iload_n 2, 1) := dk_28 (dk_at dksX8_goal_2 12 rfl rfl)
theorem dX8_goal_60 : decode cX8_goal 60 = .ok (.iaload, 1) := dk_46 (dk_at dksX8_goal_2 13 rfl rfl)
theorem dX8_goal_61 : decode cX8_goal 61 = .ok (.if_icmp .ge 5, 3) := dk_162 0 5 (dk_at dksX8_goal_2 14 rfl rfl)
theorem dX8_goal_64 : decode cX8_goal 64 = .ok (.iload_n 3, 1) := dk_29 (dk_at dksX8_goal_2 17 rfl rfl)
theorem dX8_goal_65 : decode cX8_goal 65 = .ok (.istore_n 2, 1) := dk_61 (dk_at dksX8_goal_2 18 rfl rfl)
theorem dX8_goal_66 : decode cX8_goal 66 = .ok (.iinc 3 1, 3) := dk_132 3 1 (dk_at dksX8_goal_2 19 rfl rfl)
theorem dX8_goal_69 : decode cX8_goal 69 = .ok (.goto (-43), 3) := dk_167 255 213 (dk_at dksX8_goal_3 0 rfl rfl)
theorem dX8_goal_72 : decode cX8_goal 72 = .ok (.iload_n 2, 1) := dk_28 (dk_at dksX8_goal_3 3 rfl rfl)
theorem dX8_goal_73 : decode cX8_goal 73 = .ok (.ireturn, 1) := dk_172 (dk_at dksX8_goal_3 4 rfl rfl)
abbrev cX8_worst : ByteArray := prog_10_method_11_code
def yX8_worst : MethodName := ⟨RX8, "worst", "(I)I"⟩
def dkwX8_worst_3 : List UInt8 := [182, 0, 87, 182, 0, 53, 184, 0, 81, 61, 132, 3, 1, 167, 255, 227, 28, 172]
abbrev dktX8_worst_3 : List UInt8 := dkwX8_worst_3 ++ []
def dkwX8_worst_2 : List UInt8 := [182, 0, 53, 172, 3, 61, 3, 62, 29, 16, 8, 162, 0, 29, 28, 42, 180, 0, 41, 42, 180, 0, 12, 29]
abbrev dktX8_worst_2 : List UInt8 := dkwX8_worst_2 ++ dktX8_worst_3
def dkwX8_worst_1 : List UInt8 := [180, 0, 12, 3, 182, 0, 77, 182, 0, 53, 184, 0, 81, 172, 27, 6, 159, 0, 11, 42, 180, 0, 41]
abbrev dktX8_worst_1 : List UInt8 := dkwX8_worst_1 ++ dktX8_worst_2
def dkwX8_worst_0 : List UInt8 := [27, 154, 0, 37, 42, 180, 0, 41, 42, 180, 0, 12, 4, 182, 0, 77, 182, 0, 53, 42, 180, 0, 41, 42]
abbrev dktX8_worst_0 : List UInt8 := dkwX8_worst_0 ++ dktX8_worst_1
theorem dksX8_worst_0 : cX8_worst.data.toList.drop 0 = dktX8_worst_0 := by decide +kernel
theorem dksX8_worst_1 : cX8_worst.data.toList.drop 24 = dktX8_worst_1 := dk_seg dksX8_worst_0 24 rfl rfl
theorem dksX8_worst_2 : cX8_worst.data.toList.drop 47 = dktX8_worst_2 := dk_seg dksX8_worst_1 23 rfl rfl
theorem dksX8_worst_3 : cX8_worst.data.toList.drop 71 = dktX8_worst_3 := dk_seg dksX8_worst_2 24 rfl rfl
theorem dX8_worst_0 : decode cX8_worst 0 = .ok (.iload_n 1, 1) := dk_27 (dk_at dksX8_worst_0 0 rfl rfl)
theorem dX8_worst_1 : decode cX8_worst 1 = .ok (.ifCond .ne 37, 3) := dk_154 0 37 (dk_at dksX8_worst_0 1 rfl rfl)
theorem dX8_worst_4 : decode cX8_worst 4 = .ok (.aload_n 0, 1) := dk_42 (dk_at dksX8_worst_0 4 rfl rfl)
theorem dX8_worst_5 : decode cX8_worst 5 = .ok (.getfield 41, 3) := dk_180 0 41 (dk_at dksX8_worst_0 5 rfl rfl)
theorem dX8_worst_8 : decode cX8_worst 8 = .ok (.aload_n 0, 1) := dk_42 (dk_at dksX8_worst_0 8 rfl rfl)
theorem dX8_worst_9 : decode cX8_worst 9 = .ok (.getfield 12, 3) := dk_180 0 12 (dk_at dksX8_worst_0 9 rfl rfl)
theorem dX8_worst_12 : decode cX8_worst 12 = .ok (.iconst 1, 1) := dk_4 (dk_at dksX8_worst_0 12 rfl rfl)
theorem dX8_worst_13 : decode cX8_worst 13 = .ok (.invokevirtual 77, 3) := dk_182 0 77 (dk_at dksX8_worst_0 13 rfl rfl)
theorem dX8_worst_16 : decode cX8_worst 16 = .ok (.invokevirtual 53, 3) := dk_182 0 53 (dk_at dksX8_worst_0 16 rfl rfl)
theorem dX8_worst_19 : decode cX8_worst 19 = .ok (.aload_n 0, 1) := dk_42 (dk_at dksX8_worst_0 19 rfl rfl)
theorem dX8_worst_20 : decode cX8_worst 20 = .ok (.getfield 41, 3) := dk_180 0 41 (dk_at dksX8_worst_0 20 rfl rfl)
theorem dX8_worst_23 : decode cX8_worst 23 = .ok (.aload_n 0, 1) := dk_42 (dk_at dksX8_worst_0 23 rfl rfl)
theorem dX8_worst_24 : decode cX8_worst 24 = .ok (.getfield 12, 3) := dk_180 0 12 (dk_at dksX8_worst_1 0 rfl rfl)
theorem dX8_worst_27 : decode cX8_worst 27 = .ok (.iconst 0, 1) := dk_3 (dk_at dksX8_worst_1 3 rfl rfl)
theorem dX8_worst_28 : decode cX8_worst 28 = .ok (.invokevirtual 77, 3) := dk_182 0 77 (dk_at dksX8_worst_1 4 rfl rfl)
theorem dX8_worst_31 : decode cX8_worst 31 = .ok (.invokevirtual 53, 3) := dk_182 0 53 (dk_at dksX8_worst_1 7 rfl rfl)
theorem dX8_worst_34 : decode cX8_worst 34 = .ok (.invokestatic 81, 3) := dk_184 0 81 (dk_at dksX8_worst_1 10 rfl rfl)
theorem dX8_worst_37 : decode cX8_worst 37 = .ok (.ireturn, 1) := dk_172 (dk_at dksX8_worst_1 13 rfl rfl)
theorem dX8_worst_38 : decode cX8_worst 38 = .ok (.iload_n 1, 1) := dk_27 (dk_at dksX8_worst_1 14 rfl rfl)
theorem dX8_worst_39 : decode cX8_worst 39 = .ok (.iconst 3, 1) := dk_6 (dk_at dksX8_worst_1 15 rfl rfl)
theorem dX8_worst_40 : decode cX8_worst 40 = .ok (.if_icmp .eq 11, 3) := dk_159 0 11 (dk_at dksX8_worst_1 16 rfl rfl)
theorem dX8_worst_43 : decode cX8_worst 43 = .ok (.aload_n 0, 1) := dk_42 (dk_at dksX8_worst_1 19 rfl rfl)
theorem dX8_worst_44 : decode cX8_worst 44 = .ok (.getfield 41, 3) := dk_180 0 41 (dk_at dksX8_worst_1 20 rfl rfl)
theorem dX8_worst_47 : decode cX8_worst 47 = .ok (.invokevirtual 53, 3) := dk_182 0 53 (dk_at dksX8_worst_2 0 rfl rfl)
theorem dX8_worst_50 : decode cX8_worst 50 = .ok (.ireturn, 1) := dk_172 (dk_at dksX8_worst_2 3 rfl rfl)
theorem dX8_worst_51 : decode cX8_worst 51 = .ok (.iconst 0, 1) := dk_3 (dk_at dksX8_worst_2 4 rfl rfl)
theorem dX8_worst_52 : decode cX8_worst 52 = .ok (.istore_n 2, 1) := dk_61 (dk_at dksX8_worst_2 5 rfl rfl)
theorem dX8_worst_53 : decode cX8_worst 53 = .ok (.iconst 0, 1) := dk_3 (dk_at dksX8_worst_2 6 rfl rfl)
theorem dX8_worst_54 : decode cX8_worst 54 = .ok (.istore_n 3, 1) := dk_62 (dk_at dksX8_worst_2 7 rfl rfl)
theorem dX8_worst_55 : decode cX8_worst 55 = .ok (.iload_n 3, 1) := dk_29 (dk_at dksX8_worst_2 8 rfl rfl)
theorem dX8_worst_56 : decode cX8_worst 56 = .ok (.bipush 8, 2) := dk_16 8 (dk_at dksX8_worst_2 9 rfl rfl)
theorem dX8_worst_58 : decode cX8_worst 58 = .ok (.if_icmp .ge 29, 3) := dk_162 0 29 (dk_at dksX8_worst_2 11 rfl rfl)
theorem dX8_worst_61 : decode cX8_worst 61 = .ok (.iload_n 2, 1) := dk_28 (dk_at dksX8_worst_2 14 rfl rfl)
theorem dX8_worst_62 : decode cX8_worst 62 = .ok (.aload_n 0, 1) := dk_42 (dk_at dksX8_worst_2 15 rfl rfl)
theorem dX8_worst_63 : decode cX8_worst 63 = .ok (.getfield 41, 3) := dk_180 0 41 (dk_at dksX8_worst_2 16 rfl rfl)
theorem dX8_worst_66 : decode cX8_worst 66 = .ok (.aload_n 0, 1) := dk_42 (dk_at dksX8_worst_2 19 rfl rfl)
theorem dX8_worst_67 : decode cX8_worst 67 = .ok (.getfield 12, 3) := dk_180 0 12 (dk_at dksX8_worst_2 20 rfl rfl)
theorem dX8_worst_70 : decode cX8_worst 70 = .ok (.iload_n 3, 1) := dk_29 (dk_at dksX8_worst_2 23 rfl rfl)
theorem dX8_worst_71 : decode cX8_worst 71 = .ok (.invokevirtual 87, 3) := dk_182 0 87 (dk_at dksX8_worst_3 0 rfl rfl)
theorem dX8_worst_74 : decode cX8_worst 74 = .ok (.invokevirtual 53, 3) := dk_182 0 53 (dk_at dksX8_worst_3 3 rfl rfl)
theorem dX8_worst_77 : decode cX8_worst 77 = .ok (.invokestatic 81, 3) := dk_184 0 81 (dk_at dksX8_worst_3 6 rfl rfl)
theorem dX8_worst_80 : decode cX8_worst 80 = .ok (.istore_n 2, 1) := dk_61 (dk_at dksX8_worst_3 9 rfl rfl)
theorem dX8_worst_81 : decode cX8_worst 81 = .ok (.iinc 3 1, 3) := dk_132 3 1 (dk_at dksX8_worst_3 10 rfl rfl)
theorem dX8_worst_84 : decode cX8_worst 84 = .ok (.goto (-29), 3) := dk_167 255 227 (dk_at dksX8_worst_3 13 rfl rfl)
theorem dX8_worst_87 : decode cX8_worst 87 = .ok (.iload_n 2, 1) := dk_28 (dk_at dksX8_worst_3 16 rfl rfl)
theorem dX8_worst_88 : decode cX8_worst 88 = .ok (.ireturn, 1) := dk_172 (dk_at dksX8_worst_3 17 rfl rfl)
abbrev cX8_best : ByteArray := prog_10_method_12_code
def yX8_best : MethodName := ⟨RX8, "best", "()I"⟩
def dkwX8_best_1 : List UInt8 := [132, 2, 1, 167, 255, 233, 27, 172]
abbrev dktX8_best_1 : List UInt8 := dkwX8_best_1 ++ []
def dkwX8_best_0 : List UInt8 := [3, 60, 4, 61, 28, 6, 163, 0, 24, 42, 28, 182, 0, 91, 42, 27, 182, 0, 91, 162, 0, 5, 28, 60]
abbrev dktX8_best_0 : List UInt8 := dkwX8_best_0 ++ dktX8_best_1
theorem dksX8_best_0 : cX8_best.data.toList.drop 0 = dktX8_best_0 := by decide +kernel
theorem dksX8_best_1 : cX8_best.data.toList.drop 24 = dktX8_best_1 := dk_seg dksX8_best_0 24 rfl rfl
theorem dX8_best_0 : decode cX8_best 0 = .ok (.iconst 0, 1) := dk_3 (dk_at dksX8_best_0 0 rfl rfl)
theorem dX8_best_1 : decode cX8_best 1 = .ok (.istore_n 1, 1) := dk_60 (dk_at dksX8_best_0 1 rfl rfl)
theorem dX8_best_2 : decode cX8_best 2 = .ok (.iconst 1, 1) := dk_4 (dk_at dksX8_best_0 2 rfl rfl)
theorem dX8_best_3 : decode cX8_best 3 = .ok (.istore_n 2, 1) := dk_61 (dk_at dksX8_best_0 3 rfl rfl)
theorem dX8_best_4 : decode cX8_best 4 = .ok (.iload_n 2, 1) := dk_28 (dk_at dksX8_best_0 4 rfl rfl)
theorem dX8_best_5 : decode cX8_best 5 = .ok (.iconst 3, 1) := dk_6 (dk_at dksX8_best_0 5 rfl rfl)
theorem dX8_best_6 : decode cX8_best 6 = .ok (.if_icmp .gt 24, 3) := dk_163 0 24 (dk_at dksX8_best_0 6 rfl rfl)
theorem dX8_best_9 : decode cX8_best 9 = .ok (.aload_n 0, 1) := dk_42 (dk_at dksX8_best_0 9 rfl rfl)
theorem dX8_best_10 : decode cX8_best 10 = .ok (.iload_n 2, 1) := dk_28 (dk_at dksX8_best_0 10 rfl rfl)
theorem dX8_best_11 : decode cX8_best 11 = .ok (.invokevirtual 91, 3) := dk_182 0 91 (dk_at dksX8_best_0 11 rfl rfl)
theorem dX8_best_14 : decode cX8_best 14 = .ok (.aload_n 0, 1) := dk_42 (dk_at dksX8_best_0 14 rfl rfl)
theorem dX8_best_15 : decode cX8_best 15 = .ok (.iload_n 1, 1) := dk_27 (dk_at dksX8_best_0 15 rfl rfl)
theorem dX8_best_16 : decode cX8_best 16 = .ok (.invokevirtual 91, 3) := dk_182 0 91 (dk_at dksX8_best_0 16 rfl rfl)
theorem dX8_best_19 : decode cX8_best 19 = .ok (.if_icmp .ge 5, 3) := dk_162 0 5 (dk_at dksX8_best_0 19 rfl rfl)
theorem dX8_best_22 : decode cX8_best 22 = .ok (.iload_n 2, 1) := dk_28 (dk_at dksX8_best_0 22 rfl rfl)
theorem dX8_best_23 : decode cX8_best 23 = .ok (.istore_n 1, 1) := dk_60 (dk_at dksX8_best_0 23 rfl rfl)
theorem dX8_best_24 : decode cX8_best 24 = .ok (.iinc 2 1, 3) := dk_132 2 1 (dk_at dksX8_best_1 0 rfl rfl)
theorem dX8_best_27 : decode cX8_best 27 = .ok (.goto (-23), 3) := dk_167 255 233 (dk_at dksX8_best_1 3 rfl rfl)
theorem dX8_best_30 : decode cX8_best 30 = .ok (.iload_n 1, 1) := dk_27 (dk_at dksX8_best_1 6 rfl rfl)
theorem dX8_best_31 : decode cX8_best 31 = .ok (.ireturn, 1) := dk_172 (dk_at dksX8_best_1 7 rfl rfl)
abbrev cX8_init : ByteArray := prog_10_method_1_code
def yX8_init : MethodName := ⟨RX8, "<init>", "(IIIZ)V"⟩
def dkwX8_init_2 : List UInt8 := [184, 0, 31, 167, 0, 6, 184, 0, 37, 181, 0, 41, 177]
abbrev dktX8_init_2 : List UInt8 := dkwX8_init_2 ++ []
def dkwX8_init_1 : List UInt8 := [181, 0, 22, 42, 29, 181, 0, 25, 42, 28, 7, 108, 181, 0, 28, 42, 21, 4, 153, 0, 10, 28]
abbrev dktX8_init_1 : List UInt8 := dkwX8_init_1 ++ dktX8_init_2
def dkwX8_init_0 : List UInt8 := [42, 183, 0, 3, 42, 187, 0, 9, 89, 183, 0, 11, 181, 0, 12, 42, 27, 181, 0, 18, 42, 28]
abbrev dktX8_init_0 : List UInt8 := dkwX8_init_0 ++ dktX8_init_1
theorem dksX8_init_0 : cX8_init.data.toList.drop 0 = dktX8_init_0 := by decide +kernel
theorem dksX8_init_1 : cX8_init.data.toList.drop 22 = dktX8_init_1 := dk_seg dksX8_init_0 22 rfl rfl
theorem dksX8_init_2 : cX8_init.data.toList.drop 44 = dktX8_init_2 := dk_seg dksX8_init_1 22 rfl rfl
theorem dX8_init_0 : decode cX8_init 0 = .ok (.aload_n 0, 1) := dk_42 (dk_at dksX8_init_0 0 rfl rfl)
theorem dX8_init_1 : decode cX8_init 1 = .ok (.invokespecial 3, 3) := dk_183 0 3 (dk_at dksX8_init_0 1 rfl rfl)
theorem dX8_init_4 : decode cX8_init 4 = .ok (.aload_n 0, 1) := dk_42 (dk_at dksX8_init_0 4 rfl rfl)
theorem dX8_init_5 : decode cX8_init 5 = .ok (.new 9, 3) := dk_187 0 9 (dk_at dksX8_init_0 5 rfl rfl)
theorem dX8_init_8 : decode cX8_init 8 = .ok (.dup, 1) := dk_89 (dk_at dksX8_init_0 8 rfl rfl)
theorem dX8_init_9 : decode cX8_init 9 = .ok (.invokespecial 11, 3) := dk_183 0 11 (dk_at dksX8_init_0 9 rfl rfl)
theorem dX8_init_12 : decode cX8_init 12 = .ok (.putfield 12, 3) := dk_181 0 12 (dk_at dksX8_init_0 12 rfl rfl)
theorem dX8_init_15 : decode cX8_init 15 = .ok (.aload_n 0, 1) := dk_42 (dk_at dksX8_init_0 15 rfl rfl)
theorem dX8_init_16 : decode cX8_init 16 = .ok (.iload_n 1, 1) := dk_27 (dk_at dksX8_init_0 16 rfl rfl)
theorem dX8_init_17 : decode cX8_init 17 = .ok (.putfield 18, 3) := dk_181 0 18 (dk_at dksX8_init_0 17 rfl rfl)
theorem dX8_init_20 : decode cX8_init 20 = .ok (.aload_n 0, 1) := dk_42 (dk_at dksX8_init_0 20 rfl rfl)
theorem dX8_init_21 : decode cX8_init 21 = .ok (.iload_n 2, 1) := dk_28 (dk_at dksX8_init_0 21 rfl rfl)
theorem dX8_init_22 : decode cX8_init 22 = .ok (.putfield 22, 3) := dk_181 0 22 (dk_at dksX8_init_1 0 rfl rfl)
theorem dX8_init_25 : decode cX8_init 25 = .ok (.aload_n 0, 1) := dk_42 (dk_at dksX8_init_1 3 rfl rfl)
theorem dX8_init_26 : decode cX8_init 26 = .ok (.iload_n 3, 1) := dk_29 (dk_at dksX8_init_1 4 rfl rfl)
theorem dX8_init_27 : decode cX8_init 27 = .ok (.putfield 25, 3) := dk_181 0 25 (dk_at dksX8_init_1 5 rfl rfl)
theorem dX8_init_30 : decode cX8_init 30 = .ok (.aload_n 0, 1) := dk_42 (dk_at dksX8_init_1 8 rfl rfl)
theorem dX8_init_31 : decode cX8_init 31 = .ok (.iload_n 2, 1) := dk_28 (dk_at dksX8_init_1 9 rfl rfl)
theorem dX8_init_32 : decode cX8_init 32 = .ok (.iconst 4, 1) := dk_7 (dk_at dksX8_init_1 10 rfl rfl)
theorem dX8_init_33 : decode cX8_init 33 = .ok (.idiv, 1) := dk_108 (dk_at dksX8_init_1 11 rfl rfl)
theorem dX8_init_34 : decode cX8_init 34 = .ok (.putfield 28, 3) := dk_181 0 28 (dk_at dksX8_init_1 12 rfl rfl)
theorem dX8_init_37 : decode cX8_init 37 = .ok (.aload_n 0, 1) := dk_42 (dk_at dksX8_init_1 15 rfl rfl)
theorem dX8_init_38 : decode cX8_init 38 = .ok (.iload 4, 2) := dk_21 4 (dk_at dksX8_init_1 16 rfl rfl)
theorem dX8_init_40 : decode cX8_init 40 = .ok (.ifCond .eq 10, 3) := dk_153 0 10 (dk_at dksX8_init_1 18 rfl rfl)
theorem dX8_init_43 : decode cX8_init 43 = .ok (.iload_n 2, 1) := dk_28 (dk_at dksX8_init_1 21 rfl rfl)
theorem dX8_init_44 : decode cX8_init 44 = .ok (.invokestatic 31, 3) := dk_184 0 31 (dk_at dksX8_init_2 0 rfl rfl)
theorem dX8_init_47 : decode cX8_init 47 = .ok (.goto 6, 3) := dk_167 0 6 (dk_at dksX8_init_2 3 rfl rfl)
theorem dX8_init_50 : decode cX8_init 50 = .ok (.invokestatic 37, 3) := dk_184 0 37 (dk_at dksX8_init_2 6 rfl rfl)
theorem dX8_init_53 : decode cX8_init 53 = .ok (.putfield 41, 3) := dk_181 0 41 (dk_at dksX8_init_2 9 rfl rfl)
theorem dX8_init_56 : decode cX8_init 56 = .ok (.return_, 1) := dk_177 (dk_at dksX8_init_2 12 rfl rfl)
abbrev cX8_cell : ByteArray := prog_10_method_2_code
def yX8_cell : MethodName := ⟨RX8, "cell", "()I"⟩
def dkwX8_cell_0 : List UInt8 := [42, 180, 0, 22, 7, 108, 172]
abbrev dktX8_cell_0 : List UInt8 := dkwX8_cell_0 ++ []
theorem dksX8_cell_0 : cX8_cell.data.toList.drop 0 = dktX8_cell_0 := by decide +kernel
theorem dX8_cell_0 : decode cX8_cell 0 = .ok (.aload_n 0, 1) := dk_42 (dk_at dksX8_cell_0 0 rfl rfl)
theorem dX8_cell_1 : decode cX8_cell 1 = .ok (.getfield 22, 3) := dk_180 0 22 (dk_at dksX8_cell_0 1 rfl rfl)
theorem dX8_cell_4 : decode cX8_cell 4 = .ok (.iconst 4, 1) := dk_7 (dk_at dksX8_cell_0 4 rfl rfl)
theorem dX8_cell_5 : decode cX8_cell 5 = .ok (.idiv, 1) := dk_108 (dk_at dksX8_cell_0 5 rfl rfl)
theorem dX8_cell_6 : decode cX8_cell 6 = .ok (.ireturn, 1) := dk_172 (dk_at dksX8_cell_0 6 rfl rfl)
abbrev cX8_facing : ByteArray := prog_10_method_3_code
def yX8_facing : MethodName := ⟨RX8, "facing", "()I"⟩
def dkwX8_facing_0 : List UInt8 := [42, 180, 0, 22, 7, 112, 172]
abbrev dktX8_facing_0 : List UInt8 := dkwX8_facing_0 ++ []
theorem dksX8_facing_0 : cX8_facing.data.toList.drop 0 = dktX8_facing_0 := by decide +kernel
theorem dX8_facing_0 : decode cX8_facing 0 = .ok (.aload_n 0, 1) := dk_42 (dk_at dksX8_facing_0 0 rfl rfl)
theorem dX8_facing_1 : decode cX8_facing 1 = .ok (.getfield 22, 3) := dk_180 0 22 (dk_at dksX8_facing_0 1 rfl rfl)
theorem dX8_facing_4 : decode cX8_facing 4 = .ok (.iconst 4, 1) := dk_7 (dk_at dksX8_facing_0 4 rfl rfl)
theorem dX8_facing_5 : decode cX8_facing 5 = .ok (.irem, 1) := dk_112 (dk_at dksX8_facing_0 5 rfl rfl)
theorem dX8_facing_6 : decode cX8_facing 6 = .ok (.ireturn, 1) := dk_172 (dk_at dksX8_facing_0 6 rfl rfl)
abbrev cX8_believe : ByteArray := prog_10_method_6_code
def yX8_believe : MethodName := ⟨RX8, "believe", "(LBumpward$Belief;)V"⟩
def dkwX8_believe_1 : List UInt8 := [89, 180, 0, 56, 4, 96, 181, 0, 56, 177]
abbrev dktX8_believe_1 : List UInt8 := dkwX8_believe_1 ++ []
def dkwX8_believe_0 : List UInt8 := [42, 43, 181, 0, 41, 42, 180, 0, 41, 182, 0, 53, 158, 0, 4, 177, 42, 184, 0, 37, 181, 0, 41, 42]
abbrev dktX8_believe_0 : List UInt8 := dkwX8_believe_0 ++ dktX8_believe_1
theorem dksX8_believe_0 : cX8_believe.data.toList.drop 0 = dktX8_believe_0 := by decide +kernel
theorem dksX8_believe_1 : cX8_believe.data.toList.drop 24 = dktX8_believe_1 := dk_seg dksX8_believe_0 24 rfl rfl
theorem dX8_believe_0 : decode cX8_believe 0 = .ok (.aload_n 0, 1) := dk_42 (dk_at dksX8_believe_0 0 rfl rfl)
theorem dX8_believe_1 : decode cX8_believe 1 = .ok (.aload_n 1, 1) := dk_43 (dk_at dksX8_believe_0 1 rfl rfl)
theorem dX8_believe_2 : decode cX8_believe 2 = .ok (.putfield 41, 3) := dk_181 0 41 (dk_at dksX8_believe_0 2 rfl rfl)
theorem dX8_believe_5 : decode cX8_believe 5 = .ok (.aload_n 0, 1) := dk_42 (dk_at dksX8_believe_0 5 rfl rfl)
theorem dX8_believe_6 : decode cX8_believe 6 = .ok (.getfield 41, 3) := dk_180 0 41 (dk_at dksX8_believe_0 6 rfl rfl)
theorem dX8_believe_9 : decode cX8_believe 9 = .ok (.invokevirtual 53, 3) := dk_182 0 53 (dk_at dksX8_believe_0 9 rfl rfl)
theorem dX8_believe_12 : decode cX8_believe 12 = .ok (.ifCond .le 4, 3) := dk_158 0 4 (dk_at dksX8_believe_0 12 rfl rfl)
theorem dX8_believe_15 : decode cX8_believe 15 = .ok (.return_, 1) := dk_177 (dk_at dksX8_believe_0 15 rfl rfl)
theorem dX8_believe_16 : decode cX8_believe 16 = .ok (.aload_n 0, 1) := dk_42 (dk_at dksX8_believe_0 16 rfl rfl)
theorem dX8_believe_17 : decode cX8_believe 17 = .ok (.invokestatic 37, 3) := dk_184 0 37 (dk_at dksX8_believe_0 17 rfl rfl)
theorem dX8_believe_20 : decode cX8_believe 20 = .ok (.putfield 41, 3) := dk_181 0 41 (dk_at dksX8_believe_0 20 rfl rfl)
theorem dX8_believe_23 : decode cX8_believe 23 = .ok (.aload_n 0, 1) := dk_42 (dk_at dksX8_believe_0 23 rfl rfl)
theorem dX8_believe_24 : decode cX8_believe 24 = .ok (.dup, 1) := dk_89 (dk_at dksX8_believe_1 0 rfl rfl)
theorem dX8_believe_25 : decode cX8_believe 25 = .ok (.getfield 56, 3) := dk_180 0 56 (dk_at dksX8_believe_1 1 rfl rfl)
theorem dX8_believe_28 : decode cX8_believe 28 = .ok (.iconst 1, 1) := dk_4 (dk_at dksX8_believe_1 4 rfl rfl)
theorem dX8_believe_29 : decode cX8_believe 29 = .ok (.iadd, 1) := dk_96 (dk_at dksX8_believe_1 5 rfl rfl)
theorem dX8_believe_30 : decode cX8_believe 30 = .ok (.putfield 56, 3) := dk_181 0 56 (dk_at dksX8_believe_1 6 rfl rfl)
theorem dX8_believe_33 : decode cX8_believe 33 = .ok (.return_, 1) := dk_177 (dk_at dksX8_believe_1 9 rfl rfl)
theorem q71 : (Jvm.Cond.initialized "Bumpward$Walker") ∈ lw_all := lw_g (lw_at lw_m1 23 rfl) rfl
theorem q415 : (Jvm.Cond.instanceMethod ({ cls := "Bumpward$Walker", name := "isSure", desc := "()Z" } : Jvm.MethodName)) ∈ lw_all := lw_g (lw_at lw_m2 127 rfl) rfl
theorem q416 : (Jvm.Cond.selects "Bumpward$Walker" ({ cls := "Bumpward$Walker", name := "isSure", desc := "()Z" } : Jvm.MethodName) ({ cls := "Bumpward$Walker", name := "isSure", desc := "()Z" } : Jvm.MethodName)) ∈ lw_all := lw_g (lw_at lw_m2 128 rfl) rfl
theorem q417 : (Jvm.Cond.code ({ cls := "Bumpward$Walker", name := "isSure", desc := "()Z" } : Jvm.MethodName) prog_10_method_4_code (1 : Nat) (Option.some Jvm.ClassFile.FieldType.boolean)) ∈ lw_all := lw_g (lw_at lw_m2 129 rfl) rfl
theorem q418 : (Jvm.Cond.methodLink "Bumpward$Walker" (45 : Nat) ({ cls := "Bumpward$Belief", name := "isSure", desc := "()Z" } : Jvm.MethodName)) ∈ lw_all := lw_g (lw_at lw_m2 130 rfl) rfl
theorem q431 : (Jvm.Cond.instanceMethod ({ cls := "Bumpward$Walker", name := "comingHome", desc := "()I" } : Jvm.MethodName)) ∈ lw_all := lw_g (lw_at lw_m2 143 rfl) rfl
theorem q432 : (Jvm.Cond.selects "Bumpward$Walker" ({ cls := "Bumpward$Walker", name := "comingHome", desc := "()I" } : Jvm.MethodName) ({ cls := "Bumpward$Walker", name := "comingHome", desc := "()I" } : Jvm.MethodName)) ∈ lw_all := lw_g (lw_at lw_m2 144 rfl) rfl
theorem q433 : (Jvm.Cond.code ({ cls := "Bumpward$Walker", name := "comingHome", desc := "()I" } : Jvm.MethodName) prog_10_method_7_code (1 : Nat) (Option.some Jvm.ClassFile.FieldType.int)) ∈ lw_all := lw_g (lw_at lw_m2 145 rfl) rfl
theorem q434 : (Jvm.Cond.methodLink "Bumpward$Walker" (59 : Nat) ({ cls := "Bumpward$Walker", name := "isSure", desc := "()Z" } : Jvm.MethodName)) ∈ lw_all := lw_g (lw_at lw_m2 146 rfl) rfl
theorem q435 : (Jvm.Cond.methodLink "Bumpward$Walker" (60 : Nat) ({ cls := "Bumpward$Walker", name := "sureCell", desc := "()I" } : Jvm.MethodName)) ∈ lw_all := lw_g (lw_at lw_m2 147 rfl) rfl
theorem q436 : (Jvm.Cond.instanceMethod ({ cls := "Bumpward$Walker", name := "sureCell", desc := "()I" } : Jvm.MethodName)) ∈ lw_all := lw_g (lw_at lw_m2 148 rfl) rfl
theorem q437 : (Jvm.Cond.selects "Bumpward$Walker" ({ cls := "Bumpward$Walker", name := "sureCell", desc := "()I" } : Jvm.MethodName) ({ cls := "Bumpward$Walker", name := "sureCell", desc := "()I" } : Jvm.MethodName)) ∈ lw_all := lw_g (lw_at lw_m2 149 rfl) rfl
theorem q438 : (Jvm.Cond.code ({ cls := "Bumpward$Walker", name := "sureCell", desc := "()I" } : Jvm.MethodName) prog_10_method_5_code (1 : Nat) (Option.some Jvm.ClassFile.FieldType.int)) ∈ lw_all := lw_g (lw_at lw_m2 150 rfl) rfl
theorem q439 : (Jvm.Cond.methodLink "Bumpward$Walker" (49 : Nat) ({ cls := "Bumpward$Belief", name := "first", desc := "()I" } : Jvm.MethodName)) ∈ lw_all := lw_g (lw_at lw_m2 151 rfl) rfl
theorem q443 : (Jvm.Cond.methodLink "Bumpward$Walker" (63 : Nat) ({ cls := "Bumpward$Plan", name := "ways", desc := "(I)[I" } : Jvm.MethodName)) ∈ lw_all := lw_g (lw_at lw_m2 155 rfl) rfl
theorem q459 : (Jvm.Cond.instanceMethod ({ cls := "Bumpward$Walker", name := "cost", desc := "()I" } : Jvm.MethodName)) ∈ lw_all := lw_g (lw_at lw_m2 171 rfl) rfl
theorem q460 : (Jvm.Cond.selects "Bumpward$Walker" ({ cls := "Bumpward$Walker", name := "cost", desc := "()I" } : Jvm.MethodName) ({ cls := "Bumpward$Walker", name := "cost", desc := "()I" } : Jvm.MethodName)) ∈ lw_all := lw_g (lw_at lw_m2 172 rfl) rfl
theorem q461 : (Jvm.Cond.code ({ cls := "Bumpward$Walker", name := "cost", desc := "()I" } : Jvm.MethodName) prog_10_method_8_code (1 : Nat) (Option.some Jvm.ClassFile.FieldType.int)) ∈ lw_all := lw_g (lw_at lw_m2 173 rfl) rfl
theorem q462 : (Jvm.Cond.methodLink "Bumpward$Walker" (67 : Nat) ({ cls := "Bumpward$Walker", name := "comingHome", desc := "()I" } : Jvm.MethodName)) ∈ lw_all := lw_g (lw_at lw_m2 174 rfl) rfl
theorem q464 : (Jvm.Cond.instanceMethod ({ cls := "Bumpward$Walker", name := "isSafe", desc := "()Z" } : Jvm.MethodName)) ∈ lw_all := lw_g (lw_at lw_m2 176 rfl) rfl
theorem q465 : (Jvm.Cond.selects "Bumpward$Walker" ({ cls := "Bumpward$Walker", name := "isSafe", desc := "()Z" } : Jvm.MethodName) ({ cls := "Bumpward$Walker", name := "isSafe", desc := "()Z" } : Jvm.MethodName)) ∈ lw_all := lw_g (lw_at lw_m2 177 rfl) rfl
theorem q466 : (Jvm.Cond.code ({ cls := "Bumpward$Walker", name := "isSafe", desc := "()Z" } : Jvm.MethodName) prog_10_method_9_code (1 : Nat) (Option.some Jvm.ClassFile.FieldType.boolean)) ∈ lw_all := lw_g (lw_at lw_m2 178 rfl) rfl
theorem q467 : (Jvm.Cond.methodLink "Bumpward$Walker" (70 : Nat) ({ cls := "Bumpward$Walker", name := "cost", desc := "()I" } : Jvm.MethodName)) ∈ lw_all := lw_g (lw_at lw_m2 179 rfl) rfl
theorem q469 : (Jvm.Cond.instanceMethod ({ cls := "Bumpward$Walker", name := "goal", desc := "()I" } : Jvm.MethodName)) ∈ lw_all := lw_g (lw_at lw_m2 181 rfl) rfl
theorem q470 : (Jvm.Cond.selects "Bumpward$Walker" ({ cls := "Bumpward$Walker", name := "goal", desc := "()I" } : Jvm.MethodName) ({ cls := "Bumpward$Walker", name := "goal", desc := "()I" } : Jvm.MethodName)) ∈ lw_all := lw_g (lw_at lw_m2 182 rfl) rfl
theorem q471 : (Jvm.Cond.code ({ cls := "Bumpward$Walker", name := "goal", desc := "()I" } : Jvm.MethodName) prog_10_method_10_code (4 : Nat) (Option.some Jvm.ClassFile.FieldType.int)) ∈ lw_all := lw_g (lw_at lw_m2 183 rfl) rfl
theorem q472 : (Jvm.Cond.methodLink "Bumpward$Walker" (73 : Nat) ({ cls := "Bumpward$Plan", name := "isOpenEnded", desc := "(I)Z" } : Jvm.MethodName)) ∈ lw_all := lw_g (lw_at lw_m2 184 rfl) rfl
theorem q477 : (Jvm.Cond.instanceMethod ({ cls := "Bumpward$Walker", name := "worst", desc := "(I)I" } : Jvm.MethodName)) ∈ lw_all := lw_g (lw_at lw_m2 189 rfl) rfl
theorem q478 : (Jvm.Cond.selects "Bumpward$Walker" ({ cls := "Bumpward$Walker", name := "worst", desc := "(I)I" } : Jvm.MethodName) ({ cls := "Bumpward$Walker", name := "worst", desc := "(I)I" } : Jvm.MethodName)) ∈ lw_all := lw_g (lw_at lw_m2 190 rfl) rfl
theorem q479 : (Jvm.Cond.code ({ cls := "Bumpward$Walker", name := "worst", desc := "(I)I" } : Jvm.MethodName) prog_10_method_11_code (4 : Nat) (Option.some Jvm.ClassFile.FieldType.int)) ∈ lw_all := lw_g (lw_at lw_m2 191 rfl) rfl
theorem q480 : (Jvm.Cond.methodLink "Bumpward$Walker" (77 : Nat) ({ cls := "Bumpward$Belief", name := "forward", desc := "(LBumpward$Plan;Z)LBumpward$Belief;" } : Jvm.MethodName)) ∈ lw_all := lw_g (lw_at lw_m2 192 rfl) rfl
theorem q500 : (Jvm.Cond.methodLink "Bumpward$Walker" (53 : Nat) ({ cls := "Bumpward$Belief", name := "size", desc := "()I" } : Jvm.MethodName)) ∈ lw_all := lw_g (lw_at lw_m2 212 rfl) rfl
theorem q501 : (Jvm.Cond.methodLink "Bumpward$Walker" (81 : Nat) ({ cls := "java/lang/Math", name := "max", desc := "(II)I" } : Jvm.MethodName)) ∈ lw_all := lw_g (lw_at lw_m2 213 rfl) rfl
theorem q504 : (Jvm.Cond.methodLink "Bumpward$Walker" (87 : Nat) ({ cls := "Bumpward$Belief", name := "felt", desc := "(LBumpward$Plan;I)LBumpward$Belief;" } : Jvm.MethodName)) ∈ lw_all := lw_g (lw_at lw_m2 216 rfl) rfl
theorem q512 : (Jvm.Cond.instanceMethod ({ cls := "Bumpward$Walker", name := "best", desc := "()I" } : Jvm.MethodName)) ∈ lw_all := lw_g (lw_at lw_m2 224 rfl) rfl
theorem q513 : (Jvm.Cond.selects "Bumpward$Walker" ({ cls := "Bumpward$Walker", name := "best", desc := "()I" } : Jvm.MethodName) ({ cls := "Bumpward$Walker", name := "best", desc := "()I" } : Jvm.MethodName)) ∈ lw_all := lw_g (lw_at lw_m2 225 rfl) rfl
theorem q514 : (Jvm.Cond.code ({ cls := "Bumpward$Walker", name := "best", desc := "()I" } : Jvm.MethodName) prog_10_method_12_code (3 : Nat) (Option.some Jvm.ClassFile.FieldType.int)) ∈ lw_all := lw_g (lw_at lw_m2 226 rfl) rfl
theorem q515 : (Jvm.Cond.methodLink "Bumpward$Walker" (91 : Nat) ({ cls := "Bumpward$Walker", name := "worst", desc := "(I)I" } : Jvm.MethodName)) ∈ lw_all := lw_g (lw_at lw_m2 227 rfl) rfl
theorem q739 : (Jvm.Cond.instantiable "Bumpward$Walker" (10 : Nat)) ∈ lw_all := lw_g (lw_at lw_m3 211 rfl) rfl
theorem q741 : (Jvm.Cond.instanceMethod ({ cls := "Bumpward$Walker", name := "<init>", desc := "(IIIZ)V" } : Jvm.MethodName)) ∈ lw_all := lw_g (lw_at lw_m3 213 rfl) rfl
theorem q742 : (Jvm.Cond.code ({ cls := "Bumpward$Walker", name := "<init>", desc := "(IIIZ)V" } : Jvm.MethodName) prog_10_method_1_code (5 : Nat) (Option.none : Option Jvm.ClassFile.FieldType)) ∈ lw_all := lw_g (lw_at lw_m3 214 rfl) rfl
theorem q743 : (Jvm.Cond.methodLink "Bumpward$Walker" (3 : Nat) ({ cls := "java/lang/Object", name := "<init>", desc := "()V" } : Jvm.MethodName)) ∈ lw_all := lw_g (lw_at lw_m3 215 rfl) rfl
theorem q744 : (Jvm.Cond.classLink "Bumpward$Walker" (9 : Nat) "Bumpward$Plan") ∈ lw_all := lw_g (lw_at lw_m3 216 rfl) rfl
theorem q745 : (Jvm.Cond.methodLinkNest "Bumpward$Walker" (11 : Nat) ({ cls := "Bumpward$Plan", name := "<init>", desc := "()V" } : Jvm.MethodName) "Bumpward") ∈ lw_tbl := lw_at lw_m3 217 rfl
theorem q753 : (Jvm.Cond.methodLink "Bumpward$Walker" (31 : Nat) ({ cls := "Bumpward$Belief", name := "of", desc := "(I)LBumpward$Belief;" } : Jvm.MethodName)) ∈ lw_all := lw_g (lw_at lw_m3 225 rfl) rfl
theorem q756 : (Jvm.Cond.methodLink "Bumpward$Walker" (37 : Nat) ({ cls := "Bumpward$Belief", name := "all", desc := "()LBumpward$Belief;" } : Jvm.MethodName)) ∈ lw_all := lw_g (lw_at lw_m3 228 rfl) rfl
theorem q759 : (Jvm.Cond.fieldLink "Bumpward$Walker" (18 : Nat) "Bumpward$Walker" "number" "I") ∈ lw_all := lw_g (lw_at lw_m3 231 rfl) rfl
theorem q761 : (Jvm.Cond.fieldLink "Bumpward$Walker" (28 : Nat) "Bumpward$Walker" "home" "I") ∈ lw_all := lw_g (lw_at lw_m3 233 rfl) rfl
theorem q763 : (Jvm.Cond.fieldLink "Bumpward$Walker" (12 : Nat) "Bumpward$Walker" "plan" "LBumpward$Plan;") ∈ lw_all := lw_g (lw_at lw_m3 235 rfl) rfl
theorem q765 : (Jvm.Cond.fieldLink "Bumpward$Walker" (22 : Nat) "Bumpward$Walker" "pose" "I") ∈ lw_all := lw_g (lw_at lw_m3 237 rfl) rfl
theorem q767 : (Jvm.Cond.fieldLink "Bumpward$Walker" (25 : Nat) "Bumpward$Walker" "charge" "I") ∈ lw_all := lw_g (lw_at lw_m3 239 rfl) rfl
theorem q769 : (Jvm.Cond.fieldLink "Bumpward$Walker" (41 : Nat) "Bumpward$Walker" "belief" "LBumpward$Belief;") ∈ lw_all := lw_g (lw_at lw_m4 1 rfl) rfl
theorem q771 : (Jvm.Cond.fieldLink "Bumpward$Walker" (56 : Nat) "Bumpward$Walker" "lost" "I") ∈ lw_all := lw_g (lw_at lw_m4 3 rfl) rfl
theorem q776 : (Jvm.Cond.laysFinal "Bumpward$Walker" "Bumpward$Walker" "number" "I") ∈ lw_all := lw_g (lw_at lw_m4 8 rfl) rfl
theorem q777 : (Jvm.Cond.soleField "Bumpward$Walker" "number") ∈ lw_all := lw_g (lw_at lw_m4 9 rfl) rfl
theorem q778 : (Jvm.Cond.laysFinal "Bumpward$Walker" "Bumpward$Walker" "home" "I") ∈ lw_all := lw_g (lw_at lw_m4 10 rfl) rfl
theorem q779 : (Jvm.Cond.soleField "Bumpward$Walker" "home") ∈ lw_all := lw_g (lw_at lw_m4 11 rfl) rfl
theorem q780 : (Jvm.Cond.laysFinal "Bumpward$Walker" "Bumpward$Walker" "plan" "LBumpward$Plan;") ∈ lw_all := lw_g (lw_at lw_m4 12 rfl) rfl
theorem q781 : (Jvm.Cond.soleField "Bumpward$Walker" "plan") ∈ lw_all := lw_g (lw_at lw_m4 13 rfl) rfl
theorem q782 : (Jvm.Cond.lays "Bumpward$Walker" "Bumpward$Walker" "pose" "I") ∈ lw_all := lw_g (lw_at lw_m4 14 rfl) rfl
theorem q783 : (Jvm.Cond.soleField "Bumpward$Walker" "pose") ∈ lw_all := lw_g (lw_at lw_m4 15 rfl) rfl
theorem q784 : (Jvm.Cond.lays "Bumpward$Walker" "Bumpward$Walker" "charge" "I") ∈ lw_all := lw_g (lw_at lw_m4 16 rfl) rfl
theorem q785 : (Jvm.Cond.soleField "Bumpward$Walker" "charge") ∈ lw_all := lw_g (lw_at lw_m4 17 rfl) rfl
theorem q786 : (Jvm.Cond.lays "Bumpward$Walker" "Bumpward$Walker" "belief" "LBumpward$Belief;") ∈ lw_all := lw_g (lw_at lw_m4 18 rfl) rfl
theorem q787 : (Jvm.Cond.soleField "Bumpward$Walker" "belief") ∈ lw_all := lw_g (lw_at lw_m4 19 rfl) rfl
theorem q788 : (Jvm.Cond.lays "Bumpward$Walker" "Bumpward$Walker" "lost" "I") ∈ lw_all := lw_g (lw_at lw_m4 20 rfl) rfl
theorem q789 : (Jvm.Cond.soleField "Bumpward$Walker" "lost") ∈ lw_all := lw_g (lw_at lw_m4 21 rfl) rfl
theorem q790 : (Jvm.Cond.lays "Bumpward$Walker" "Bumpward$Walker" "acts" "I") ∈ lw_all := lw_g (lw_at lw_m4 22 rfl) rfl
theorem q791 : (Jvm.Cond.soleField "Bumpward$Walker" "acts") ∈ lw_all := lw_g (lw_at lw_m4 23 rfl) rfl
theorem q792 : (Jvm.Cond.lays "Bumpward$Walker" "Bumpward$Walker" "bumps" "I") ∈ lw_all := lw_g (lw_at lw_m4 24 rfl) rfl
theorem q793 : (Jvm.Cond.soleField "Bumpward$Walker" "bumps") ∈ lw_all := lw_g (lw_at lw_m4 25 rfl) rfl
theorem q794 : (Jvm.Cond.lays "Bumpward$Walker" "Bumpward$Walker" "slips" "I") ∈ lw_all := lw_g (lw_at lw_m4 26 rfl) rfl
theorem q795 : (Jvm.Cond.soleField "Bumpward$Walker" "slips") ∈ lw_all := lw_g (lw_at lw_m4 27 rfl) rfl
theorem q796 : (Jvm.Cond.superclass "Bumpward$Walker" "java/lang/Object") ∈ lw_all := lw_g (lw_at lw_m4 28 rfl) rfl
theorem q836 : (Jvm.Cond.selects "Bumpward$Walker" ({ cls := "java/lang/Object", name := "getClass", desc := "()Ljava/lang/Class;" } : Jvm.MethodName) ({ cls := "java/lang/Object", name := "getClass", desc := "()Ljava/lang/Class;" } : Jvm.MethodName)) ∈ lw_all := lw_g (lw_at lw_m4 68 rfl) rfl
theorem q900 : (Jvm.Cond.instanceMethod ({ cls := "Bumpward$Walker", name := "cell", desc := "()I" } : Jvm.MethodName)) ∈ lw_all := lw_g (lw_at lw_m4 132 rfl) rfl
theorem q901 : (Jvm.Cond.selects "Bumpward$Walker" ({ cls := "Bumpward$Walker", name := "cell", desc := "()I" } : Jvm.MethodName) ({ cls := "Bumpward$Walker", name := "cell", desc := "()I" } : Jvm.MethodName)) ∈ lw_all := lw_g (lw_at lw_m4 133 rfl) rfl
theorem q902 : (Jvm.Cond.code ({ cls := "Bumpward$Walker", name := "cell", desc := "()I" } : Jvm.MethodName) prog_10_method_2_code (1 : Nat) (Option.some Jvm.ClassFile.FieldType.int)) ∈ lw_all := lw_g (lw_at lw_m4 134 rfl) rfl
theorem q904 : (Jvm.Cond.instanceMethod ({ cls := "Bumpward$Walker", name := "facing", desc := "()I" } : Jvm.MethodName)) ∈ lw_all := lw_g (lw_at lw_m4 136 rfl) rfl
theorem q905 : (Jvm.Cond.selects "Bumpward$Walker" ({ cls := "Bumpward$Walker", name := "facing", desc := "()I" } : Jvm.MethodName) ({ cls := "Bumpward$Walker", name := "facing", desc := "()I" } : Jvm.MethodName)) ∈ lw_all := lw_g (lw_at lw_m4 137 rfl) rfl
theorem q906 : (Jvm.Cond.code ({ cls := "Bumpward$Walker", name := "facing", desc := "()I" } : Jvm.MethodName) prog_10_method_3_code (1 : Nat) (Option.some Jvm.ClassFile.FieldType.int)) ∈ lw_all := lw_g (lw_at lw_m4 138 rfl) rfl
theorem q913 : (Jvm.Cond.instanceMethod ({ cls := "Bumpward$Walker", name := "believe", desc := "(LBumpward$Belief;)V" } : Jvm.MethodName)) ∈ lw_all := lw_g (lw_at lw_m4 145 rfl) rfl
theorem q914 : (Jvm.Cond.selects "Bumpward$Walker" ({ cls := "Bumpward$Walker", name := "believe", desc := "(LBumpward$Belief;)V" } : Jvm.MethodName) ({ cls := "Bumpward$Walker", name := "believe", desc := "(LBumpward$Belief;)V" } : Jvm.MethodName)) ∈ lw_all := lw_g (lw_at lw_m4 146 rfl) rfl
theorem q915 : (Jvm.Cond.code ({ cls := "Bumpward$Walker", name := "believe", desc := "(LBumpward$Belief;)V" } : Jvm.MethodName) prog_10_method_6_code (2 : Nat) (Option.none : Option Jvm.ClassFile.FieldType)) ∈ lw_all := lw_g (lw_at lw_m4 147 rfl) rfl
theorem q1807 : (Jvm.Cond.castable "Bumpward$Walker" "java/lang/Object") ∈ lw_tbl := lw_at lw_m8 79 rfl
theorem in_X8 : ∀ w ∈ wsX80, w ∈ lw_all := lw_in wsX80 [776, 778, 780, 782, 784, 786, 788, 790, 792, 794] (by decide +kernel) (by decide +kernel)
/-! BumpwardModel$Walker -/
set_option maxRecDepth 100000
def RX11 : String := "BumpwardModel$Walker"
def TX11 : u_T := fun k => match k with
  | 0 => ("BumpwardModel$Walker", "pose", "I", false)
  | 1 => ("BumpwardModel$Walker", "home", "I", false)
  | 2 => ("BumpwardModel$Walker", "charge", "I", false)
  | 3 => ("BumpwardModel$Walker", "may", "[Z", false)
  | 4 => ("BumpwardModel$Walker", "map", "[[I", true)
  | 5 => ("BumpwardModel$Walker", "lost", "I", false)
  | 6 => ("BumpwardModel$Walker", "acts", "I", false)
  | 7 => ("BumpwardModel$Walker", "bumps", "I", false)
  | _ => ("BumpwardModel$Walker", "slips", "I", false)
def tyX11 : Nat → FieldType := fun k => match k with
  | 0 => .int
  | 1 => .int
  | 2 => .int
  | 3 => .array .boolean
  | 4 => .array (.array .int)
  | 5 => .int
  | 6 => .int
  | 7 => .int
  | _ => .int
abbrev wsX110 : List Cond := u_ws RX11 TX11 9
theorem nmX11 : ∀ a, a < 9 → ∀ b, b < 9 → a ≠ b → (TX11 a).2.1 ≠ (TX11 b).2.1 := by decide +kernel
theorem tyX11_ok : ∀ k, k < 9 → parseFieldDescriptor (TX11 k).2.2.1 = some (tyX11 k) := by decide +kernel
abbrev cX11_init : ByteArray := prog_14_method_1_code
def yX11_init : MethodName := ⟨RX11, "<init>", "()V"⟩
def dkwX11_init_1 : List UInt8 := [177]
abbrev dktX11_init_1 : List UInt8 := dkwX11_init_1 ++ []
def dkwX11_init_0 : List UInt8 := [42, 183, 0, 3, 42, 17, 0, 144, 188, 4, 181, 0, 9, 42, 16, 36, 5, 197, 0, 15, 2, 181, 0, 17]
abbrev dktX11_init_0 : List UInt8 := dkwX11_init_0 ++ dktX11_init_1
theorem dksX11_init_0 : cX11_init.data.toList.drop 0 = dktX11_init_0 := by decide +kernel
theorem dksX11_init_1 : cX11_init.data.toList.drop 24 = dktX11_init_1 := dk_seg dksX11_init_0 24 rfl rfl
theorem dX11_init_0 : decode cX11_init 0 = .ok (.aload_n 0, 1) := dk_42 (dk_at dksX11_init_0 0 rfl rfl)
theorem dX11_init_1 : decode cX11_init 1 = .ok (.invokespecial 3, 3) := dk_183 0 3 (dk_at dksX11_init_0 1 rfl rfl)
theorem dX11_init_4 : decode cX11_init 4 = .ok (.aload_n 0, 1) := dk_42 (dk_at dksX11_init_0 4 rfl rfl)
theorem dX11_init_5 : decode cX11_init 5 = .ok (.sipush 144, 3) := dk_17 0 144 (dk_at dksX11_init_0 5 rfl rfl)
theorem dX11_init_8 : decode cX11_init 8 = .ok (.newarray .boolean, 2) := dk_188_4 (dk_at dksX11_init_0 8 rfl rfl)
theorem dX11_init_10 : decode cX11_init 10 = .ok (.putfield 9, 3) := dk_181 0 9 (dk_at dksX11_init_0 10 rfl rfl)
theorem dX11_init_13 : decode cX11_init 13 = .ok (.aload_n 0, 1) := dk_42 (dk_at dksX11_init_0 13 rfl rfl)
theorem dX11_init_14 : decode cX11_init 14 = .ok (.bipush 36, 2) := dk_16 36 (dk_at dksX11_init_0 14 rfl rfl)
theorem dX11_init_16 : decode cX11_init 16 = .ok (.iconst 2, 1) := dk_5 (dk_at dksX11_init_0 16 rfl rfl)
theorem dX11_init_17 : decode cX11_init 17 = .ok (.multianewarray 15 2, 4) := by decide +kernel
theorem dX11_init_21 : decode cX11_init 21 = .ok (.putfield 17, 3) := dk_181 0 17 (dk_at dksX11_init_0 21 rfl rfl)
theorem dX11_init_24 : decode cX11_init 24 = .ok (.return_, 1) := dk_177 (dk_at dksX11_init_1 0 rfl rfl)
abbrev cX11_sure : ByteArray := prog_14_method_3_code
def yX11_sure : MethodName := ⟨RX11, "sure", "()I"⟩
def dkwX11_sure_1 : List UInt8 := [167, 255, 244, 27, 172]
abbrev dktX11_sure_1 : List UInt8 := dkwX11_sure_1 ++ []
def dkwX11_sure_0 : List UInt8 := [42, 182, 0, 20, 4, 159, 0, 5, 2, 172, 3, 60, 42, 180, 0, 9, 27, 51, 154, 0, 9, 132, 1, 1]
abbrev dktX11_sure_0 : List UInt8 := dkwX11_sure_0 ++ dktX11_sure_1
theorem dksX11_sure_0 : cX11_sure.data.toList.drop 0 = dktX11_sure_0 := by decide +kernel
theorem dksX11_sure_1 : cX11_sure.data.toList.drop 24 = dktX11_sure_1 := dk_seg dksX11_sure_0 24 rfl rfl
theorem dX11_sure_0 : decode cX11_sure 0 = .ok (.aload_n 0, 1) := dk_42 (dk_at dksX11_sure_0 0 rfl rfl)
theorem dX11_sure_1 : decode cX11_sure 1 = .ok (.invokevirtual 20, 3) := dk_182 0 20 (dk_at dksX11_sure_0 1 rfl rfl)
theorem dX11_sure_4 : decode cX11_sure 4 = .ok (.iconst 1, 1) := dk_4 (dk_at dksX11_sure_0 4 rfl rfl)
theorem dX11_sure_5 : decode cX11_sure 5 = .ok (.if_icmp .eq 5, 3) := dk_159 0 5 (dk_at dksX11_sure_0 5 rfl rfl)
theorem dX11_sure_8 : decode cX11_sure 8 = .ok (.iconst (-1), 1) := dk_2 (dk_at dksX11_sure_0 8 rfl rfl)
theorem dX11_sure_9 : decode cX11_sure 9 = .ok (.ireturn, 1) := dk_172 (dk_at dksX11_sure_0 9 rfl rfl)
theorem dX11_sure_10 : decode cX11_sure 10 = .ok (.iconst 0, 1) := dk_3 (dk_at dksX11_sure_0 10 rfl rfl)
theorem dX11_sure_11 : decode cX11_sure 11 = .ok (.istore_n 1, 1) := dk_60 (dk_at dksX11_sure_0 11 rfl rfl)
theorem dX11_sure_12 : decode cX11_sure 12 = .ok (.aload_n 0, 1) := dk_42 (dk_at dksX11_sure_0 12 rfl rfl)
theorem dX11_sure_13 : decode cX11_sure 13 = .ok (.getfield 9, 3) := dk_180 0 9 (dk_at dksX11_sure_0 13 rfl rfl)
theorem dX11_sure_16 : decode cX11_sure 16 = .ok (.iload_n 1, 1) := dk_27 (dk_at dksX11_sure_0 16 rfl rfl)
theorem dX11_sure_17 : decode cX11_sure 17 = .ok (.baload, 1) := dk_51 (dk_at dksX11_sure_0 17 rfl rfl)
theorem dX11_sure_18 : decode cX11_sure 18 = .ok (.ifCond .ne 9, 3) := dk_154 0 9 (dk_at dksX11_sure_0 18 rfl rfl)
theorem dX11_sure_21 : decode cX11_sure 21 = .ok (.iinc 1 1, 3) := dk_132 1 1 (dk_at dksX11_sure_0 21 rfl rfl)
theorem dX11_sure_24 : decode cX11_sure 24 = .ok (.goto (-12), 3) := dk_167 255 244 (dk_at dksX11_sure_1 0 rfl rfl)
theorem dX11_sure_27 : decode cX11_sure 27 = .ok (.iload_n 1, 1) := dk_27 (dk_at dksX11_sure_1 3 rfl rfl)
theorem dX11_sure_28 : decode cX11_sure 28 = .ok (.ireturn, 1) := dk_172 (dk_at dksX11_sure_1 4 rfl rfl)
abbrev cX11_many : ByteArray := prog_14_method_2_code
def yX11_many : MethodName := ⟨RX11, "many", "()I"⟩
def dkwX11_many_1 : List UInt8 := [54, 5, 27, 21, 5, 153, 0, 7, 4, 167, 0, 4, 3, 96, 60, 132, 4, 1, 167, 255, 228, 27, 172]
abbrev dktX11_many_1 : List UInt8 := dkwX11_many_1 ++ []
def dkwX11_many_0 : List UInt8 := [3, 60, 42, 180, 0, 9, 77, 44, 190, 62, 3, 54, 4, 21, 4, 29, 162, 0, 28, 44, 21, 4, 51]
abbrev dktX11_many_0 : List UInt8 := dkwX11_many_0 ++ dktX11_many_1
theorem dksX11_many_0 : cX11_many.data.toList.drop 0 = dktX11_many_0 := by decide +kernel
theorem dksX11_many_1 : cX11_many.data.toList.drop 23 = dktX11_many_1 := dk_seg dksX11_many_0 23 rfl rfl
theorem dX11_many_0 : decode cX11_many 0 = .ok (.iconst 0, 1) := dk_3 (dk_at dksX11_many_0 0 rfl rfl)
theorem dX11_many_1 : decode cX11_many 1 = .ok (.istore_n 1, 1) := dk_60 (dk_at dksX11_many_0 1 rfl rfl)
theorem dX11_many_2 : decode cX11_many 2 = .ok (.aload_n 0, 1) := dk_42 (dk_at dksX11_many_0 2 rfl rfl)
theorem dX11_many_3 : decode cX11_many 3 = .ok (.getfield 9, 3) := dk_180 0 9 (dk_at dksX11_many_0 3 rfl rfl)
theorem dX11_many_6 : decode cX11_many 6 = .ok (.astore_n 2, 1) := dk_77 (dk_at dksX11_many_0 6 rfl rfl)
theorem dX11_many_7 : decode cX11_many 7 = .ok (.aload_n 2, 1) := dk_44 (dk_at dksX11_many_0 7 rfl rfl)
theorem dX11_many_8 : decode cX11_many 8 = .ok (.arraylength, 1) := dk_190 (dk_at dksX11_many_0 8 rfl rfl)
theorem dX11_many_9 : decode cX11_many 9 = .ok (.istore_n 3, 1) := dk_62 (dk_at dksX11_many_0 9 rfl rfl)
theorem dX11_many_10 : decode cX11_many 10 = .ok (.iconst 0, 1) := dk_3 (dk_at dksX11_many_0 10 rfl rfl)
theorem dX11_many_11 : decode cX11_many 11 = .ok (.istore 4, 2) := dk_54 4 (dk_at dksX11_many_0 11 rfl rfl)
theorem dX11_many_13 : decode cX11_many 13 = .ok (.iload 4, 2) := dk_21 4 (dk_at dksX11_many_0 13 rfl rfl)
theorem dX11_many_15 : decode cX11_many 15 = .ok (.iload_n 3, 1) := dk_29 (dk_at dksX11_many_0 15 rfl rfl)
theorem dX11_many_16 : decode cX11_many 16 = .ok (.if_icmp .ge 28, 3) := dk_162 0 28 (dk_at dksX11_many_0 16 rfl rfl)
theorem dX11_many_19 : decode cX11_many 19 = .ok (.aload_n 2, 1) := dk_44 (dk_at dksX11_many_0 19 rfl rfl)
theorem dX11_many_20 : decode cX11_many 20 = .ok (.iload 4, 2) := dk_21 4 (dk_at dksX11_many_0 20 rfl rfl)
theorem dX11_many_22 : decode cX11_many 22 = .ok (.baload, 1) := dk_51 (dk_at dksX11_many_0 22 rfl rfl)
theorem dX11_many_23 : decode cX11_many 23 = .ok (.istore 5, 2) := dk_54 5 (dk_at dksX11_many_1 0 rfl rfl)
theorem dX11_many_25 : decode cX11_many 25 = .ok (.iload_n 1, 1) := dk_27 (dk_at dksX11_many_1 2 rfl rfl)
theorem dX11_many_26 : decode cX11_many 26 = .ok (.iload 5, 2) := dk_21 5 (dk_at dksX11_many_1 3 rfl rfl)
theorem dX11_many_28 : decode cX11_many 28 = .ok (.ifCond .eq 7, 3) := dk_153 0 7 (dk_at dksX11_many_1 5 rfl rfl)
theorem dX11_many_31 : decode cX11_many 31 = .ok (.iconst 1, 1) := dk_4 (dk_at dksX11_many_1 8 rfl rfl)
theorem dX11_many_32 : decode cX11_many 32 = .ok (.goto 4, 3) := dk_167 0 4 (dk_at dksX11_many_1 9 rfl rfl)
theorem dX11_many_35 : decode cX11_many 35 = .ok (.iconst 0, 1) := dk_3 (dk_at dksX11_many_1 12 rfl rfl)
theorem dX11_many_36 : decode cX11_many 36 = .ok (.iadd, 1) := dk_96 (dk_at dksX11_many_1 13 rfl rfl)
theorem dX11_many_37 : decode cX11_many 37 = .ok (.istore_n 1, 1) := dk_60 (dk_at dksX11_many_1 14 rfl rfl)
theorem dX11_many_38 : decode cX11_many 38 = .ok (.iinc 4 1, 3) := dk_132 4 1 (dk_at dksX11_many_1 15 rfl rfl)
theorem dX11_many_41 : decode cX11_many 41 = .ok (.goto (-28), 3) := dk_167 255 228 (dk_at dksX11_many_1 18 rfl rfl)
theorem dX11_many_44 : decode cX11_many 44 = .ok (.iload_n 1, 1) := dk_27 (dk_at dksX11_many_1 21 rfl rfl)
theorem dX11_many_45 : decode cX11_many 45 = .ok (.ireturn, 1) := dk_172 (dk_at dksX11_many_1 22 rfl rfl)
abbrev cX11_cell : ByteArray := prog_14_method_4_code
def yX11_cell : MethodName := ⟨RX11, "cell", "()I"⟩
def dkwX11_cell_0 : List UInt8 := [42, 180, 0, 24, 7, 108, 172]
abbrev dktX11_cell_0 : List UInt8 := dkwX11_cell_0 ++ []
theorem dksX11_cell_0 : cX11_cell.data.toList.drop 0 = dktX11_cell_0 := by decide +kernel
theorem dX11_cell_0 : decode cX11_cell 0 = .ok (.aload_n 0, 1) := dk_42 (dk_at dksX11_cell_0 0 rfl rfl)
theorem dX11_cell_1 : decode cX11_cell 1 = .ok (.getfield 24, 3) := dk_180 0 24 (dk_at dksX11_cell_0 1 rfl rfl)
theorem dX11_cell_4 : decode cX11_cell 4 = .ok (.iconst 4, 1) := dk_7 (dk_at dksX11_cell_0 4 rfl rfl)
theorem dX11_cell_5 : decode cX11_cell 5 = .ok (.idiv, 1) := dk_108 (dk_at dksX11_cell_0 5 rfl rfl)
theorem dX11_cell_6 : decode cX11_cell 6 = .ok (.ireturn, 1) := dk_172 (dk_at dksX11_cell_0 6 rfl rfl)
theorem q77 : (Jvm.Cond.initialized "BumpwardModel$Walker") ∈ lw_all := lw_g (lw_at lw_m1 29 rfl) rfl
theorem q839 : (Jvm.Cond.selects "BumpwardModel$Walker" ({ cls := "java/lang/Object", name := "getClass", desc := "()Ljava/lang/Class;" } : Jvm.MethodName) ({ cls := "java/lang/Object", name := "getClass", desc := "()Ljava/lang/Class;" } : Jvm.MethodName)) ∈ lw_all := lw_g (lw_at lw_m4 71 rfl) rfl
theorem q1465 : (Jvm.Cond.instantiable "BumpwardModel$Walker" (9 : Nat)) ∈ lw_all := lw_g (lw_at lw_m6 217 rfl) rfl
theorem q1467 : (Jvm.Cond.instanceMethod ({ cls := "BumpwardModel$Walker", name := "<init>", desc := "()V" } : Jvm.MethodName)) ∈ lw_all := lw_g (lw_at lw_m6 219 rfl) rfl
theorem q1468 : (Jvm.Cond.code ({ cls := "BumpwardModel$Walker", name := "<init>", desc := "()V" } : Jvm.MethodName) prog_14_method_1_code (1 : Nat) (Option.none : Option Jvm.ClassFile.FieldType)) ∈ lw_all := lw_g (lw_at lw_m6 220 rfl) rfl
theorem q1469 : (Jvm.Cond.methodLink "BumpwardModel$Walker" (3 : Nat) ({ cls := "java/lang/Object", name := "<init>", desc := "()V" } : Jvm.MethodName)) ∈ lw_all := lw_g (lw_at lw_m6 221 rfl) rfl
theorem q1470 : (Jvm.Cond.classLink "BumpwardModel$Walker" (15 : Nat) "[[I") ∈ lw_all := lw_g (lw_at lw_m6 222 rfl) rfl
theorem q1471 : (Jvm.Cond.fieldLink "BumpwardModel$Walker" (24 : Nat) "BumpwardModel$Walker" "pose" "I") ∈ lw_all := lw_g (lw_at lw_m6 223 rfl) rfl
theorem q1475 : (Jvm.Cond.fieldLink "BumpwardModel$Walker" (9 : Nat) "BumpwardModel$Walker" "may" "[Z") ∈ lw_all := lw_g (lw_at lw_m6 227 rfl) rfl
theorem q1477 : (Jvm.Cond.fieldLink "BumpwardModel$Walker" (17 : Nat) "BumpwardModel$Walker" "map" "[[I") ∈ lw_all := lw_g (lw_at lw_m6 229 rfl) rfl
theorem q1483 : (Jvm.Cond.lays "BumpwardModel$Walker" "BumpwardModel$Walker" "pose" "I") ∈ lw_all := lw_g (lw_at lw_m6 235 rfl) rfl
theorem q1484 : (Jvm.Cond.soleField "BumpwardModel$Walker" "pose") ∈ lw_all := lw_g (lw_at lw_m6 236 rfl) rfl
theorem q1485 : (Jvm.Cond.lays "BumpwardModel$Walker" "BumpwardModel$Walker" "home" "I") ∈ lw_all := lw_g (lw_at lw_m6 237 rfl) rfl
theorem q1486 : (Jvm.Cond.soleField "BumpwardModel$Walker" "home") ∈ lw_all := lw_g (lw_at lw_m6 238 rfl) rfl
theorem q1487 : (Jvm.Cond.lays "BumpwardModel$Walker" "BumpwardModel$Walker" "charge" "I") ∈ lw_all := lw_g (lw_at lw_m6 239 rfl) rfl
theorem q1488 : (Jvm.Cond.soleField "BumpwardModel$Walker" "charge") ∈ lw_all := lw_g (lw_at lw_m7 0 rfl) rfl
theorem q1489 : (Jvm.Cond.lays "BumpwardModel$Walker" "BumpwardModel$Walker" "may" "[Z") ∈ lw_all := lw_g (lw_at lw_m7 1 rfl) rfl
theorem q1490 : (Jvm.Cond.soleField "BumpwardModel$Walker" "may") ∈ lw_all := lw_g (lw_at lw_m7 2 rfl) rfl
theorem q1491 : (Jvm.Cond.laysFinal "BumpwardModel$Walker" "BumpwardModel$Walker" "map" "[[I") ∈ lw_all := lw_g (lw_at lw_m7 3 rfl) rfl
theorem q1492 : (Jvm.Cond.soleField "BumpwardModel$Walker" "map") ∈ lw_all := lw_g (lw_at lw_m7 4 rfl) rfl
theorem q1493 : (Jvm.Cond.lays "BumpwardModel$Walker" "BumpwardModel$Walker" "lost" "I") ∈ lw_all := lw_g (lw_at lw_m7 5 rfl) rfl
theorem q1494 : (Jvm.Cond.soleField "BumpwardModel$Walker" "lost") ∈ lw_all := lw_g (lw_at lw_m7 6 rfl) rfl
theorem q1495 : (Jvm.Cond.lays "BumpwardModel$Walker" "BumpwardModel$Walker" "acts" "I") ∈ lw_all := lw_g (lw_at lw_m7 7 rfl) rfl
theorem q1496 : (Jvm.Cond.soleField "BumpwardModel$Walker" "acts") ∈ lw_all := lw_g (lw_at lw_m7 8 rfl) rfl
theorem q1497 : (Jvm.Cond.lays "BumpwardModel$Walker" "BumpwardModel$Walker" "bumps" "I") ∈ lw_all := lw_g (lw_at lw_m7 9 rfl) rfl
theorem q1498 : (Jvm.Cond.soleField "BumpwardModel$Walker" "bumps") ∈ lw_all := lw_g (lw_at lw_m7 10 rfl) rfl
theorem q1499 : (Jvm.Cond.lays "BumpwardModel$Walker" "BumpwardModel$Walker" "slips" "I") ∈ lw_all := lw_g (lw_at lw_m7 11 rfl) rfl
theorem q1500 : (Jvm.Cond.soleField "BumpwardModel$Walker" "slips") ∈ lw_all := lw_g (lw_at lw_m7 12 rfl) rfl
theorem q1501 : (Jvm.Cond.superclass "BumpwardModel$Walker" "java/lang/Object") ∈ lw_all := lw_g (lw_at lw_m7 13 rfl) rfl
theorem q1516 : (Jvm.Cond.instanceMethod ({ cls := "BumpwardModel$Walker", name := "sure", desc := "()I" } : Jvm.MethodName)) ∈ lw_all := lw_g (lw_at lw_m7 28 rfl) rfl
theorem q1517 : (Jvm.Cond.selects "BumpwardModel$Walker" ({ cls := "BumpwardModel$Walker", name := "sure", desc := "()I" } : Jvm.MethodName) ({ cls := "BumpwardModel$Walker", name := "sure", desc := "()I" } : Jvm.MethodName)) ∈ lw_all := lw_g (lw_at lw_m7 29 rfl) rfl
theorem q1518 : (Jvm.Cond.code ({ cls := "BumpwardModel$Walker", name := "sure", desc := "()I" } : Jvm.MethodName) prog_14_method_3_code (2 : Nat) (Option.some Jvm.ClassFile.FieldType.int)) ∈ lw_all := lw_g (lw_at lw_m7 30 rfl) rfl
theorem q1519 : (Jvm.Cond.methodLink "BumpwardModel$Walker" (20 : Nat) ({ cls := "BumpwardModel$Walker", name := "many", desc := "()I" } : Jvm.MethodName)) ∈ lw_all := lw_g (lw_at lw_m7 31 rfl) rfl
theorem q1520 : (Jvm.Cond.instanceMethod ({ cls := "BumpwardModel$Walker", name := "many", desc := "()I" } : Jvm.MethodName)) ∈ lw_all := lw_g (lw_at lw_m7 32 rfl) rfl
theorem q1521 : (Jvm.Cond.selects "BumpwardModel$Walker" ({ cls := "BumpwardModel$Walker", name := "many", desc := "()I" } : Jvm.MethodName) ({ cls := "BumpwardModel$Walker", name := "many", desc := "()I" } : Jvm.MethodName)) ∈ lw_all := lw_g (lw_at lw_m7 33 rfl) rfl
theorem q1522 : (Jvm.Cond.code ({ cls := "BumpwardModel$Walker", name := "many", desc := "()I" } : Jvm.MethodName) prog_14_method_2_code (6 : Nat) (Option.some Jvm.ClassFile.FieldType.int)) ∈ lw_all := lw_g (lw_at lw_m7 34 rfl) rfl
theorem q1547 : (Jvm.Cond.instanceMethod ({ cls := "BumpwardModel$Walker", name := "cell", desc := "()I" } : Jvm.MethodName)) ∈ lw_all := lw_g (lw_at lw_m7 59 rfl) rfl
theorem q1548 : (Jvm.Cond.selects "BumpwardModel$Walker" ({ cls := "BumpwardModel$Walker", name := "cell", desc := "()I" } : Jvm.MethodName) ({ cls := "BumpwardModel$Walker", name := "cell", desc := "()I" } : Jvm.MethodName)) ∈ lw_all := lw_g (lw_at lw_m7 60 rfl) rfl
theorem q1549 : (Jvm.Cond.code ({ cls := "BumpwardModel$Walker", name := "cell", desc := "()I" } : Jvm.MethodName) prog_14_method_4_code (1 : Nat) (Option.some Jvm.ClassFile.FieldType.int)) ∈ lw_all := lw_g (lw_at lw_m7 61 rfl) rfl
theorem q1810 : (Jvm.Cond.castable "BumpwardModel$Walker" "java/lang/Object") ∈ lw_tbl := lw_at lw_m8 82 rfl
theorem in_X11 : ∀ w ∈ wsX110, w ∈ lw_all := lw_in wsX110 [1483, 1485, 1487, 1489, 1491, 1493, 1495, 1497, 1499] (by decide +kernel) (by decide +kernel)
/-! Bumpward$Kind$1 -/
set_option maxRecDepth 100000
def RX12 : String := "Bumpward$Kind$1"
abbrev cX12_isShut : ByteArray := prog_6_method_2_code
def yX12_isShut : MethodName := ⟨RX12, "isShut", "(II)Z"⟩
theorem dX12_isShut_0 : decode cX12_isShut 0 = .ok (.iconst 0, 1) := by decide +kernel
theorem dX12_isShut_1 : decode cX12_isShut 1 = .ok (.ireturn, 1) := by decide +kernel
theorem q284 : (Jvm.Cond.selects "Bumpward$Kind$1" ({ cls := "Bumpward$Kind", name := "isShut", desc := "(II)Z" } : Jvm.MethodName) ({ cls := "Bumpward$Kind$1", name := "isShut", desc := "(II)Z" } : Jvm.MethodName)) ∈ lw_all := lw_g (lw_at lw_m1 236 rfl) rfl
theorem q285 : (Jvm.Cond.instanceMethod ({ cls := "Bumpward$Kind$1", name := "isShut", desc := "(II)Z" } : Jvm.MethodName)) ∈ lw_all := lw_g (lw_at lw_m1 237 rfl) rfl
theorem q286 : (Jvm.Cond.code ({ cls := "Bumpward$Kind$1", name := "isShut", desc := "(II)Z" } : Jvm.MethodName) prog_6_method_2_code (3 : Nat) (Option.some Jvm.ClassFile.FieldType.boolean)) ∈ lw_all := lw_g (lw_at lw_m1 238 rfl) rfl
theorem q402 : (Jvm.Cond.selects "Bumpward$Kind$1" ({ cls := "Bumpward$Kind", name := "ordinal", desc := "()I" } : Jvm.MethodName) ({ cls := "java/lang/Enum", name := "ordinal", desc := "()I" } : Jvm.MethodName)) ∈ lw_all := lw_g (lw_at lw_m2 114 rfl) rfl
theorem q832 : (Jvm.Cond.selects "Bumpward$Kind$1" ({ cls := "java/lang/Object", name := "getClass", desc := "()Ljava/lang/Class;" } : Jvm.MethodName) ({ cls := "java/lang/Object", name := "getClass", desc := "()Ljava/lang/Class;" } : Jvm.MethodName)) ∈ lw_all := lw_g (lw_at lw_m4 64 rfl) rfl
theorem q1798 : (Jvm.Cond.castable "Bumpward$Kind$1" "java/lang/Object") ∈ lw_tbl := lw_at lw_m8 70 rfl
theorem q1815 : (Jvm.Cond.castable "Bumpward$Kind$1" "Bumpward$Kind") ∈ lw_tbl := lw_at lw_m8 87 rfl
/-! Bumpward$Kind$2 -/
set_option maxRecDepth 100000
def RX13 : String := "Bumpward$Kind$2"
abbrev cX13_isShut : ByteArray := prog_7_method_2_code
def yX13_isShut : MethodName := ⟨RX13, "isShut", "(II)Z"⟩
def dkwX13_isShut_0 : List UInt8 := [27, 28, 122, 4, 126, 154, 0, 7, 4, 167, 0, 4, 3, 172]
abbrev dktX13_isShut_0 : List UInt8 := dkwX13_isShut_0 ++ []
theorem dksX13_isShut_0 : cX13_isShut.data.toList.drop 0 = dktX13_isShut_0 := by decide +kernel
theorem dX13_isShut_0 : decode cX13_isShut 0 = .ok (.iload_n 1, 1) := dk_27 (dk_at dksX13_isShut_0 0 rfl rfl)
theorem dX13_isShut_1 : decode cX13_isShut 1 = .ok (.iload_n 2, 1) := dk_28 (dk_at dksX13_isShut_0 1 rfl rfl)
theorem dX13_isShut_2 : decode cX13_isShut 2 = .ok (.ishr, 1) := dk_122 (dk_at dksX13_isShut_0 2 rfl rfl)
theorem dX13_isShut_3 : decode cX13_isShut 3 = .ok (.iconst 1, 1) := dk_4 (dk_at dksX13_isShut_0 3 rfl rfl)
theorem dX13_isShut_4 : decode cX13_isShut 4 = .ok (.iand, 1) := dk_126 (dk_at dksX13_isShut_0 4 rfl rfl)
theorem dX13_isShut_5 : decode cX13_isShut 5 = .ok (.ifCond .ne 7, 3) := dk_154 0 7 (dk_at dksX13_isShut_0 5 rfl rfl)
theorem dX13_isShut_8 : decode cX13_isShut 8 = .ok (.iconst 1, 1) := dk_4 (dk_at dksX13_isShut_0 8 rfl rfl)
theorem dX13_isShut_9 : decode cX13_isShut 9 = .ok (.goto 4, 3) := dk_167 0 4 (dk_at dksX13_isShut_0 9 rfl rfl)
theorem dX13_isShut_12 : decode cX13_isShut 12 = .ok (.iconst 0, 1) := dk_3 (dk_at dksX13_isShut_0 12 rfl rfl)
theorem dX13_isShut_13 : decode cX13_isShut 13 = .ok (.ireturn, 1) := dk_172 (dk_at dksX13_isShut_0 13 rfl rfl)
theorem q287 : (Jvm.Cond.selects "Bumpward$Kind$2" ({ cls := "Bumpward$Kind", name := "isShut", desc := "(II)Z" } : Jvm.MethodName) ({ cls := "Bumpward$Kind$2", name := "isShut", desc := "(II)Z" } : Jvm.MethodName)) ∈ lw_all := lw_g (lw_at lw_m1 239 rfl) rfl
theorem q288 : (Jvm.Cond.instanceMethod ({ cls := "Bumpward$Kind$2", name := "isShut", desc := "(II)Z" } : Jvm.MethodName)) ∈ lw_all := lw_g (lw_at lw_m2 0 rfl) rfl
theorem q289 : (Jvm.Cond.code ({ cls := "Bumpward$Kind$2", name := "isShut", desc := "(II)Z" } : Jvm.MethodName) prog_7_method_2_code (3 : Nat) (Option.some Jvm.ClassFile.FieldType.boolean)) ∈ lw_all := lw_g (lw_at lw_m2 1 rfl) rfl
theorem q403 : (Jvm.Cond.selects "Bumpward$Kind$2" ({ cls := "Bumpward$Kind", name := "ordinal", desc := "()I" } : Jvm.MethodName) ({ cls := "java/lang/Enum", name := "ordinal", desc := "()I" } : Jvm.MethodName)) ∈ lw_all := lw_g (lw_at lw_m2 115 rfl) rfl
theorem q833 : (Jvm.Cond.selects "Bumpward$Kind$2" ({ cls := "java/lang/Object", name := "getClass", desc := "()Ljava/lang/Class;" } : Jvm.MethodName) ({ cls := "java/lang/Object", name := "getClass", desc := "()Ljava/lang/Class;" } : Jvm.MethodName)) ∈ lw_all := lw_g (lw_at lw_m4 65 rfl) rfl
theorem q1805 : (Jvm.Cond.castable "Bumpward$Kind$2" "java/lang/Object") ∈ lw_tbl := lw_at lw_m8 77 rfl
theorem q1816 : (Jvm.Cond.castable "Bumpward$Kind$2" "Bumpward$Kind") ∈ lw_tbl := lw_at lw_m8 88 rfl
/-! BumpwardLaw$Out -/
set_option maxRecDepth 100000
def RX7 : String := "BumpwardLaw$Out"
def TX7 : u_T := fun k => match k with
  | 0 => ("BumpwardLaw$Out", "n", "J", false)
  | 1 => ("BumpwardLaw$Out", "d", "D", false)
  | _ => ("BumpwardLaw$Out", "s", "Ljava/lang/String;", false)
def tyX7 : Nat → FieldType := fun k => match k with
  | 0 => .long
  | 1 => .double
  | _ => .object "java/lang/String"
abbrev wsX70 : List Cond := u_ws RX7 TX7 3
theorem nmX7 : ∀ a, a < 3 → ∀ b, b < 3 → a ≠ b → (TX7 a).2.1 ≠ (TX7 b).2.1 := by decide +kernel
theorem tyX7_ok : ∀ k, k < 3 → parseFieldDescriptor (TX7 k).2.2.1 = some (tyX7 k) := by decide +kernel
abbrev cX7_init : ByteArray := prog_12_method_1_code
def yX7_init : MethodName := ⟨RX7, "<init>", "()V"⟩
theorem dX7_init_0 : decode cX7_init 0 = .ok (.aload_n 0, 1) := by decide +kernel
theorem dX7_init_1 : decode cX7_init 1 = .ok (.invokespecial 1, 3) := by decide +kernel
theorem dX7_init_4 : decode cX7_init 4 = .ok (.return_, 1) := by decide +kernel
theorem q59 : (Jvm.Cond.initialized "BumpwardLaw$Out") ∈ lw_all := lw_g (lw_at lw_m1 11 rfl) rfl
theorem q529 : (Jvm.Cond.instantiable "BumpwardLaw$Out" (3 : Nat)) ∈ lw_all := lw_g (lw_at lw_m3 1 rfl) rfl
theorem q531 : (Jvm.Cond.instanceMethod ({ cls := "BumpwardLaw$Out", name := "<init>", desc := "()V" } : Jvm.MethodName)) ∈ lw_all := lw_g (lw_at lw_m3 3 rfl) rfl
theorem q532 : (Jvm.Cond.code ({ cls := "BumpwardLaw$Out", name := "<init>", desc := "()V" } : Jvm.MethodName) prog_12_method_1_code (1 : Nat) (Option.none : Option Jvm.ClassFile.FieldType)) ∈ lw_all := lw_g (lw_at lw_m3 4 rfl) rfl
theorem q533 : (Jvm.Cond.methodLink "BumpwardLaw$Out" (1 : Nat) ({ cls := "java/lang/Object", name := "<init>", desc := "()V" } : Jvm.MethodName)) ∈ lw_all := lw_g (lw_at lw_m3 5 rfl) rfl
theorem q537 : (Jvm.Cond.lays "BumpwardLaw$Out" "BumpwardLaw$Out" "n" "J") ∈ lw_all := lw_g (lw_at lw_m3 9 rfl) rfl
theorem q538 : (Jvm.Cond.soleField "BumpwardLaw$Out" "n") ∈ lw_all := lw_g (lw_at lw_m3 10 rfl) rfl
theorem q539 : (Jvm.Cond.lays "BumpwardLaw$Out" "BumpwardLaw$Out" "d" "D") ∈ lw_all := lw_g (lw_at lw_m3 11 rfl) rfl
theorem q540 : (Jvm.Cond.soleField "BumpwardLaw$Out" "d") ∈ lw_all := lw_g (lw_at lw_m3 12 rfl) rfl
theorem q541 : (Jvm.Cond.lays "BumpwardLaw$Out" "BumpwardLaw$Out" "s" "Ljava/lang/String;") ∈ lw_all := lw_g (lw_at lw_m3 13 rfl) rfl
theorem q542 : (Jvm.Cond.soleField "BumpwardLaw$Out" "s") ∈ lw_all := lw_g (lw_at lw_m3 14 rfl) rfl
theorem q543 : (Jvm.Cond.superclass "BumpwardLaw$Out" "java/lang/Object") ∈ lw_all := lw_g (lw_at lw_m3 15 rfl) rfl
theorem q837 : (Jvm.Cond.selects "BumpwardLaw$Out" ({ cls := "java/lang/Object", name := "getClass", desc := "()Ljava/lang/Class;" } : Jvm.MethodName) ({ cls := "java/lang/Object", name := "getClass", desc := "()Ljava/lang/Class;" } : Jvm.MethodName)) ∈ lw_all := lw_g (lw_at lw_m4 69 rfl) rfl
theorem q1800 : (Jvm.Cond.castable "BumpwardLaw$Out" "java/lang/Object") ∈ lw_tbl := lw_at lw_m8 72 rfl
theorem in_X7 : ∀ w ∈ wsX70, w ∈ lw_all := lw_in wsX70 [537, 539, 541] (by decide +kernel) (by decide +kernel)
/-! Bumpward -/
set_option maxRecDepth 100000
def RX1 : String := "Bumpward"
def TX1 : u_T := fun k => match k with
  | 0 => ("Bumpward", "edges", "[LBumpward$Edge;", true)
  | 1 => ("Bumpward", "areCarpet", "[Z", true)
  | 2 => ("Bumpward", "areBarred", "[Z", true)
  | 3 => ("Bumpward", "walkers", "Ljava/util/ArrayList;", true)
  | 4 => ("Bumpward", "draws", "LBumpward$Draws;", true)
  | 5 => ("Bumpward", "porter", "LBumpward$Porter;", true)
  | 6 => ("Bumpward", "minute", "I", false)
  | 7 => ("Bumpward", "meetings", "I", false)
  | 8 => ("Bumpward", "disputes", "I", false)
  | _ => ("Bumpward", "d", "J", false)
def tyX1 : Nat → FieldType := fun k => match k with
  | 0 => .array (.object "Bumpward$Edge")
  | 1 => .array .boolean
  | 2 => .array .boolean
  | 3 => .object "java/util/ArrayList"
  | 4 => .object "Bumpward$Draws"
  | 5 => .object "Bumpward$Porter"
  | 6 => .int
  | 7 => .int
  | 8 => .int
  | _ => .long
abbrev wsX10 : List Cond := u_ws RX1 TX1 10
theorem nmX1 : ∀ a, a < 10 → ∀ b, b < 10 → a ≠ b → (TX1 a).2.1 ≠ (TX1 b).2.1 := by decide +kernel
theorem tyX1_ok : ∀ k, k < 10 → parseFieldDescriptor (TX1 k).2.2.1 = some (tyX1 k) := by decide +kernel
abbrev cX1_init : ByteArray := prog_1_method_6_code
def yX1_init : MethodName := ⟨RX1, "<init>", "()V"⟩
def dkwX1_init_3 : List UInt8 := [180, 0, 28, 27, 187, 0, 26, 89, 183, 0, 60, 83, 132, 1, 1, 167, 255, 234, 177]
abbrev dktX1_init_3 : List UInt8 := dkwX1_init_3 ++ []
def dkwX1_init_2 : List UInt8 := [181, 0, 49, 42, 187, 0, 53, 89, 183, 0, 55, 181, 0, 56, 3, 60, 27, 16, 60, 162, 0, 22, 42]
abbrev dktX1_init_2 : List UInt8 := dkwX1_init_2 ++ dktX1_init_3
def dkwX1_init_1 : List UInt8 := [188, 4, 181, 0, 36, 42, 187, 0, 39, 89, 183, 0, 41, 181, 0, 42, 42, 187, 0, 46, 89, 183, 0, 48]
abbrev dktX1_init_1 : List UInt8 := dkwX1_init_1 ++ dktX1_init_2
def dkwX1_init_0 : List UInt8 := [42, 183, 0, 20, 42, 16, 60, 189, 0, 26, 181, 0, 28, 42, 16, 36, 188, 4, 181, 0, 32, 42, 16, 36]
abbrev dktX1_init_0 : List UInt8 := dkwX1_init_0 ++ dktX1_init_1
theorem dksX1_init_0 : cX1_init.data.toList.drop 0 = dktX1_init_0 := by decide +kernel
theorem dksX1_init_1 : cX1_init.data.toList.drop 24 = dktX1_init_1 := dk_seg dksX1_init_0 24 rfl rfl
theorem dksX1_init_2 : cX1_init.data.toList.drop 48 = dktX1_init_2 := dk_seg dksX1_init_1 24 rfl rfl
theorem dksX1_init_3 : cX1_init.data.toList.drop 71 = dktX1_init_3 := dk_seg dksX1_init_2 23 rfl rfl
theorem dX1_init_0 : decode cX1_init 0 = .ok (.aload_n 0, 1) := dk_42 (dk_at dksX1_init_0 0 rfl rfl)
theorem dX1_init_1 : decode cX1_init 1 = .ok (.invokespecial 20, 3) := dk_183 0 20 (dk_at dksX1_init_0 1 rfl rfl)
theorem dX1_init_4 : decode cX1_init 4 = .ok (.aload_n 0, 1) := dk_42 (dk_at dksX1_init_0 4 rfl rfl)
theorem dX1_init_5 : decode cX1_init 5 = .ok (.bipush 60, 2) := dk_16 60 (dk_at dksX1_init_0 5 rfl rfl)
theorem dX1_init_7 : decode cX1_init 7 = .ok (.anewarray 26, 3) := dk_189 0 26 (dk_at dksX1_init_0 7 rfl rfl)
theorem dX1_init_10 : decode cX1_init 10 = .ok (.putfield 28, 3) := dk_181 0 28 (dk_at dksX1_init_0 10 rfl rfl)
theorem dX1_init_13 : decode cX1_init 13 = .ok (.aload_n 0, 1) := dk_42 (dk_at dksX1_init_0 13 rfl rfl)
theorem dX1_init_14 : decode cX1_init 14 = .ok (.bipush 36, 2) := dk_16 36 (dk_at dksX1_init_0 14 rfl rfl)
theorem dX1_init_16 : decode cX1_init 16 = .ok (.newarray .boolean, 2) := dk_188_4 (dk_at dksX1_init_0 16 rfl rfl)
theorem dX1_init_18 : decode cX1_init 18 = .ok (.putfield 32, 3) := dk_181 0 32 (dk_at dksX1_init_0 18 rfl rfl)
theorem dX1_init_21 : decode cX1_init 21 = .ok (.aload_n 0, 1) := dk_42 (dk_at dksX1_init_0 21 rfl rfl)
theorem dX1_init_22 : decode cX1_init 22 = .ok (.bipush 36, 2) := dk_16 36 (dk_at dksX1_init_0 22 rfl rfl)
theorem dX1_init_24 : decode cX1_init 24 = .ok (.newarray .boolean, 2) := dk_188_4 (dk_at dksX1_init_1 0 rfl rfl)
theorem dX1_init_26 : decode cX1_init 26 = .ok (.putfield 36, 3) := dk_181 0 36 (dk_at dksX1_init_1 2 rfl rfl)
theorem dX1_init_29 : decode cX1_init 29 = .ok (.aload_n 0, 1) := dk_42 (dk_at dksX1_init_1 5 rfl rfl)
theorem dX1_init_30 : decode cX1_init 30 = .ok (.new 39, 3) := dk_187 0 39 (dk_at dksX1_init_1 6 rfl rfl)
theorem dX1_init_33 : decode cX1_init 33 = .ok (.dup, 1) := dk_89 (dk_at dksX1_init_1 9 rfl rfl)
theorem dX1_init_34 : decode cX1_init 34 = .ok (.invokespecial 41, 3) := dk_183 0 41 (dk_at dksX1_init_1 10 rfl rfl)
theorem dX1_init_37 : decode cX1_init 37 = .ok (.putfield 42, 3) := dk_181 0 42 (dk_at dksX1_init_1 13 rfl rfl)
theorem dX1_init_40 : decode cX1_init 40 = .ok (.aload_n 0, 1) := dk_42 (dk_at dksX1_init_1 16 rfl rfl)
theorem dX1_init_41 : decode cX1_init 41 = .ok (.new 46, 3) := dk_187 0 46 (dk_at dksX1_init_1 17 rfl rfl)
theorem dX1_init_44 : decode cX1_init 44 = .ok (.dup, 1) := dk_89 (dk_at dksX1_init_1 20 rfl rfl)
theorem dX1_init_45 : decode cX1_init 45 = .ok (.invokespecial 48, 3) := dk_183 0 48 (dk_at dksX1_init_1 21 rfl rfl)
theorem dX1_init_48 : decode cX1_init 48 = .ok (.putfield 49, 3) := dk_181 0 49 (dk_at dksX1_init_2 0 rfl rfl)
theorem dX1_init_51 : decode cX1_init 51 = .ok (.aload_n 0, 1) := dk_42 (dk_at dksX1_init_2 3 rfl rfl)
theorem dX1_init_52 : decode cX1_init 52 = .ok (.new 53, 3) := dk_187 0 53 (dk_at dksX1_init_2 4 rfl rfl)
theorem dX1_init_55 : decode cX1_init 55 = .ok (.dup, 1) := dk_89 (dk_at dksX1_init_2 7 rfl rfl)
theorem dX1_init_56 : decode cX1_init 56 = .ok (.invokespecial 55, 3) := dk_183 0 55 (dk_at dksX1_init_2 8 rfl rfl)
theorem dX1_init_59 : decode cX1_init 59 = .ok (.putfield 56, 3) := dk_181 0 56 (dk_at dksX1_init_2 11 rfl rfl)
theorem dX1_init_62 : decode cX1_init 62 = .ok (.iconst 0, 1) := dk_3 (dk_at dksX1_init_2 14 rfl rfl)
theorem dX1_init_63 : decode cX1_init 63 = .ok (.istore_n 1, 1) := dk_60 (dk_at dksX1_init_2 15 rfl rfl)
theorem dX1_init_64 : decode cX1_init 64 = .ok (.iload_n 1, 1) := dk_27 (dk_at dksX1_init_2 16 rfl rfl)
theorem dX1_init_65 : decode cX1_init 65 = .ok (.bipush 60, 2) := dk_16 60 (dk_at dksX1_init_2 17 rfl rfl)
theorem dX1_init_67 : decode cX1_init 67 = .ok (.if_icmp .ge 22, 3) := dk_162 0 22 (dk_at dksX1_init_2 19 rfl rfl)
theorem dX1_init_70 : decode cX1_init 70 = .ok (.aload_n 0, 1) := dk_42 (dk_at dksX1_init_2 22 rfl rfl)
theorem dX1_init_71 : decode cX1_init 71 = .ok (.getfield 28, 3) := dk_180 0 28 (dk_at dksX1_init_3 0 rfl rfl)
theorem dX1_init_74 : decode cX1_init 74 = .ok (.iload_n 1, 1) := dk_27 (dk_at dksX1_init_3 3 rfl rfl)
theorem dX1_init_75 : decode cX1_init 75 = .ok (.new 26, 3) := dk_187 0 26 (dk_at dksX1_init_3 4 rfl rfl)
theorem dX1_init_78 : decode cX1_init 78 = .ok (.dup, 1) := dk_89 (dk_at dksX1_init_3 7 rfl rfl)
theorem dX1_init_79 : decode cX1_init 79 = .ok (.invokespecial 60, 3) := dk_183 0 60 (dk_at dksX1_init_3 8 rfl rfl)
theorem dX1_init_82 : decode cX1_init 82 = .ok (.aastore, 1) := dk_83 (dk_at dksX1_init_3 11 rfl rfl)
theorem dX1_init_83 : decode cX1_init 83 = .ok (.iinc 1 1, 3) := dk_132 1 1 (dk_at dksX1_init_3 12 rfl rfl)
theorem dX1_init_86 : decode cX1_init 86 = .ok (.goto (-22), 3) := dk_167 255 234 (dk_at dksX1_init_3 15 rfl rfl)
theorem dX1_init_89 : decode cX1_init 89 = .ok (.return_, 1) := dk_177 (dk_at dksX1_init_3 18 rfl rfl)
abbrev cX1_call : ByteArray := prog_1_method_35_code
def yX1_call : MethodName := ⟨RX1, "call", "()I"⟩
def dkwX1_call_0 : List UInt8 := [42, 180, 0, 56, 182, 1, 70, 172]
abbrev dktX1_call_0 : List UInt8 := dkwX1_call_0 ++ []
theorem dksX1_call_0 : cX1_call.data.toList.drop 0 = dktX1_call_0 := by decide +kernel
theorem dX1_call_0 : decode cX1_call 0 = .ok (.aload_n 0, 1) := dk_42 (dk_at dksX1_call_0 0 rfl rfl)
theorem dX1_call_1 : decode cX1_call 1 = .ok (.getfield 56, 3) := dk_180 0 56 (dk_at dksX1_call_0 1 rfl rfl)
theorem dX1_call_4 : decode cX1_call 4 = .ok (.invokevirtual 326, 3) := dk_182 1 70 (dk_at dksX1_call_0 4 rfl rfl)
theorem dX1_call_7 : decode cX1_call 7 = .ok (.ireturn, 1) := dk_172 (dk_at dksX1_call_0 7 rfl rfl)
abbrev cX1_isSound : ByteArray := prog_1_method_60_code
def yX1_isSound : MethodName := ⟨RX1, "isSound", "()Z"⟩
theorem dX1_isSound_0 : decode cX1_isSound 0 = .ok (.aload_n 0, 1) := by decide +kernel
theorem dX1_isSound_1 : decode cX1_isSound 1 = .ok (.invokevirtual 444, 3) := by decide +kernel
theorem dX1_isSound_4 : decode cX1_isSound 4 = .ok (.ireturn, 1) := by decide +kernel
abbrev cX1_isWhole : ByteArray := prog_1_method_59_code
def yX1_isWhole : MethodName := ⟨RX1, "isWhole", "()Z"⟩
def dkwX1_isWhole_1 : List UInt8 := [192, 0, 90, 77, 42, 44, 182, 1, 185, 154, 0, 5, 3, 172, 167, 255, 227, 4, 172]
abbrev dktX1_isWhole_1 : List UInt8 := dkwX1_isWhole_1 ++ []
def dkwX1_isWhole_0 : List UInt8 := [42, 180, 0, 42, 182, 1, 27, 76, 43, 185, 1, 31, 1, 0, 153, 0, 26, 43, 185, 1, 36, 1, 0]
abbrev dktX1_isWhole_0 : List UInt8 := dkwX1_isWhole_0 ++ dktX1_isWhole_1
theorem dksX1_isWhole_0 : cX1_isWhole.data.toList.drop 0 = dktX1_isWhole_0 := by decide +kernel
theorem dksX1_isWhole_1 : cX1_isWhole.data.toList.drop 23 = dktX1_isWhole_1 := dk_seg dksX1_isWhole_0 23 rfl rfl
theorem dX1_isWhole_0 : decode cX1_isWhole 0 = .ok (.aload_n 0, 1) := dk_42 (dk_at dksX1_isWhole_0 0 rfl rfl)
theorem dX1_isWhole_1 : decode cX1_isWhole 1 = .ok (.getfield 42, 3) := dk_180 0 42 (dk_at dksX1_isWhole_0 1 rfl rfl)
theorem dX1_isWhole_4 : decode cX1_isWhole 4 = .ok (.invokevirtual 283, 3) := dk_182 1 27 (dk_at dksX1_isWhole_0 4 rfl rfl)
theorem dX1_isWhole_7 : decode cX1_isWhole 7 = .ok (.astore_n 1, 1) := dk_76 (dk_at dksX1_isWhole_0 7 rfl rfl)
theorem dX1_isWhole_8 : decode cX1_isWhole 8 = .ok (.aload_n 1, 1) := dk_43 (dk_at dksX1_isWhole_0 8 rfl rfl)
theorem dX1_isWhole_9 : decode cX1_isWhole 9 = .ok (.invokeinterface 287 1, 5) := by decide +kernel
theorem dX1_isWhole_14 : decode cX1_isWhole 14 = .ok (.ifCond .eq 26, 3) := dk_153 0 26 (dk_at dksX1_isWhole_0 14 rfl rfl)
theorem dX1_isWhole_17 : decode cX1_isWhole 17 = .ok (.aload_n 1, 1) := dk_43 (dk_at dksX1_isWhole_0 17 rfl rfl)
theorem dX1_isWhole_18 : decode cX1_isWhole 18 = .ok (.invokeinterface 292 1, 5) := by decide +kernel
theorem dX1_isWhole_23 : decode cX1_isWhole 23 = .ok (.checkcast 90, 3) := dk_192 0 90 (dk_at dksX1_isWhole_1 0 rfl rfl)
theorem dX1_isWhole_26 : decode cX1_isWhole 26 = .ok (.astore_n 2, 1) := dk_77 (dk_at dksX1_isWhole_1 3 rfl rfl)
theorem dX1_isWhole_27 : decode cX1_isWhole 27 = .ok (.aload_n 0, 1) := dk_42 (dk_at dksX1_isWhole_1 4 rfl rfl)
theorem dX1_isWhole_28 : decode cX1_isWhole 28 = .ok (.aload_n 2, 1) := dk_44 (dk_at dksX1_isWhole_1 5 rfl rfl)
theorem dX1_isWhole_29 : decode cX1_isWhole 29 = .ok (.invokevirtual 441, 3) := dk_182 1 185 (dk_at dksX1_isWhole_1 6 rfl rfl)
theorem dX1_isWhole_32 : decode cX1_isWhole 32 = .ok (.ifCond .ne 5, 3) := dk_154 0 5 (dk_at dksX1_isWhole_1 9 rfl rfl)
theorem dX1_isWhole_35 : decode cX1_isWhole 35 = .ok (.iconst 0, 1) := dk_3 (dk_at dksX1_isWhole_1 12 rfl rfl)
theorem dX1_isWhole_36 : decode cX1_isWhole 36 = .ok (.ireturn, 1) := dk_172 (dk_at dksX1_isWhole_1 13 rfl rfl)
theorem dX1_isWhole_37 : decode cX1_isWhole 37 = .ok (.goto (-29), 3) := dk_167 255 227 (dk_at dksX1_isWhole_1 14 rfl rfl)
theorem dX1_isWhole_40 : decode cX1_isWhole 40 = .ok (.iconst 1, 1) := dk_4 (dk_at dksX1_isWhole_1 17 rfl rfl)
theorem dX1_isWhole_41 : decode cX1_isWhole 41 = .ok (.ireturn, 1) := dk_172 (dk_at dksX1_isWhole_1 18 rfl rfl)
abbrev cX1_isWhole_2 : ByteArray := prog_1_method_58_code
def yX1_isWhole_2 : MethodName := ⟨RX1, "isWhole", "(LBumpward$Walker;)Z"⟩
def dkwX1_isWhole_2_4 : List UInt8 := [43, 180, 0, 192, 43, 180, 0, 249, 43, 180, 0, 255, 96, 161, 0, 7, 4, 167, 0, 4, 3, 172]
abbrev dktX1_isWhole_2_4 : List UInt8 := dkwX1_isWhole_2_4 ++ []
def dkwX1_isWhole_2_3 : List UInt8 := [3, 17, 1, 244, 184, 0, 7, 153, 0, 37, 43, 180, 1, 2, 3, 17, 0, 143, 184, 0, 7, 153, 0, 23]
abbrev dktX1_isWhole_2_3 : List UInt8 := dkwX1_isWhole_2_3 ++ dktX1_isWhole_2_4
def dkwX1_isWhole_2_2 : List UInt8 := [153, 0, 68, 43, 180, 0, 201, 182, 1, 17, 4, 17, 0, 144, 184, 0, 7, 153, 0, 51, 43, 180, 0, 184]
abbrev dktX1_isWhole_2_2 : List UInt8 := dkwX1_isWhole_2_2 ++ dktX1_isWhole_2_3
def dkwX1_isWhole_2_1 : List UInt8 := [182, 1, 87, 43, 180, 0, 232, 5, 182, 1, 87, 96, 160, 0, 7, 4, 167, 0, 4, 3, 61, 28]
abbrev dktX1_isWhole_2_1 : List UInt8 := dkwX1_isWhole_2_1 ++ dktX1_isWhole_2_2
def dkwX1_isWhole_2_0 : List UInt8 := [42, 43, 180, 0, 232, 4, 182, 1, 89, 42, 43, 180, 0, 232, 3, 182, 1, 89, 96, 43, 180, 0, 232, 4]
abbrev dktX1_isWhole_2_0 : List UInt8 := dkwX1_isWhole_2_0 ++ dktX1_isWhole_2_1
theorem dksX1_isWhole_2_0 : cX1_isWhole_2.data.toList.drop 0 = dktX1_isWhole_2_0 := by decide +kernel
theorem dksX1_isWhole_2_1 : cX1_isWhole_2.data.toList.drop 24 = dktX1_isWhole_2_1 := dk_seg dksX1_isWhole_2_0 24 rfl rfl
theorem dksX1_isWhole_2_2 : cX1_isWhole_2.data.toList.drop 46 = dktX1_isWhole_2_2 := dk_seg dksX1_isWhole_2_1 22 rfl rfl
theorem dksX1_isWhole_2_3 : cX1_isWhole_2.data.toList.drop 70 = dktX1_isWhole_2_3 := dk_seg dksX1_isWhole_2_2 24 rfl rfl
theorem dksX1_isWhole_2_4 : cX1_isWhole_2.data.toList.drop 94 = dktX1_isWhole_2_4 := dk_seg dksX1_isWhole_2_3 24 rfl rfl
theorem dX1_isWhole_2_0 : decode cX1_isWhole_2 0 = .ok (.aload_n 0, 1) := dk_42 (dk_at dksX1_isWhole_2_0 0 rfl rfl)
theorem dX1_isWhole_2_1 : decode cX1_isWhole_2 1 = .ok (.aload_n 1, 1) := dk_43 (dk_at dksX1_isWhole_2_0 1 rfl rfl)
theorem dX1_isWhole_2_2 : decode cX1_isWhole_2 2 = .ok (.getfield 232, 3) := dk_180 0 232 (dk_at dksX1_isWhole_2_0 2 rfl rfl)
theorem dX1_isWhole_2_5 : decode cX1_isWhole_2 5 = .ok (.iconst 1, 1) := dk_4 (dk_at dksX1_isWhole_2_0 5 rfl rfl)
theorem dX1_isWhole_2_6 : decode cX1_isWhole_2 6 = .ok (.invokevirtual 345, 3) := dk_182 1 89 (dk_at dksX1_isWhole_2_0 6 rfl rfl)
theorem dX1_isWhole_2_9 : decode cX1_isWhole_2 9 = .ok (.aload_n 0, 1) := dk_42 (dk_at dksX1_isWhole_2_0 9 rfl rfl)
theorem dX1_isWhole_2_10 : decode cX1_isWhole_2 10 = .ok (.aload_n 1, 1) := dk_43 (dk_at dksX1_isWhole_2_0 10 rfl rfl)
theorem dX1_isWhole_2_11 : decode cX1_isWhole_2 11 = .ok (.getfield 232, 3) := dk_180 0 232 (dk_at dksX1_isWhole_2_0 11 rfl rfl)
theorem dX1_isWhole_2_14 : decode cX1_isWhole_2 14 = .ok (.iconst 0, 1) := dk_3 (dk_at dksX1_isWhole_2_0 14 rfl rfl)
theorem dX1_isWhole_2_15 : decode cX1_isWhole_2 15 = .ok (.invokevirtual 345, 3) := dk_182 1 89 (dk_at dksX1_isWhole_2_0 15 rfl rfl)
theorem dX1_isWhole_2_18 : decode cX1_isWhole_2 18 = .ok (.iadd, 1) := dk_96 (dk_at dksX1_isWhole_2_0 18 rfl rfl)
theorem dX1_isWhole_2_19 : decode cX1_isWhole_2 19 = .ok (.aload_n 1, 1) := dk_43 (dk_at dksX1_isWhole_2_0 19 rfl rfl)
theorem dX1_isWhole_2_20 : decode cX1_isWhole_2 20 = .ok (.getfield 232, 3) := dk_180 0 232 (dk_at dksX1_isWhole_2_0 20 rfl rfl)
theorem dX1_isWhole_2_23 : decode cX1_isWhole_2 23 = .ok (.iconst 1, 1) := dk_4 (dk_at dksX1_isWhole_2_0 23 rfl rfl)
theorem dX1_isWhole_2_24 : decode cX1_isWhole_2 24 = .ok (.invokevirtual 343, 3) := dk_182 1 87 (dk_at dksX1_isWhole_2_1 0 rfl rfl)
theorem dX1_isWhole_2_27 : decode cX1_isWhole_2 27 = .ok (.aload_n 1, 1) := dk_43 (dk_at dksX1_isWhole_2_1 3 rfl rfl)
theorem dX1_isWhole_2_28 : decode cX1_isWhole_2 28 = .ok (.getfield 232, 3) := dk_180 0 232 (dk_at dksX1_isWhole_2_1 4 rfl rfl)
theorem dX1_isWhole_2_31 : decode cX1_isWhole_2 31 = .ok (.iconst 2, 1) := dk_5 (dk_at dksX1_isWhole_2_1 7 rfl rfl)
theorem dX1_isWhole_2_32 : decode cX1_isWhole_2 32 = .ok (.invokevirtual 343, 3) := dk_182 1 87 (dk_at dksX1_isWhole_2_1 8 rfl rfl)
theorem dX1_isWhole_2_35 : decode cX1_isWhole_2 35 = .ok (.iadd, 1) := dk_96 (dk_at dksX1_isWhole_2_1 11 rfl rfl)
theorem dX1_isWhole_2_36 : decode cX1_isWhole_2 36 = .ok (.if_icmp .ne 7, 3) := dk_160 0 7 (dk_at dksX1_isWhole_2_1 12 rfl rfl)
theorem dX1_isWhole_2_39 : decode cX1_isWhole_2 39 = .ok (.iconst 1, 1) := dk_4 (dk_at dksX1_isWhole_2_1 15 rfl rfl)
theorem dX1_isWhole_2_40 : decode cX1_isWhole_2 40 = .ok (.goto 4, 3) := dk_167 0 4 (dk_at dksX1_isWhole_2_1 16 rfl rfl)
theorem dX1_isWhole_2_43 : decode cX1_isWhole_2 43 = .ok (.iconst 0, 1) := dk_3 (dk_at dksX1_isWhole_2_1 19 rfl rfl)
theorem dX1_isWhole_2_44 : decode cX1_isWhole_2 44 = .ok (.istore_n 2, 1) := dk_61 (dk_at dksX1_isWhole_2_1 20 rfl rfl)
theorem dX1_isWhole_2_45 : decode cX1_isWhole_2 45 = .ok (.iload_n 2, 1) := dk_28 (dk_at dksX1_isWhole_2_1 21 rfl rfl)
theorem dX1_isWhole_2_46 : decode cX1_isWhole_2 46 = .ok (.ifCond .eq 68, 3) := dk_153 0 68 (dk_at dksX1_isWhole_2_2 0 rfl rfl)
theorem dX1_isWhole_2_49 : decode cX1_isWhole_2 49 = .ok (.aload_n 1, 1) := dk_43 (dk_at dksX1_isWhole_2_2 3 rfl rfl)
theorem dX1_isWhole_2_50 : decode cX1_isWhole_2 50 = .ok (.getfield 201, 3) := dk_180 0 201 (dk_at dksX1_isWhole_2_2 4 rfl rfl)
theorem dX1_isWhole_2_53 : decode cX1_isWhole_2 53 = .ok (.invokevirtual 273, 3) := dk_182 1 17 (dk_at dksX1_isWhole_2_2 7 rfl rfl)
theorem dX1_isWhole_2_56 : decode cX1_isWhole_2 56 = .ok (.iconst 1, 1) := dk_4 (dk_at dksX1_isWhole_2_2 10 rfl rfl)
theorem dX1_isWhole_2_57 : decode cX1_isWhole_2 57 = .ok (.sipush 144, 3) := dk_17 0 144 (dk_at dksX1_isWhole_2_2 11 rfl rfl)
theorem dX1_isWhole_2_60 : decode cX1_isWhole_2 60 = .ok (.invokestatic 7, 3) := dk_184 0 7 (dk_at dksX1_isWhole_2_2 14 rfl rfl)
theorem dX1_isWhole_2_63 : decode cX1_isWhole_2 63 = .ok (.ifCond .eq 51, 3) := dk_153 0 51 (dk_at dksX1_isWhole_2_2 17 rfl rfl)
theorem dX1_isWhole_2_66 : decode cX1_isWhole_2 66 = .ok (.aload_n 1, 1) := dk_43 (dk_at dksX1_isWhole_2_2 20 rfl rfl)
theorem dX1_isWhole_2_67 : decode cX1_isWhole_2 67 = .ok (.getfield 184, 3) := dk_180 0 184 (dk_at dksX1_isWhole_2_2 21 rfl rfl)
theorem dX1_isWhole_2_70 : decode cX1_isWhole_2 70 = .ok (.iconst 0, 1) := dk_3 (dk_at dksX1_isWhole_2_3 0 rfl rfl)
theorem dX1_isWhole_2_71 : decode cX1_isWhole_2 71 = .ok (.sipush 500, 3) := dk_17 1 244 (dk_at dksX1_isWhole_2_3 1 rfl rfl)
theorem dX1_isWhole_2_74 : decode cX1_isWhole_2 74 = .ok (.invokestatic 7, 3) := dk_184 0 7 (dk_at dksX1_isWhole_2_3 4 rfl rfl)
theorem dX1_isWhole_2_77 : decode cX1_isWhole_2 77 = .ok (.ifCond .eq 37, 3) := dk_153 0 37 (dk_at dksX1_isWhole_2_3 7 rfl rfl)
theorem dX1_isWhole_2_80 : decode cX1_isWhole_2 80 = .ok (.aload_n 1, 1) := dk_43 (dk_at dksX1_isWhole_2_3 10 rfl rfl)
theorem dX1_isWhole_2_81 : decode cX1_isWhole_2 81 = .ok (.getfield 258, 3) := dk_180 1 2 (dk_at dksX1_isWhole_2_3 11 rfl rfl)
theorem dX1_isWhole_2_84 : decode cX1_isWhole_2 84 = .ok (.iconst 0, 1) := dk_3 (dk_at dksX1_isWhole_2_3 14 rfl rfl)
theorem dX1_isWhole_2_85 : decode cX1_isWhole_2 85 = .ok (.sipush 143, 3) := dk_17 0 143 (dk_at dksX1_isWhole_2_3 15 rfl rfl)
theorem dX1_isWhole_2_88 : decode cX1_isWhole_2 88 = .ok (.invokestatic 7, 3) := dk_184 0 7 (dk_at dksX1_isWhole_2_3 18 rfl rfl)
theorem dX1_isWhole_2_91 : decode cX1_isWhole_2 91 = .ok (.ifCond .eq 23, 3) := dk_153 0 23 (dk_at dksX1_isWhole_2_3 21 rfl rfl)
theorem dX1_isWhole_2_94 : decode cX1_isWhole_2 94 = .ok (.aload_n 1, 1) := dk_43 (dk_at dksX1_isWhole_2_4 0 rfl rfl)
theorem dX1_isWhole_2_95 : decode cX1_isWhole_2 95 = .ok (.getfield 192, 3) := dk_180 0 192 (dk_at dksX1_isWhole_2_4 1 rfl rfl)
theorem dX1_isWhole_2_98 : decode cX1_isWhole_2 98 = .ok (.aload_n 1, 1) := dk_43 (dk_at dksX1_isWhole_2_4 4 rfl rfl)
theorem dX1_isWhole_2_99 : decode cX1_isWhole_2 99 = .ok (.getfield 249, 3) := dk_180 0 249 (dk_at dksX1_isWhole_2_4 5 rfl rfl)
theorem dX1_isWhole_2_102 : decode cX1_isWhole_2 102 = .ok (.aload_n 1, 1) := dk_43 (dk_at dksX1_isWhole_2_4 8 rfl rfl)
theorem dX1_isWhole_2_103 : decode cX1_isWhole_2 103 = .ok (.getfield 255, 3) := dk_180 0 255 (dk_at dksX1_isWhole_2_4 9 rfl rfl)
theorem dX1_isWhole_2_106 : decode cX1_isWhole_2 106 = .ok (.iadd, 1) := dk_96 (dk_at dksX1_isWhole_2_4 12 rfl rfl)
theorem dX1_isWhole_2_107 : decode cX1_isWhole_2 107 = .ok (.if_icmp .lt 7, 3) := dk_161 0 7 (dk_at dksX1_isWhole_2_4 13 rfl rfl)
theorem dX1_isWhole_2_110 : decode cX1_isWhole_2 110 = .ok (.iconst 1, 1) := dk_4 (dk_at dksX1_isWhole_2_4 16 rfl rfl)
theorem dX1_isWhole_2_111 : decode cX1_isWhole_2 111 = .ok (.goto 4, 3) := dk_167 0 4 (dk_at dksX1_isWhole_2_4 17 rfl rfl)
theorem dX1_isWhole_2_114 : decode cX1_isWhole_2 114 = .ok (.iconst 0, 1) := dk_3 (dk_at dksX1_isWhole_2_4 20 rfl rfl)
theorem dX1_isWhole_2_115 : decode cX1_isWhole_2 115 = .ok (.ireturn, 1) := dk_172 (dk_at dksX1_isWhole_2_4 21 rfl rfl)
abbrev cX1_known : ByteArray := prog_1_method_38_code
def yX1_known : MethodName := ⟨RX1, "known", "(LBumpward$Plan;Z)I"⟩
def dkwX1_known_3 : List UInt8 := [184, 0, 3, 96, 62, 132, 4, 1, 167, 255, 185, 29, 172]
abbrev dktX1_known_3 : List UInt8 := dkwX1_known_3 ++ []
def dkwX1_known_2 : List UInt8 := [182, 0, 120, 182, 0, 123, 28, 160, 0, 7, 4, 167, 0, 4, 3, 160, 0, 7, 4, 167, 0, 4, 3]
abbrev dktX1_known_2 : List UInt8 := dkwX1_known_2 ++ dktX1_known_3
def dkwX1_known_1 : List UInt8 := [21, 4, 182, 1, 85, 5, 160, 0, 7, 4, 167, 0, 4, 3, 42, 180, 0, 28, 21, 4, 50, 42]
abbrev dktX1_known_1 : List UInt8 := dkwX1_known_1 ++ dktX1_known_2
def dkwX1_known_0 : List UInt8 := [3, 62, 3, 54, 4, 21, 4, 16, 60, 162, 0, 70, 29, 43, 21, 4, 182, 1, 85, 153, 0, 48, 43]
abbrev dktX1_known_0 : List UInt8 := dkwX1_known_0 ++ dktX1_known_1
theorem dksX1_known_0 : cX1_known.data.toList.drop 0 = dktX1_known_0 := by decide +kernel
theorem dksX1_known_1 : cX1_known.data.toList.drop 23 = dktX1_known_1 := dk_seg dksX1_known_0 23 rfl rfl
theorem dksX1_known_2 : cX1_known.data.toList.drop 45 = dktX1_known_2 := dk_seg dksX1_known_1 22 rfl rfl
theorem dksX1_known_3 : cX1_known.data.toList.drop 68 = dktX1_known_3 := dk_seg dksX1_known_2 23 rfl rfl
theorem dX1_known_0 : decode cX1_known 0 = .ok (.iconst 0, 1) := dk_3 (dk_at dksX1_known_0 0 rfl rfl)
theorem dX1_known_1 : decode cX1_known 1 = .ok (.istore_n 3, 1) := dk_62 (dk_at dksX1_known_0 1 rfl rfl)
theorem dX1_known_2 : decode cX1_known 2 = .ok (.iconst 0, 1) := dk_3 (dk_at dksX1_known_0 2 rfl rfl)
theorem dX1_known_3 : decode cX1_known 3 = .ok (.istore 4, 2) := dk_54 4 (dk_at dksX1_known_0 3 rfl rfl)
theorem dX1_known_5 : decode cX1_known 5 = .ok (.iload 4, 2) := dk_21 4 (dk_at dksX1_known_0 5 rfl rfl)
theorem dX1_known_7 : decode cX1_known 7 = .ok (.bipush 60, 2) := dk_16 60 (dk_at dksX1_known_0 7 rfl rfl)
theorem dX1_known_9 : decode cX1_known 9 = .ok (.if_icmp .ge 70, 3) := dk_162 0 70 (dk_at dksX1_known_0 9 rfl rfl)
theorem dX1_known_12 : decode cX1_known 12 = .ok (.iload_n 3, 1) := dk_29 (dk_at dksX1_known_0 12 rfl rfl)
theorem dX1_known_13 : decode cX1_known 13 = .ok (.aload_n 1, 1) := dk_43 (dk_at dksX1_known_0 13 rfl rfl)
theorem dX1_known_14 : decode cX1_known 14 = .ok (.iload 4, 2) := dk_21 4 (dk_at dksX1_known_0 14 rfl rfl)
theorem dX1_known_16 : decode cX1_known 16 = .ok (.invokevirtual 341, 3) := dk_182 1 85 (dk_at dksX1_known_0 16 rfl rfl)
theorem dX1_known_19 : decode cX1_known 19 = .ok (.ifCond .eq 48, 3) := dk_153 0 48 (dk_at dksX1_known_0 19 rfl rfl)
theorem dX1_known_22 : decode cX1_known 22 = .ok (.aload_n 1, 1) := dk_43 (dk_at dksX1_known_0 22 rfl rfl)
theorem dX1_known_23 : decode cX1_known 23 = .ok (.iload 4, 2) := dk_21 4 (dk_at dksX1_known_1 0 rfl rfl)
theorem dX1_known_25 : decode cX1_known 25 = .ok (.invokevirtual 341, 3) := dk_182 1 85 (dk_at dksX1_known_1 2 rfl rfl)
theorem dX1_known_28 : decode cX1_known 28 = .ok (.iconst 2, 1) := dk_5 (dk_at dksX1_known_1 5 rfl rfl)
theorem dX1_known_29 : decode cX1_known 29 = .ok (.if_icmp .ne 7, 3) := dk_160 0 7 (dk_at dksX1_known_1 6 rfl rfl)
theorem dX1_known_32 : decode cX1_known 32 = .ok (.iconst 1, 1) := dk_4 (dk_at dksX1_known_1 9 rfl rfl)
theorem dX1_known_33 : decode cX1_known 33 = .ok (.goto 4, 3) := dk_167 0 4 (dk_at dksX1_known_1 10 rfl rfl)
theorem dX1_known_36 : decode cX1_known 36 = .ok (.iconst 0, 1) := dk_3 (dk_at dksX1_known_1 13 rfl rfl)
theorem dX1_known_37 : decode cX1_known 37 = .ok (.aload_n 0, 1) := dk_42 (dk_at dksX1_known_1 14 rfl rfl)
theorem dX1_known_38 : decode cX1_known 38 = .ok (.getfield 28, 3) := dk_180 0 28 (dk_at dksX1_known_1 15 rfl rfl)
theorem dX1_known_41 : decode cX1_known 41 = .ok (.iload 4, 2) := dk_21 4 (dk_at dksX1_known_1 18 rfl rfl)
theorem dX1_known_43 : decode cX1_known 43 = .ok (.aaload, 1) := dk_50 (dk_at dksX1_known_1 20 rfl rfl)
theorem dX1_known_44 : decode cX1_known 44 = .ok (.aload_n 0, 1) := dk_42 (dk_at dksX1_known_1 21 rfl rfl)
theorem dX1_known_45 : decode cX1_known 45 = .ok (.invokevirtual 120, 3) := dk_182 0 120 (dk_at dksX1_known_2 0 rfl rfl)
theorem dX1_known_48 : decode cX1_known 48 = .ok (.invokevirtual 123, 3) := dk_182 0 123 (dk_at dksX1_known_2 3 rfl rfl)
theorem dX1_known_51 : decode cX1_known 51 = .ok (.iload_n 2, 1) := dk_28 (dk_at dksX1_known_2 6 rfl rfl)
theorem dX1_known_52 : decode cX1_known 52 = .ok (.if_icmp .ne 7, 3) := dk_160 0 7 (dk_at dksX1_known_2 7 rfl rfl)
theorem dX1_known_55 : decode cX1_known 55 = .ok (.iconst 1, 1) := dk_4 (dk_at dksX1_known_2 10 rfl rfl)
theorem dX1_known_56 : decode cX1_known 56 = .ok (.goto 4, 3) := dk_167 0 4 (dk_at dksX1_known_2 11 rfl rfl)
theorem dX1_known_59 : decode cX1_known 59 = .ok (.iconst 0, 1) := dk_3 (dk_at dksX1_known_2 14 rfl rfl)
theorem dX1_known_60 : decode cX1_known 60 = .ok (.if_icmp .ne 7, 3) := dk_160 0 7 (dk_at dksX1_known_2 15 rfl rfl)
theorem dX1_known_63 : decode cX1_known 63 = .ok (.iconst 1, 1) := dk_4 (dk_at dksX1_known_2 18 rfl rfl)
theorem dX1_known_64 : decode cX1_known 64 = .ok (.goto 4, 3) := dk_167 0 4 (dk_at dksX1_known_2 19 rfl rfl)
theorem dX1_known_67 : decode cX1_known 67 = .ok (.iconst 0, 1) := dk_3 (dk_at dksX1_known_2 22 rfl rfl)
theorem dX1_known_68 : decode cX1_known 68 = .ok (.invokestatic 3, 3) := dk_184 0 3 (dk_at dksX1_known_3 0 rfl rfl)
theorem dX1_known_71 : decode cX1_known 71 = .ok (.iadd, 1) := dk_96 (dk_at dksX1_known_3 3 rfl rfl)
theorem dX1_known_72 : decode cX1_known 72 = .ok (.istore_n 3, 1) := dk_62 (dk_at dksX1_known_3 4 rfl rfl)
theorem dX1_known_73 : decode cX1_known 73 = .ok (.iinc 4 1, 3) := dk_132 4 1 (dk_at dksX1_known_3 5 rfl rfl)
theorem dX1_known_76 : decode cX1_known 76 = .ok (.goto (-71), 3) := dk_167 255 185 (dk_at dksX1_known_3 8 rfl rfl)
theorem dX1_known_79 : decode cX1_known 79 = .ok (.iload_n 3, 1) := dk_29 (dk_at dksX1_known_3 11 rfl rfl)
theorem dX1_known_80 : decode cX1_known 80 = .ok (.ireturn, 1) := dk_172 (dk_at dksX1_known_3 12 rfl rfl)
abbrev cX1_hour : ByteArray := prog_1_method_13_code
def yX1_hour : MethodName := ⟨RX1, "hour", "()I"⟩
def dkwX1_hour_0 : List UInt8 := [42, 180, 0, 92, 16, 60, 108, 16, 24, 112, 172]
abbrev dktX1_hour_0 : List UInt8 := dkwX1_hour_0 ++ []
theorem dksX1_hour_0 : cX1_hour.data.toList.drop 0 = dktX1_hour_0 := by decide +kernel
theorem dX1_hour_0 : decode cX1_hour 0 = .ok (.aload_n 0, 1) := dk_42 (dk_at dksX1_hour_0 0 rfl rfl)
theorem dX1_hour_1 : decode cX1_hour 1 = .ok (.getfield 92, 3) := dk_180 0 92 (dk_at dksX1_hour_0 1 rfl rfl)
theorem dX1_hour_4 : decode cX1_hour 4 = .ok (.bipush 60, 2) := dk_16 60 (dk_at dksX1_hour_0 4 rfl rfl)
theorem dX1_hour_6 : decode cX1_hour 6 = .ok (.idiv, 1) := dk_108 (dk_at dksX1_hour_0 6 rfl rfl)
theorem dX1_hour_7 : decode cX1_hour 7 = .ok (.bipush 24, 2) := dk_16 24 (dk_at dksX1_hour_0 7 rfl rfl)
theorem dX1_hour_9 : decode cX1_hour 9 = .ok (.irem, 1) := dk_112 (dk_at dksX1_hour_0 9 rfl rfl)
theorem dX1_hour_10 : decode cX1_hour 10 = .ok (.ireturn, 1) := dk_172 (dk_at dksX1_hour_0 10 rfl rfl)
abbrev cX1_one : ByteArray := prog_1_method_1_code
def yX1_one : MethodName := ⟨RX1, "one", "(Z)I"⟩
def dkwX1_one_0 : List UInt8 := [26, 153, 0, 7, 4, 167, 0, 4, 3, 172]
abbrev dktX1_one_0 : List UInt8 := dkwX1_one_0 ++ []
theorem dksX1_one_0 : cX1_one.data.toList.drop 0 = dktX1_one_0 := by decide +kernel
theorem dX1_one_0 : decode cX1_one 0 = .ok (.iload_n 0, 1) := dk_26 (dk_at dksX1_one_0 0 rfl rfl)
theorem dX1_one_1 : decode cX1_one 1 = .ok (.ifCond .eq 7, 3) := dk_153 0 7 (dk_at dksX1_one_0 1 rfl rfl)
theorem dX1_one_4 : decode cX1_one 4 = .ok (.iconst 1, 1) := dk_4 (dk_at dksX1_one_0 4 rfl rfl)
theorem dX1_one_5 : decode cX1_one 5 = .ok (.goto 4, 3) := dk_167 0 4 (dk_at dksX1_one_0 5 rfl rfl)
theorem dX1_one_8 : decode cX1_one 8 = .ok (.iconst 0, 1) := dk_3 (dk_at dksX1_one_0 8 rfl rfl)
theorem dX1_one_9 : decode cX1_one 9 = .ok (.ireturn, 1) := dk_172 (dk_at dksX1_one_0 9 rfl rfl)
abbrev cX1_isIn : ByteArray := prog_1_method_2_code
def yX1_isIn : MethodName := ⟨RX1, "isIn", "(III)Z"⟩
def dkwX1_isIn_0 : List UInt8 := [26, 27, 161, 0, 12, 26, 28, 163, 0, 7, 4, 167, 0, 4, 3, 172]
abbrev dktX1_isIn_0 : List UInt8 := dkwX1_isIn_0 ++ []
theorem dksX1_isIn_0 : cX1_isIn.data.toList.drop 0 = dktX1_isIn_0 := by decide +kernel
theorem dX1_isIn_0 : decode cX1_isIn 0 = .ok (.iload_n 0, 1) := dk_26 (dk_at dksX1_isIn_0 0 rfl rfl)
theorem dX1_isIn_1 : decode cX1_isIn 1 = .ok (.iload_n 1, 1) := dk_27 (dk_at dksX1_isIn_0 1 rfl rfl)
theorem dX1_isIn_2 : decode cX1_isIn 2 = .ok (.if_icmp .lt 12, 3) := dk_161 0 12 (dk_at dksX1_isIn_0 2 rfl rfl)
theorem dX1_isIn_5 : decode cX1_isIn 5 = .ok (.iload_n 0, 1) := dk_26 (dk_at dksX1_isIn_0 5 rfl rfl)
theorem dX1_isIn_6 : decode cX1_isIn 6 = .ok (.iload_n 2, 1) := dk_28 (dk_at dksX1_isIn_0 6 rfl rfl)
theorem dX1_isIn_7 : decode cX1_isIn 7 = .ok (.if_icmp .gt 7, 3) := dk_163 0 7 (dk_at dksX1_isIn_0 7 rfl rfl)
theorem dX1_isIn_10 : decode cX1_isIn 10 = .ok (.iconst 1, 1) := dk_4 (dk_at dksX1_isIn_0 10 rfl rfl)
theorem dX1_isIn_11 : decode cX1_isIn 11 = .ok (.goto 4, 3) := dk_167 0 4 (dk_at dksX1_isIn_0 11 rfl rfl)
theorem dX1_isIn_14 : decode cX1_isIn 14 = .ok (.iconst 0, 1) := dk_3 (dk_at dksX1_isIn_0 14 rfl rfl)
theorem dX1_isIn_15 : decode cX1_isIn 15 = .ok (.ireturn, 1) := dk_172 (dk_at dksX1_isIn_0 15 rfl rfl)
abbrev cX1_digest : ByteArray := prog_1_method_63_code
def yX1_digest : MethodName := ⟨RX1, "digest", "()J"⟩
def dkwX1_digest_5 : List UInt8 := [167, 255, 232, 42, 42, 182, 1, 188, 184, 0, 3, 133, 182, 1, 196, 42, 180, 1, 190, 173]
abbrev dktX1_digest_5 : List UInt8 := dkwX1_digest_5 ++ []
def dkwX1_digest_4 : List UInt8 := [185, 1, 31, 1, 0, 153, 0, 21, 43, 185, 1, 36, 1, 0, 192, 0, 90, 77, 42, 44, 182, 1, 203]
abbrev dktX1_digest_4 : List UInt8 := dkwX1_digest_4 ++ dktX1_digest_5
def dkwX1_digest_3 : List UInt8 := [167, 255, 236, 132, 2, 1, 167, 255, 223, 132, 1, 1, 167, 255, 209, 42, 180, 0, 42, 182, 1, 27, 76, 43]
abbrev dktX1_digest_3 : List UInt8 := dkwX1_digest_3 ++ dktX1_digest_4
def dkwX1_digest_2 : List UInt8 := [3, 62, 29, 5, 162, 0, 21, 42, 42, 27, 28, 29, 182, 1, 81, 133, 182, 1, 196, 132, 3, 1]
abbrev dktX1_digest_2 : List UInt8 := dkwX1_digest_2 ++ dktX1_digest_3
def dkwX1_digest_1 : List UInt8 := [182, 1, 196, 132, 1, 1, 167, 255, 237, 3, 60, 27, 16, 36, 162, 0, 47, 4, 61, 28, 5, 163, 0, 34]
abbrev dktX1_digest_1 : List UInt8 := dkwX1_digest_1 ++ dktX1_digest_2
def dkwX1_digest_0 : List UInt8 := [42, 20, 1, 201, 181, 1, 190, 3, 60, 27, 16, 12, 162, 0, 19, 42, 42, 27, 182, 1, 111, 133]
abbrev dktX1_digest_0 : List UInt8 := dkwX1_digest_0 ++ dktX1_digest_1
theorem dksX1_digest_0 : cX1_digest.data.toList.drop 0 = dktX1_digest_0 := by decide +kernel
theorem dksX1_digest_1 : cX1_digest.data.toList.drop 22 = dktX1_digest_1 := dk_seg dksX1_digest_0 22 rfl rfl
theorem dksX1_digest_2 : cX1_digest.data.toList.drop 46 = dktX1_digest_2 := dk_seg dksX1_digest_1 24 rfl rfl
theorem dksX1_digest_3 : cX1_digest.data.toList.drop 68 = dktX1_digest_3 := dk_seg dksX1_digest_2 22 rfl rfl
theorem dksX1_digest_4 : cX1_digest.data.toList.drop 92 = dktX1_digest_4 := dk_seg dksX1_digest_3 24 rfl rfl
theorem dksX1_digest_5 : cX1_digest.data.toList.drop 115 = dktX1_digest_5 := dk_seg dksX1_digest_4 23 rfl rfl
theorem dX1_digest_0 : decode cX1_digest 0 = .ok (.aload_n 0, 1) := dk_42 (dk_at dksX1_digest_0 0 rfl rfl)
theorem dX1_digest_1 : decode cX1_digest 1 = .ok (.ldc2_w 457, 3) := dk_20 1 201 (dk_at dksX1_digest_0 1 rfl rfl)
theorem dX1_digest_4 : decode cX1_digest 4 = .ok (.putfield 446, 3) := dk_181 1 190 (dk_at dksX1_digest_0 4 rfl rfl)
theorem dX1_digest_7 : decode cX1_digest 7 = .ok (.iconst 0, 1) := dk_3 (dk_at dksX1_digest_0 7 rfl rfl)
theorem dX1_digest_8 : decode cX1_digest 8 = .ok (.istore_n 1, 1) := dk_60 (dk_at dksX1_digest_0 8 rfl rfl)
theorem dX1_digest_9 : decode cX1_digest 9 = .ok (.iload_n 1, 1) := dk_27 (dk_at dksX1_digest_0 9 rfl rfl)
theorem dX1_digest_10 : decode cX1_digest 10 = .ok (.bipush 12, 2) := dk_16 12 (dk_at dksX1_digest_0 10 rfl rfl)
theorem dX1_digest_12 : decode cX1_digest 12 = .ok (.if_icmp .ge 19, 3) := dk_162 0 19 (dk_at dksX1_digest_0 12 rfl rfl)
theorem dX1_digest_15 : decode cX1_digest 15 = .ok (.aload_n 0, 1) := dk_42 (dk_at dksX1_digest_0 15 rfl rfl)
theorem dX1_digest_16 : decode cX1_digest 16 = .ok (.aload_n 0, 1) := dk_42 (dk_at dksX1_digest_0 16 rfl rfl)
theorem dX1_digest_17 : decode cX1_digest 17 = .ok (.iload_n 1, 1) := dk_27 (dk_at dksX1_digest_0 17 rfl rfl)
theorem dX1_digest_18 : decode cX1_digest 18 = .ok (.invokevirtual 367, 3) := dk_182 1 111 (dk_at dksX1_digest_0 18 rfl rfl)
theorem dX1_digest_21 : decode cX1_digest 21 = .ok (.i2l, 1) := dk_133 (dk_at dksX1_digest_0 21 rfl rfl)
theorem dX1_digest_22 : decode cX1_digest 22 = .ok (.invokevirtual 452, 3) := dk_182 1 196 (dk_at dksX1_digest_1 0 rfl rfl)
theorem dX1_digest_25 : decode cX1_digest 25 = .ok (.iinc 1 1, 3) := dk_132 1 1 (dk_at dksX1_digest_1 3 rfl rfl)
theorem dX1_digest_28 : decode cX1_digest 28 = .ok (.goto (-19), 3) := dk_167 255 237 (dk_at dksX1_digest_1 6 rfl rfl)
theorem dX1_digest_31 : decode cX1_digest 31 = .ok (.iconst 0, 1) := dk_3 (dk_at dksX1_digest_1 9 rfl rfl)
theorem dX1_digest_32 : decode cX1_digest 32 = .ok (.istore_n 1, 1) := dk_60 (dk_at dksX1_digest_1 10 rfl rfl)
theorem dX1_digest_33 : decode cX1_digest 33 = .ok (.iload_n 1, 1) := dk_27 (dk_at dksX1_digest_1 11 rfl rfl)
theorem dX1_digest_34 : decode cX1_digest 34 = .ok (.bipush 36, 2) := dk_16 36 (dk_at dksX1_digest_1 12 rfl rfl)
theorem dX1_digest_36 : decode cX1_digest 36 = .ok (.if_icmp .ge 47, 3) := dk_162 0 47 (dk_at dksX1_digest_1 14 rfl rfl)
theorem dX1_digest_39 : decode cX1_digest 39 = .ok (.iconst 1, 1) := dk_4 (dk_at dksX1_digest_1 17 rfl rfl)
theorem dX1_digest_40 : decode cX1_digest 40 = .ok (.istore_n 2, 1) := dk_61 (dk_at dksX1_digest_1 18 rfl rfl)
theorem dX1_digest_41 : decode cX1_digest 41 = .ok (.iload_n 2, 1) := dk_28 (dk_at dksX1_digest_1 19 rfl rfl)
theorem dX1_digest_42 : decode cX1_digest 42 = .ok (.iconst 2, 1) := dk_5 (dk_at dksX1_digest_1 20 rfl rfl)
theorem dX1_digest_43 : decode cX1_digest 43 = .ok (.if_icmp .gt 34, 3) := dk_163 0 34 (dk_at dksX1_digest_1 21 rfl rfl)
theorem dX1_digest_46 : decode cX1_digest 46 = .ok (.iconst 0, 1) := dk_3 (dk_at dksX1_digest_2 0 rfl rfl)
theorem dX1_digest_47 : decode cX1_digest 47 = .ok (.istore_n 3, 1) := dk_62 (dk_at dksX1_digest_2 1 rfl rfl)
theorem dX1_digest_48 : decode cX1_digest 48 = .ok (.iload_n 3, 1) := dk_29 (dk_at dksX1_digest_2 2 rfl rfl)
theorem dX1_digest_49 : decode cX1_digest 49 = .ok (.iconst 2, 1) := dk_5 (dk_at dksX1_digest_2 3 rfl rfl)
theorem dX1_digest_50 : decode cX1_digest 50 = .ok (.if_icmp .ge 21, 3) := dk_162 0 21 (dk_at dksX1_digest_2 4 rfl rfl)
theorem dX1_digest_53 : decode cX1_digest 53 = .ok (.aload_n 0, 1) := dk_42 (dk_at dksX1_digest_2 7 rfl rfl)
theorem dX1_digest_54 : decode cX1_digest 54 = .ok (.aload_n 0, 1) := dk_42 (dk_at dksX1_digest_2 8 rfl rfl)
theorem dX1_digest_55 : decode cX1_digest 55 = .ok (.iload_n 1, 1) := dk_27 (dk_at dksX1_digest_2 9 rfl rfl)
theorem dX1_digest_56 : decode cX1_digest 56 = .ok (.iload_n 2, 1) := dk_28 (dk_at dksX1_digest_2 10 rfl rfl)
theorem dX1_digest_57 : decode cX1_digest 57 = .ok (.iload_n 3, 1) := dk_29 (dk_at dksX1_digest_2 11 rfl rfl)
theorem dX1_digest_58 : decode cX1_digest 58 = .ok (.invokevirtual 337, 3) := dk_182 1 81 (dk_at dksX1_digest_2 12 rfl rfl)
theorem dX1_digest_61 : decode cX1_digest 61 = .ok (.i2l, 1) := dk_133 (dk_at dksX1_digest_2 15 rfl rfl)
theorem dX1_digest_62 : decode cX1_digest 62 = .ok (.invokevirtual 452, 3) := dk_182 1 196 (dk_at dksX1_digest_2 16 rfl rfl)
theorem dX1_digest_65 : decode cX1_digest 65 = .ok (.iinc 3 1, 3) := dk_132 3 1 (dk_at dksX1_digest_2 19 rfl rfl)
theorem dX1_digest_68 : decode cX1_digest 68 = .ok (.goto (-20), 3) := dk_167 255 236 (dk_at dksX1_digest_3 0 rfl rfl)
theorem dX1_digest_71 : decode cX1_digest 71 = .ok (.iinc 2 1, 3) := dk_132 2 1 (dk_at dksX1_digest_3 3 rfl rfl)
theorem dX1_digest_74 : decode cX1_digest 74 = .ok (.goto (-33), 3) := dk_167 255 223 (dk_at dksX1_digest_3 6 rfl rfl)
theorem dX1_digest_77 : decode cX1_digest 77 = .ok (.iinc 1 1, 3) := dk_132 1 1 (dk_at dksX1_digest_3 9 rfl rfl)
theorem dX1_digest_80 : decode cX1_digest 80 = .ok (.goto (-47), 3) := dk_167 255 209 (dk_at dksX1_digest_3 12 rfl rfl)
theorem dX1_digest_83 : decode cX1_digest 83 = .ok (.aload_n 0, 1) := dk_42 (dk_at dksX1_digest_3 15 rfl rfl)
theorem dX1_digest_84 : decode cX1_digest 84 = .ok (.getfield 42, 3) := dk_180 0 42 (dk_at dksX1_digest_3 16 rfl rfl)
theorem dX1_digest_87 : decode cX1_digest 87 = .ok (.invokevirtual 283, 3) := dk_182 1 27 (dk_at dksX1_digest_3 19 rfl rfl)
theorem dX1_digest_90 : decode cX1_digest 90 = .ok (.astore_n 1, 1) := dk_76 (dk_at dksX1_digest_3 22 rfl rfl)
theorem dX1_digest_91 : decode cX1_digest 91 = .ok (.aload_n 1, 1) := dk_43 (dk_at dksX1_digest_3 23 rfl rfl)
theorem dX1_digest_92 : decode cX1_digest 92 = .ok (.invokeinterface 287 1, 5) := by decide +kernel
theorem dX1_digest_97 : decode cX1_digest 97 = .ok (.ifCond .eq 21, 3) := dk_153 0 21 (dk_at dksX1_digest_4 5 rfl rfl)
theorem dX1_digest_100 : decode cX1_digest 100 = .ok (.aload_n 1, 1) := dk_43 (dk_at dksX1_digest_4 8 rfl rfl)
theorem dX1_digest_101 : decode cX1_digest 101 = .ok (.invokeinterface 292 1, 5) := by decide +kernel
theorem dX1_digest_106 : decode cX1_digest 106 = .ok (.checkcast 90, 3) := dk_192 0 90 (dk_at dksX1_digest_4 14 rfl rfl)
theorem dX1_digest_109 : decode cX1_digest 109 = .ok (.astore_n 2, 1) := dk_77 (dk_at dksX1_digest_4 17 rfl rfl)
theorem dX1_digest_110 : decode cX1_digest 110 = .ok (.aload_n 0, 1) := dk_42 (dk_at dksX1_digest_4 18 rfl rfl)
theorem dX1_digest_111 : decode cX1_digest 111 = .ok (.aload_n 2, 1) := dk_44 (dk_at dksX1_digest_4 19 rfl rfl)
theorem dX1_digest_112 : decode cX1_digest 112 = .ok (.invokevirtual 459, 3) := dk_182 1 203 (dk_at dksX1_digest_4 20 rfl rfl)
theorem dX1_digest_115 : decode cX1_digest 115 = .ok (.goto (-24), 3) := dk_167 255 232 (dk_at dksX1_digest_5 0 rfl rfl)
theorem dX1_digest_118 : decode cX1_digest 118 = .ok (.aload_n 0, 1) := dk_42 (dk_at dksX1_digest_5 3 rfl rfl)
theorem dX1_digest_119 : decode cX1_digest 119 = .ok (.aload_n 0, 1) := dk_42 (dk_at dksX1_digest_5 4 rfl rfl)
theorem dX1_digest_120 : decode cX1_digest 120 = .ok (.invokevirtual 444, 3) := dk_182 1 188 (dk_at dksX1_digest_5 5 rfl rfl)
theorem dX1_digest_123 : decode cX1_digest 123 = .ok (.invokestatic 3, 3) := dk_184 0 3 (dk_at dksX1_digest_5 8 rfl rfl)
theorem dX1_digest_126 : decode cX1_digest 126 = .ok (.i2l, 1) := dk_133 (dk_at dksX1_digest_5 11 rfl rfl)
theorem dX1_digest_127 : decode cX1_digest 127 = .ok (.invokevirtual 452, 3) := dk_182 1 196 (dk_at dksX1_digest_5 12 rfl rfl)
theorem dX1_digest_130 : decode cX1_digest 130 = .ok (.aload_n 0, 1) := dk_42 (dk_at dksX1_digest_5 15 rfl rfl)
theorem dX1_digest_131 : decode cX1_digest 131 = .ok (.getfield 446, 3) := dk_180 1 190 (dk_at dksX1_digest_5 16 rfl rfl)
theorem dX1_digest_134 : decode cX1_digest 134 = .ok (.lreturn, 1) := dk_173 (dk_at dksX1_digest_5 19 rfl rfl)
abbrev cX1_houseTold : ByteArray := prog_1_method_42_code
def yX1_houseTold : MethodName := ⟨RX1, "houseTold", "(I)I"⟩
def dkwX1_houseTold_5 : List UInt8 := [180, 1, 57, 172, 42, 180, 0, 56, 182, 1, 108, 172]
abbrev dktX1_houseTold_5 : List UInt8 := dkwX1_houseTold_5 ++ []
def dkwX1_houseTold_4 : List UInt8 := [172, 42, 180, 0, 42, 182, 0, 80, 172, 42, 180, 0, 49, 182, 1, 105, 172, 42, 180, 1, 54, 172, 42]
abbrev dktX1_houseTold_4 : List UInt8 := dkwX1_houseTold_4 ++ dktX1_houseTold_5
def dkwX1_houseTold_3 : List UInt8 := [182, 0, 165, 172, 42, 182, 1, 102, 172, 42, 180, 0, 32, 184, 0, 169, 172, 42, 180, 0, 36, 184, 0, 169]
abbrev dktX1_houseTold_3 : List UInt8 := dkwX1_houseTold_3 ++ dktX1_houseTold_4
def dkwX1_houseTold_2 : List UInt8 := [42, 180, 0, 92, 172, 42, 182, 0, 120, 172, 42, 178, 0, 159, 182, 0, 165, 172, 42, 178, 1, 99]
abbrev dktX1_houseTold_2 : List UInt8 := dkwX1_houseTold_2 ++ dktX1_houseTold_3
def dkwX1_houseTold_1 : List UInt8 := [170, 0, 0, 0, 0, 0, 132, 0, 0, 0, 0, 0, 0, 0, 10, 0, 0, 0, 59, 0, 0, 0, 64, 0, 0, 0, 69, 0, 0, 0, 77, 0, 0, 0, 85, 0, 0, 0, 90, 0, 0, 0, 98, 0, 0, 0, 106, 0, 0, 0, 114, 0, 0, 0, 122, 0, 0, 0, 127]
abbrev dktX1_houseTold_1 : List UInt8 := dkwX1_houseTold_1 ++ dktX1_houseTold_2
def dkwX1_houseTold_0 : List UInt8 := [27]
abbrev dktX1_houseTold_0 : List UInt8 := dkwX1_houseTold_0 ++ dktX1_houseTold_1
theorem dksX1_houseTold_0 : cX1_houseTold.data.toList.drop 0 = dktX1_houseTold_0 := by decide +kernel
theorem dksX1_houseTold_1 : cX1_houseTold.data.toList.drop 1 = dktX1_houseTold_1 := dk_seg dksX1_houseTold_0 1 rfl rfl
theorem dksX1_houseTold_2 : cX1_houseTold.data.toList.drop 60 = dktX1_houseTold_2 := dk_seg dksX1_houseTold_1 59 rfl rfl
theorem dksX1_houseTold_3 : cX1_houseTold.data.toList.drop 82 = dktX1_houseTold_3 := dk_seg dksX1_houseTold_2 22 rfl rfl
theorem dksX1_houseTold_4 : cX1_houseTold.data.toList.drop 106 = dktX1_houseTold_4 := dk_seg dksX1_houseTold_3 24 rfl rfl
theorem dksX1_houseTold_5 : cX1_houseTold.data.toList.drop 129 = dktX1_houseTold_5 := dk_seg dksX1_houseTold_4 23 rfl rfl
theorem dX1_houseTold_0 : decode cX1_houseTold 0 = .ok (.iload_n 1, 1) := dk_27 (dk_at dksX1_houseTold_0 0 rfl rfl)
theorem dX1_houseTold_1 : decode cX1_houseTold 1 = .ok (.tableswitch 132 0 10 #[59, 64, 69, 77, 85, 90, 98, 106, 114, 122, 127], 59) := by decide +kernel
theorem dX1_houseTold_60 : decode cX1_houseTold 60 = .ok (.aload_n 0, 1) := dk_42 (dk_at dksX1_houseTold_2 0 rfl rfl)
theorem dX1_houseTold_61 : decode cX1_houseTold 61 = .ok (.getfield 92, 3) := dk_180 0 92 (dk_at dksX1_houseTold_2 1 rfl rfl)
theorem dX1_houseTold_64 : decode cX1_houseTold 64 = .ok (.ireturn, 1) := dk_172 (dk_at dksX1_houseTold_2 4 rfl rfl)
theorem dX1_houseTold_65 : decode cX1_houseTold 65 = .ok (.aload_n 0, 1) := dk_42 (dk_at dksX1_houseTold_2 5 rfl rfl)
theorem dX1_houseTold_66 : decode cX1_houseTold 66 = .ok (.invokevirtual 120, 3) := dk_182 0 120 (dk_at dksX1_houseTold_2 6 rfl rfl)
theorem dX1_houseTold_69 : decode cX1_houseTold 69 = .ok (.ireturn, 1) := dk_172 (dk_at dksX1_houseTold_2 9 rfl rfl)
theorem dX1_houseTold_70 : decode cX1_houseTold 70 = .ok (.aload_n 0, 1) := dk_42 (dk_at dksX1_houseTold_2 10 rfl rfl)
theorem dX1_houseTold_71 : decode cX1_houseTold 71 = .ok (.getstatic 159, 3) := dk_178 0 159 (dk_at dksX1_houseTold_2 11 rfl rfl)
theorem dX1_houseTold_74 : decode cX1_houseTold 74 = .ok (.invokevirtual 165, 3) := dk_182 0 165 (dk_at dksX1_houseTold_2 14 rfl rfl)
theorem dX1_houseTold_77 : decode cX1_houseTold 77 = .ok (.ireturn, 1) := dk_172 (dk_at dksX1_houseTold_2 17 rfl rfl)
theorem dX1_houseTold_78 : decode cX1_houseTold 78 = .ok (.aload_n 0, 1) := dk_42 (dk_at dksX1_houseTold_2 18 rfl rfl)
theorem dX1_houseTold_79 : decode cX1_houseTold 79 = .ok (.getstatic 355, 3) := dk_178 1 99 (dk_at dksX1_houseTold_2 19 rfl rfl)
theorem dX1_houseTold_82 : decode cX1_houseTold 82 = .ok (.invokevirtual 165, 3) := dk_182 0 165 (dk_at dksX1_houseTold_3 0 rfl rfl)
theorem dX1_houseTold_85 : decode cX1_houseTold 85 = .ok (.ireturn, 1) := dk_172 (dk_at dksX1_houseTold_3 3 rfl rfl)
theorem dX1_houseTold_86 : decode cX1_houseTold 86 = .ok (.aload_n 0, 1) := dk_42 (dk_at dksX1_houseTold_3 4 rfl rfl)
theorem dX1_houseTold_87 : decode cX1_houseTold 87 = .ok (.invokevirtual 358, 3) := dk_182 1 102 (dk_at dksX1_houseTold_3 5 rfl rfl)
theorem dX1_houseTold_90 : decode cX1_houseTold 90 = .ok (.ireturn, 1) := dk_172 (dk_at dksX1_houseTold_3 8 rfl rfl)
theorem dX1_houseTold_91 : decode cX1_houseTold 91 = .ok (.aload_n 0, 1) := dk_42 (dk_at dksX1_houseTold_3 9 rfl rfl)
theorem dX1_houseTold_92 : decode cX1_houseTold 92 = .ok (.getfield 32, 3) := dk_180 0 32 (dk_at dksX1_houseTold_3 10 rfl rfl)
theorem dX1_houseTold_95 : decode cX1_houseTold 95 = .ok (.invokestatic 169, 3) := dk_184 0 169 (dk_at dksX1_houseTold_3 13 rfl rfl)
theorem dX1_houseTold_98 : decode cX1_houseTold 98 = .ok (.ireturn, 1) := dk_172 (dk_at dksX1_houseTold_3 16 rfl rfl)
theorem dX1_houseTold_99 : decode cX1_houseTold 99 = .ok (.aload_n 0, 1) := dk_42 (dk_at dksX1_houseTold_3 17 rfl rfl)
theorem dX1_houseTold_100 : decode cX1_houseTold 100 = .ok (.getfield 36, 3) := dk_180 0 36 (dk_at dksX1_houseTold_3 18 rfl rfl)
theorem dX1_houseTold_103 : decode cX1_houseTold 103 = .ok (.invokestatic 169, 3) := dk_184 0 169 (dk_at dksX1_houseTold_3 21 rfl rfl)
theorem dX1_houseTold_106 : decode cX1_houseTold 106 = .ok (.ireturn, 1) := dk_172 (dk_at dksX1_houseTold_4 0 rfl rfl)
theorem dX1_houseTold_107 : decode cX1_houseTold 107 = .ok (.aload_n 0, 1) := dk_42 (dk_at dksX1_houseTold_4 1 rfl rfl)
theorem dX1_houseTold_108 : decode cX1_houseTold 108 = .ok (.getfield 42, 3) := dk_180 0 42 (dk_at dksX1_houseTold_4 2 rfl rfl)
theorem dX1_houseTold_111 : decode cX1_houseTold 111 = .ok (.invokevirtual 80, 3) := dk_182 0 80 (dk_at dksX1_houseTold_4 5 rfl rfl)
theorem dX1_houseTold_114 : decode cX1_houseTold 114 = .ok (.ireturn, 1) := dk_172 (dk_at dksX1_houseTold_4 8 rfl rfl)
theorem dX1_houseTold_115 : decode cX1_houseTold 115 = .ok (.aload_n 0, 1) := dk_42 (dk_at dksX1_houseTold_4 9 rfl rfl)
theorem dX1_houseTold_116 : decode cX1_houseTold 116 = .ok (.getfield 49, 3) := dk_180 0 49 (dk_at dksX1_houseTold_4 10 rfl rfl)
theorem dX1_houseTold_119 : decode cX1_houseTold 119 = .ok (.invokevirtual 361, 3) := dk_182 1 105 (dk_at dksX1_houseTold_4 13 rfl rfl)
theorem dX1_houseTold_122 : decode cX1_houseTold 122 = .ok (.ireturn, 1) := dk_172 (dk_at dksX1_houseTold_4 16 rfl rfl)
theorem dX1_houseTold_123 : decode cX1_houseTold 123 = .ok (.aload_n 0, 1) := dk_42 (dk_at dksX1_houseTold_4 17 rfl rfl)
theorem dX1_houseTold_124 : decode cX1_houseTold 124 = .ok (.getfield 310, 3) := dk_180 1 54 (dk_at dksX1_houseTold_4 18 rfl rfl)
theorem dX1_houseTold_127 : decode cX1_houseTold 127 = .ok (.ireturn, 1) := dk_172 (dk_at dksX1_houseTold_4 21 rfl rfl)
theorem dX1_houseTold_128 : decode cX1_houseTold 128 = .ok (.aload_n 0, 1) := dk_42 (dk_at dksX1_houseTold_4 22 rfl rfl)
theorem dX1_houseTold_129 : decode cX1_houseTold 129 = .ok (.getfield 313, 3) := dk_180 1 57 (dk_at dksX1_houseTold_5 0 rfl rfl)
theorem dX1_houseTold_132 : decode cX1_houseTold 132 = .ok (.ireturn, 1) := dk_172 (dk_at dksX1_houseTold_5 3 rfl rfl)
theorem dX1_houseTold_133 : decode cX1_houseTold 133 = .ok (.aload_n 0, 1) := dk_42 (dk_at dksX1_houseTold_5 4 rfl rfl)
theorem dX1_houseTold_134 : decode cX1_houseTold 134 = .ok (.getfield 56, 3) := dk_180 0 56 (dk_at dksX1_houseTold_5 5 rfl rfl)
theorem dX1_houseTold_137 : decode cX1_houseTold 137 = .ok (.invokevirtual 364, 3) := dk_182 1 108 (dk_at dksX1_houseTold_5 8 rfl rfl)
theorem dX1_houseTold_140 : decode cX1_houseTold 140 = .ok (.ireturn, 1) := dk_172 (dk_at dksX1_houseTold_5 11 rfl rfl)
abbrev cX1_count : ByteArray := prog_1_method_17_code
def yX1_count : MethodName := ⟨RX1, "count", "(LBumpward$Kind;)I"⟩
def dkwX1_count_2 : List UInt8 := [132, 5, 1, 167, 255, 220, 28, 172]
abbrev dktX1_count_2 : List UInt8 := dkwX1_count_2 ++ []
def dkwX1_count_1 : List UInt8 := [50, 58, 6, 28, 25, 6, 180, 0, 153, 43, 166, 0, 7, 4, 167, 0, 4, 3, 184, 0, 3, 96, 61]
abbrev dktX1_count_1 : List UInt8 := dkwX1_count_1 ++ dktX1_count_2
def dkwX1_count_0 : List UInt8 := [3, 61, 42, 180, 0, 28, 78, 45, 190, 54, 4, 3, 54, 5, 21, 5, 21, 4, 162, 0, 35, 45, 21, 5]
abbrev dktX1_count_0 : List UInt8 := dkwX1_count_0 ++ dktX1_count_1
theorem dksX1_count_0 : cX1_count.data.toList.drop 0 = dktX1_count_0 := by decide +kernel
theorem dksX1_count_1 : cX1_count.data.toList.drop 24 = dktX1_count_1 := dk_seg dksX1_count_0 24 rfl rfl
theorem dksX1_count_2 : cX1_count.data.toList.drop 47 = dktX1_count_2 := dk_seg dksX1_count_1 23 rfl rfl
theorem dX1_count_0 : decode cX1_count 0 = .ok (.iconst 0, 1) := dk_3 (dk_at dksX1_count_0 0 rfl rfl)
theorem dX1_count_1 : decode cX1_count 1 = .ok (.istore_n 2, 1) := dk_61 (dk_at dksX1_count_0 1 rfl rfl)
theorem dX1_count_2 : decode cX1_count 2 = .ok (.aload_n 0, 1) := dk_42 (dk_at dksX1_count_0 2 rfl rfl)
theorem dX1_count_3 : decode cX1_count 3 = .ok (.getfield 28, 3) := dk_180 0 28 (dk_at dksX1_count_0 3 rfl rfl)
theorem dX1_count_6 : decode cX1_count 6 = .ok (.astore_n 3, 1) := dk_78 (dk_at dksX1_count_0 6 rfl rfl)
theorem dX1_count_7 : decode cX1_count 7 = .ok (.aload_n 3, 1) := dk_45 (dk_at dksX1_count_0 7 rfl rfl)
theorem dX1_count_8 : decode cX1_count 8 = .ok (.arraylength, 1) := dk_190 (dk_at dksX1_count_0 8 rfl rfl)
theorem dX1_count_9 : decode cX1_count 9 = .ok (.istore 4, 2) := dk_54 4 (dk_at dksX1_count_0 9 rfl rfl)
theorem dX1_count_11 : decode cX1_count 11 = .ok (.iconst 0, 1) := dk_3 (dk_at dksX1_count_0 11 rfl rfl)
theorem dX1_count_12 : decode cX1_count 12 = .ok (.istore 5, 2) := dk_54 5 (dk_at dksX1_count_0 12 rfl rfl)
theorem dX1_count_14 : decode cX1_count 14 = .ok (.iload 5, 2) := dk_21 5 (dk_at dksX1_count_0 14 rfl rfl)
theorem dX1_count_16 : decode cX1_count 16 = .ok (.iload 4, 2) := dk_21 4 (dk_at dksX1_count_0 16 rfl rfl)
theorem dX1_count_18 : decode cX1_count 18 = .ok (.if_icmp .ge 35, 3) := dk_162 0 35 (dk_at dksX1_count_0 18 rfl rfl)
theorem dX1_count_21 : decode cX1_count 21 = .ok (.aload_n 3, 1) := dk_45 (dk_at dksX1_count_0 21 rfl rfl)
theorem dX1_count_22 : decode cX1_count 22 = .ok (.iload 5, 2) := dk_21 5 (dk_at dksX1_count_0 22 rfl rfl)
theorem dX1_count_24 : decode cX1_count 24 = .ok (.aaload, 1) := dk_50 (dk_at dksX1_count_1 0 rfl rfl)
theorem dX1_count_25 : decode cX1_count 25 = .ok (.astore 6, 2) := dk_58 6 (dk_at dksX1_count_1 1 rfl rfl)
theorem dX1_count_27 : decode cX1_count 27 = .ok (.iload_n 2, 1) := dk_28 (dk_at dksX1_count_1 3 rfl rfl)
theorem dX1_count_28 : decode cX1_count 28 = .ok (.aload 6, 2) := dk_25 6 (dk_at dksX1_count_1 4 rfl rfl)
theorem dX1_count_30 : decode cX1_count 30 = .ok (.getfield 153, 3) := dk_180 0 153 (dk_at dksX1_count_1 6 rfl rfl)
theorem dX1_count_33 : decode cX1_count 33 = .ok (.aload_n 1, 1) := dk_43 (dk_at dksX1_count_1 9 rfl rfl)
theorem dX1_count_34 : decode cX1_count 34 = .ok (.if_acmp .ne 7, 3) := dk_166 0 7 (dk_at dksX1_count_1 10 rfl rfl)
theorem dX1_count_37 : decode cX1_count 37 = .ok (.iconst 1, 1) := dk_4 (dk_at dksX1_count_1 13 rfl rfl)
theorem dX1_count_38 : decode cX1_count 38 = .ok (.goto 4, 3) := dk_167 0 4 (dk_at dksX1_count_1 14 rfl rfl)
theorem dX1_count_41 : decode cX1_count 41 = .ok (.iconst 0, 1) := dk_3 (dk_at dksX1_count_1 17 rfl rfl)
theorem dX1_count_42 : decode cX1_count 42 = .ok (.invokestatic 3, 3) := dk_184 0 3 (dk_at dksX1_count_1 18 rfl rfl)
theorem dX1_count_45 : decode cX1_count 45 = .ok (.iadd, 1) := dk_96 (dk_at dksX1_count_1 21 rfl rfl)
theorem dX1_count_46 : decode cX1_count 46 = .ok (.istore_n 2, 1) := dk_61 (dk_at dksX1_count_1 22 rfl rfl)
theorem dX1_count_47 : decode cX1_count 47 = .ok (.iinc 5 1, 3) := dk_132 5 1 (dk_at dksX1_count_2 0 rfl rfl)
theorem dX1_count_50 : decode cX1_count 50 = .ok (.goto (-36), 3) := dk_167 255 220 (dk_at dksX1_count_2 3 rfl rfl)
theorem dX1_count_53 : decode cX1_count 53 = .ok (.iload_n 2, 1) := dk_28 (dk_at dksX1_count_2 6 rfl rfl)
theorem dX1_count_54 : decode cX1_count 54 = .ok (.ireturn, 1) := dk_172 (dk_at dksX1_count_2 7 rfl rfl)
abbrev cX1_openDoors : ByteArray := prog_1_method_41_code
def yX1_openDoors : MethodName := ⟨RX1, "openDoors", "()I"⟩
def dkwX1_openDoors_2 : List UInt8 := [154, 0, 7, 4, 167, 0, 4, 3, 184, 0, 3, 96, 60, 132, 4, 1, 167, 255, 207, 27, 172]
abbrev dktX1_openDoors_2 : List UInt8 := dkwX1_openDoors_2 ++ []
def dkwX1_openDoors_1 : List UInt8 := [58, 5, 27, 25, 5, 180, 0, 153, 178, 1, 99, 166, 0, 19, 25, 5, 42, 182, 0, 120, 182, 0, 123]
abbrev dktX1_openDoors_1 : List UInt8 := dkwX1_openDoors_1 ++ dktX1_openDoors_2
def dkwX1_openDoors_0 : List UInt8 := [3, 60, 42, 180, 0, 28, 77, 44, 190, 62, 3, 54, 4, 21, 4, 29, 162, 0, 49, 44, 21, 4, 50]
abbrev dktX1_openDoors_0 : List UInt8 := dkwX1_openDoors_0 ++ dktX1_openDoors_1
theorem dksX1_openDoors_0 : cX1_openDoors.data.toList.drop 0 = dktX1_openDoors_0 := by decide +kernel
theorem dksX1_openDoors_1 : cX1_openDoors.data.toList.drop 23 = dktX1_openDoors_1 := dk_seg dksX1_openDoors_0 23 rfl rfl
theorem dksX1_openDoors_2 : cX1_openDoors.data.toList.drop 46 = dktX1_openDoors_2 := dk_seg dksX1_openDoors_1 23 rfl rfl
theorem dX1_openDoors_0 : decode cX1_openDoors 0 = .ok (.iconst 0, 1) := dk_3 (dk_at dksX1_openDoors_0 0 rfl rfl)
theorem dX1_openDoors_1 : decode cX1_openDoors 1 = .ok (.istore_n 1, 1) := dk_60 (dk_at dksX1_openDoors_0 1 rfl rfl)
theorem dX1_openDoors_2 : decode cX1_openDoors 2 = .ok (.aload_n 0, 1) := dk_42 (dk_at dksX1_openDoors_0 2 rfl rfl)
theorem dX1_openDoors_3 : decode cX1_openDoors 3 = .ok (.getfield 28, 3) := dk_180 0 28 (dk_at dksX1_openDoors_0 3 rfl rfl)
theorem dX1_openDoors_6 : decode cX1_openDoors 6 = .ok (.astore_n 2, 1) := dk_77 (dk_at dksX1_openDoors_0 6 rfl rfl)
theorem dX1_openDoors_7 : decode cX1_openDoors 7 = .ok (.aload_n 2, 1) := dk_44 (dk_at dksX1_openDoors_0 7 rfl rfl)
theorem dX1_openDoors_8 : decode cX1_openDoors 8 = .ok (.arraylength, 1) := dk_190 (dk_at dksX1_openDoors_0 8 rfl rfl)
theorem dX1_openDoors_9 : decode cX1_openDoors 9 = .ok (.istore_n 3, 1) := dk_62 (dk_at dksX1_openDoors_0 9 rfl rfl)
theorem dX1_openDoors_10 : decode cX1_openDoors 10 = .ok (.iconst 0, 1) := dk_3 (dk_at dksX1_openDoors_0 10 rfl rfl)
theorem dX1_openDoors_11 : decode cX1_openDoors 11 = .ok (.istore 4, 2) := dk_54 4 (dk_at dksX1_openDoors_0 11 rfl rfl)
theorem dX1_openDoors_13 : decode cX1_openDoors 13 = .ok (.iload 4, 2) := dk_21 4 (dk_at dksX1_openDoors_0 13 rfl rfl)
theorem dX1_openDoors_15 : decode cX1_openDoors 15 = .ok (.iload_n 3, 1) := dk_29 (dk_at dksX1_openDoors_0 15 rfl rfl)
theorem dX1_openDoors_16 : decode cX1_openDoors 16 = .ok (.if_icmp .ge 49, 3) := dk_162 0 49 (dk_at dksX1_openDoors_0 16 rfl rfl)
theorem dX1_openDoors_19 : decode cX1_openDoors 19 = .ok (.aload_n 2, 1) := dk_44 (dk_at dksX1_openDoors_0 19 rfl rfl)
theorem dX1_openDoors_20 : decode cX1_openDoors 20 = .ok (.iload 4, 2) := dk_21 4 (dk_at dksX1_openDoors_0 20 rfl rfl)
theorem dX1_openDoors_22 : decode cX1_openDoors 22 = .ok (.aaload, 1) := dk_50 (dk_at dksX1_openDoors_0 22 rfl rfl)
theorem dX1_openDoors_23 : decode cX1_openDoors 23 = .ok (.astore 5, 2) := dk_58 5 (dk_at dksX1_openDoors_1 0 rfl rfl)
theorem dX1_openDoors_25 : decode cX1_openDoors 25 = .ok (.iload_n 1, 1) := dk_27 (dk_at dksX1_openDoors_1 2 rfl rfl)
theorem dX1_openDoors_26 : decode cX1_openDoors 26 = .ok (.aload 5, 2) := dk_25 5 (dk_at dksX1_openDoors_1 3 rfl rfl)
theorem dX1_openDoors_28 : decode cX1_openDoors 28 = .ok (.getfield 153, 3) := dk_180 0 153 (dk_at dksX1_openDoors_1 5 rfl rfl)
theorem dX1_openDoors_31 : decode cX1_openDoors 31 = .ok (.getstatic 355, 3) := dk_178 1 99 (dk_at dksX1_openDoors_1 8 rfl rfl)
theorem dX1_openDoors_34 : decode cX1_openDoors 34 = .ok (.if_acmp .ne 19, 3) := dk_166 0 19 (dk_at dksX1_openDoors_1 11 rfl rfl)
theorem dX1_openDoors_37 : decode cX1_openDoors 37 = .ok (.aload 5, 2) := dk_25 5 (dk_at dksX1_openDoors_1 14 rfl rfl)
theorem dX1_openDoors_39 : decode cX1_openDoors 39 = .ok (.aload_n 0, 1) := dk_42 (dk_at dksX1_openDoors_1 16 rfl rfl)
theorem dX1_openDoors_40 : decode cX1_openDoors 40 = .ok (.invokevirtual 120, 3) := dk_182 0 120 (dk_at dksX1_openDoors_1 17 rfl rfl)
theorem dX1_openDoors_43 : decode cX1_openDoors 43 = .ok (.invokevirtual 123, 3) := dk_182 0 123 (dk_at dksX1_openDoors_1 20 rfl rfl)
theorem dX1_openDoors_46 : decode cX1_openDoors 46 = .ok (.ifCond .ne 7, 3) := dk_154 0 7 (dk_at dksX1_openDoors_2 0 rfl rfl)
theorem dX1_openDoors_49 : decode cX1_openDoors 49 = .ok (.iconst 1, 1) := dk_4 (dk_at dksX1_openDoors_2 3 rfl rfl)
theorem dX1_openDoors_50 : decode cX1_openDoors 50 = .ok (.goto 4, 3) := dk_167 0 4 (dk_at dksX1_openDoors_2 4 rfl rfl)
theorem dX1_openDoors_53 : decode cX1_openDoors 53 = .ok (.iconst 0, 1) := dk_3 (dk_at dksX1_openDoors_2 7 rfl rfl)
theorem dX1_openDoors_54 : decode cX1_openDoors 54 = .ok (.invokestatic 3, 3) := dk_184 0 3 (dk_at dksX1_openDoors_2 8 rfl rfl)
theorem dX1_openDoors_57 : decode cX1_openDoors 57 = .ok (.iadd, 1) := dk_96 (dk_at dksX1_openDoors_2 11 rfl rfl)
theorem dX1_openDoors_58 : decode cX1_openDoors 58 = .ok (.istore_n 1, 1) := dk_60 (dk_at dksX1_openDoors_2 12 rfl rfl)
theorem dX1_openDoors_59 : decode cX1_openDoors 59 = .ok (.iinc 4 1, 3) := dk_132 4 1 (dk_at dksX1_openDoors_2 13 rfl rfl)
theorem dX1_openDoors_62 : decode cX1_openDoors 62 = .ok (.goto (-49), 3) := dk_167 255 207 (dk_at dksX1_openDoors_2 16 rfl rfl)
theorem dX1_openDoors_65 : decode cX1_openDoors 65 = .ok (.iload_n 1, 1) := dk_27 (dk_at dksX1_openDoors_2 19 rfl rfl)
theorem dX1_openDoors_66 : decode cX1_openDoors 66 = .ok (.ireturn, 1) := dk_172 (dk_at dksX1_openDoors_2 20 rfl rfl)
abbrev cX1_count_2 : ByteArray := prog_1_method_19_code
def yX1_count_2 : MethodName := ⟨RX1, "count", "([Z)I"⟩
def dkwX1_count_2_1 : List UInt8 := [21, 5, 184, 0, 3, 96, 60, 132, 4, 1, 167, 255, 233, 27, 172]
abbrev dktX1_count_2_1 : List UInt8 := dkwX1_count_2_1 ++ []
def dkwX1_count_2_0 : List UInt8 := [3, 60, 42, 77, 44, 190, 62, 3, 54, 4, 21, 4, 29, 162, 0, 23, 44, 21, 4, 51, 54, 5, 27]
abbrev dktX1_count_2_0 : List UInt8 := dkwX1_count_2_0 ++ dktX1_count_2_1
theorem dksX1_count_2_0 : cX1_count_2.data.toList.drop 0 = dktX1_count_2_0 := by decide +kernel
theorem dksX1_count_2_1 : cX1_count_2.data.toList.drop 23 = dktX1_count_2_1 := dk_seg dksX1_count_2_0 23 rfl rfl
theorem dX1_count_2_0 : decode cX1_count_2 0 = .ok (.iconst 0, 1) := dk_3 (dk_at dksX1_count_2_0 0 rfl rfl)
theorem dX1_count_2_1 : decode cX1_count_2 1 = .ok (.istore_n 1, 1) := dk_60 (dk_at dksX1_count_2_0 1 rfl rfl)
theorem dX1_count_2_2 : decode cX1_count_2 2 = .ok (.aload_n 0, 1) := dk_42 (dk_at dksX1_count_2_0 2 rfl rfl)
theorem dX1_count_2_3 : decode cX1_count_2 3 = .ok (.astore_n 2, 1) := dk_77 (dk_at dksX1_count_2_0 3 rfl rfl)
theorem dX1_count_2_4 : decode cX1_count_2 4 = .ok (.aload_n 2, 1) := dk_44 (dk_at dksX1_count_2_0 4 rfl rfl)
theorem dX1_count_2_5 : decode cX1_count_2 5 = .ok (.arraylength, 1) := dk_190 (dk_at dksX1_count_2_0 5 rfl rfl)
theorem dX1_count_2_6 : decode cX1_count_2 6 = .ok (.istore_n 3, 1) := dk_62 (dk_at dksX1_count_2_0 6 rfl rfl)
theorem dX1_count_2_7 : decode cX1_count_2 7 = .ok (.iconst 0, 1) := dk_3 (dk_at dksX1_count_2_0 7 rfl rfl)
theorem dX1_count_2_8 : decode cX1_count_2 8 = .ok (.istore 4, 2) := dk_54 4 (dk_at dksX1_count_2_0 8 rfl rfl)
theorem dX1_count_2_10 : decode cX1_count_2 10 = .ok (.iload 4, 2) := dk_21 4 (dk_at dksX1_count_2_0 10 rfl rfl)
theorem dX1_count_2_12 : decode cX1_count_2 12 = .ok (.iload_n 3, 1) := dk_29 (dk_at dksX1_count_2_0 12 rfl rfl)
theorem dX1_count_2_13 : decode cX1_count_2 13 = .ok (.if_icmp .ge 23, 3) := dk_162 0 23 (dk_at dksX1_count_2_0 13 rfl rfl)
theorem dX1_count_2_16 : decode cX1_count_2 16 = .ok (.aload_n 2, 1) := dk_44 (dk_at dksX1_count_2_0 16 rfl rfl)
theorem dX1_count_2_17 : decode cX1_count_2 17 = .ok (.iload 4, 2) := dk_21 4 (dk_at dksX1_count_2_0 17 rfl rfl)
theorem dX1_count_2_19 : decode cX1_count_2 19 = .ok (.baload, 1) := dk_51 (dk_at dksX1_count_2_0 19 rfl rfl)
theorem dX1_count_2_20 : decode cX1_count_2 20 = .ok (.istore 5, 2) := dk_54 5 (dk_at dksX1_count_2_0 20 rfl rfl)
theorem dX1_count_2_22 : decode cX1_count_2 22 = .ok (.iload_n 1, 1) := dk_27 (dk_at dksX1_count_2_0 22 rfl rfl)
theorem dX1_count_2_23 : decode cX1_count_2 23 = .ok (.iload 5, 2) := dk_21 5 (dk_at dksX1_count_2_1 0 rfl rfl)
theorem dX1_count_2_25 : decode cX1_count_2 25 = .ok (.invokestatic 3, 3) := dk_184 0 3 (dk_at dksX1_count_2_1 2 rfl rfl)
theorem dX1_count_2_28 : decode cX1_count_2 28 = .ok (.iadd, 1) := dk_96 (dk_at dksX1_count_2_1 5 rfl rfl)
theorem dX1_count_2_29 : decode cX1_count_2 29 = .ok (.istore_n 1, 1) := dk_60 (dk_at dksX1_count_2_1 6 rfl rfl)
theorem dX1_count_2_30 : decode cX1_count_2 30 = .ok (.iinc 4 1, 3) := dk_132 4 1 (dk_at dksX1_count_2_1 7 rfl rfl)
theorem dX1_count_2_33 : decode cX1_count_2 33 = .ok (.goto (-23), 3) := dk_167 255 233 (dk_at dksX1_count_2_1 10 rfl rfl)
theorem dX1_count_2_36 : decode cX1_count_2 36 = .ok (.iload_n 1, 1) := dk_27 (dk_at dksX1_count_2_1 13 rfl rfl)
theorem dX1_count_2_37 : decode cX1_count_2 37 = .ok (.ireturn, 1) := dk_172 (dk_at dksX1_count_2_1 14 rfl rfl)
abbrev cX1_add : ByteArray := prog_1_method_61_code
def yX1_add : MethodName := ⟨RX1, "add", "(J)V"⟩
def dkwX1_add_0 : List UInt8 := [42, 42, 180, 1, 190, 20, 1, 194, 105, 31, 97, 181, 1, 190, 177]
abbrev dktX1_add_0 : List UInt8 := dkwX1_add_0 ++ []
theorem dksX1_add_0 : cX1_add.data.toList.drop 0 = dktX1_add_0 := by decide +kernel
theorem dX1_add_0 : decode cX1_add 0 = .ok (.aload_n 0, 1) := dk_42 (dk_at dksX1_add_0 0 rfl rfl)
theorem dX1_add_1 : decode cX1_add 1 = .ok (.aload_n 0, 1) := dk_42 (dk_at dksX1_add_0 1 rfl rfl)
theorem dX1_add_2 : decode cX1_add 2 = .ok (.getfield 446, 3) := dk_180 1 190 (dk_at dksX1_add_0 2 rfl rfl)
theorem dX1_add_5 : decode cX1_add 5 = .ok (.ldc2_w 450, 3) := dk_20 1 194 (dk_at dksX1_add_0 5 rfl rfl)
theorem dX1_add_8 : decode cX1_add 8 = .ok (.lmul, 1) := dk_105 (dk_at dksX1_add_0 8 rfl rfl)
theorem dX1_add_9 : decode cX1_add 9 = .ok (.lload_n 1, 1) := dk_31 (dk_at dksX1_add_0 9 rfl rfl)
theorem dX1_add_10 : decode cX1_add 10 = .ok (.ladd, 1) := dk_97 (dk_at dksX1_add_0 10 rfl rfl)
theorem dX1_add_11 : decode cX1_add 11 = .ok (.putfield 446, 3) := dk_181 1 190 (dk_at dksX1_add_0 11 rfl rfl)
theorem dX1_add_14 : decode cX1_add 14 = .ok (.return_, 1) := dk_177 (dk_at dksX1_add_0 14 rfl rfl)
abbrev cX1_told : ByteArray := prog_1_method_36_code
def yX1_told : MethodName := ⟨RX1, "told", "(III)I"⟩
def dkwX1_told_3 : List UInt8 := [182, 0, 117, 192, 0, 26, 180, 1, 76, 172]
abbrev dktX1_told_3 : List UInt8 := dkwX1_told_3 ++ []
def dkwX1_told_2 : List UInt8 := [154, 0, 20, 25, 4, 182, 0, 117, 192, 0, 26, 180, 0, 153, 182, 1, 73, 167, 0, 14, 25, 4]
abbrev dktX1_told_2 : List UInt8 := dkwX1_told_2 ++ dktX1_told_3
def dkwX1_told_1 : List UInt8 := [25, 4, 182, 0, 113, 153, 0, 18, 29, 154, 0, 12, 178, 0, 159, 182, 1, 73, 167, 0, 4, 3, 172, 29]
abbrev dktX1_told_1 : List UInt8 := dkwX1_told_1 ++ dktX1_told_2
def dkwX1_told_0 : List UInt8 := [42, 27, 28, 182, 0, 109, 58, 4, 29, 4, 160, 0, 13, 42, 27, 28, 182, 0, 229, 184, 0, 3, 172]
abbrev dktX1_told_0 : List UInt8 := dkwX1_told_0 ++ dktX1_told_1
theorem dksX1_told_0 : cX1_told.data.toList.drop 0 = dktX1_told_0 := by decide +kernel
theorem dksX1_told_1 : cX1_told.data.toList.drop 23 = dktX1_told_1 := dk_seg dksX1_told_0 23 rfl rfl
theorem dksX1_told_2 : cX1_told.data.toList.drop 47 = dktX1_told_2 := dk_seg dksX1_told_1 24 rfl rfl
theorem dksX1_told_3 : cX1_told.data.toList.drop 69 = dktX1_told_3 := dk_seg dksX1_told_2 22 rfl rfl
theorem dX1_told_0 : decode cX1_told 0 = .ok (.aload_n 0, 1) := dk_42 (dk_at dksX1_told_0 0 rfl rfl)
theorem dX1_told_1 : decode cX1_told 1 = .ok (.iload_n 1, 1) := dk_27 (dk_at dksX1_told_0 1 rfl rfl)
theorem dX1_told_2 : decode cX1_told 2 = .ok (.iload_n 2, 1) := dk_28 (dk_at dksX1_told_0 2 rfl rfl)
theorem dX1_told_3 : decode cX1_told 3 = .ok (.invokevirtual 109, 3) := dk_182 0 109 (dk_at dksX1_told_0 3 rfl rfl)
theorem dX1_told_6 : decode cX1_told 6 = .ok (.astore 4, 2) := dk_58 4 (dk_at dksX1_told_0 6 rfl rfl)
theorem dX1_told_8 : decode cX1_told 8 = .ok (.iload_n 3, 1) := dk_29 (dk_at dksX1_told_0 8 rfl rfl)
theorem dX1_told_9 : decode cX1_told 9 = .ok (.iconst 1, 1) := dk_4 (dk_at dksX1_told_0 9 rfl rfl)
theorem dX1_told_10 : decode cX1_told 10 = .ok (.if_icmp .ne 13, 3) := dk_160 0 13 (dk_at dksX1_told_0 10 rfl rfl)
theorem dX1_told_13 : decode cX1_told 13 = .ok (.aload_n 0, 1) := dk_42 (dk_at dksX1_told_0 13 rfl rfl)
theorem dX1_told_14 : decode cX1_told 14 = .ok (.iload_n 1, 1) := dk_27 (dk_at dksX1_told_0 14 rfl rfl)
theorem dX1_told_15 : decode cX1_told 15 = .ok (.iload_n 2, 1) := dk_28 (dk_at dksX1_told_0 15 rfl rfl)
theorem dX1_told_16 : decode cX1_told 16 = .ok (.invokevirtual 229, 3) := dk_182 0 229 (dk_at dksX1_told_0 16 rfl rfl)
theorem dX1_told_19 : decode cX1_told 19 = .ok (.invokestatic 3, 3) := dk_184 0 3 (dk_at dksX1_told_0 19 rfl rfl)
theorem dX1_told_22 : decode cX1_told 22 = .ok (.ireturn, 1) := dk_172 (dk_at dksX1_told_0 22 rfl rfl)
theorem dX1_told_23 : decode cX1_told 23 = .ok (.aload 4, 2) := dk_25 4 (dk_at dksX1_told_1 0 rfl rfl)
theorem dX1_told_25 : decode cX1_told 25 = .ok (.invokevirtual 113, 3) := dk_182 0 113 (dk_at dksX1_told_1 2 rfl rfl)
theorem dX1_told_28 : decode cX1_told 28 = .ok (.ifCond .eq 18, 3) := dk_153 0 18 (dk_at dksX1_told_1 5 rfl rfl)
theorem dX1_told_31 : decode cX1_told 31 = .ok (.iload_n 3, 1) := dk_29 (dk_at dksX1_told_1 8 rfl rfl)
theorem dX1_told_32 : decode cX1_told 32 = .ok (.ifCond .ne 12, 3) := dk_154 0 12 (dk_at dksX1_told_1 9 rfl rfl)
theorem dX1_told_35 : decode cX1_told 35 = .ok (.getstatic 159, 3) := dk_178 0 159 (dk_at dksX1_told_1 12 rfl rfl)
theorem dX1_told_38 : decode cX1_told 38 = .ok (.invokevirtual 329, 3) := dk_182 1 73 (dk_at dksX1_told_1 15 rfl rfl)
theorem dX1_told_41 : decode cX1_told 41 = .ok (.goto 4, 3) := dk_167 0 4 (dk_at dksX1_told_1 18 rfl rfl)
theorem dX1_told_44 : decode cX1_told 44 = .ok (.iconst 0, 1) := dk_3 (dk_at dksX1_told_1 21 rfl rfl)
theorem dX1_told_45 : decode cX1_told 45 = .ok (.ireturn, 1) := dk_172 (dk_at dksX1_told_1 22 rfl rfl)
theorem dX1_told_46 : decode cX1_told 46 = .ok (.iload_n 3, 1) := dk_29 (dk_at dksX1_told_1 23 rfl rfl)
theorem dX1_told_47 : decode cX1_told 47 = .ok (.ifCond .ne 20, 3) := dk_154 0 20 (dk_at dksX1_told_2 0 rfl rfl)
theorem dX1_told_50 : decode cX1_told 50 = .ok (.aload 4, 2) := dk_25 4 (dk_at dksX1_told_2 3 rfl rfl)
theorem dX1_told_52 : decode cX1_told 52 = .ok (.invokevirtual 117, 3) := dk_182 0 117 (dk_at dksX1_told_2 5 rfl rfl)
theorem dX1_told_55 : decode cX1_told 55 = .ok (.checkcast 26, 3) := dk_192 0 26 (dk_at dksX1_told_2 8 rfl rfl)
theorem dX1_told_58 : decode cX1_told 58 = .ok (.getfield 153, 3) := dk_180 0 153 (dk_at dksX1_told_2 11 rfl rfl)
theorem dX1_told_61 : decode cX1_told 61 = .ok (.invokevirtual 329, 3) := dk_182 1 73 (dk_at dksX1_told_2 14 rfl rfl)
theorem dX1_told_64 : decode cX1_told 64 = .ok (.goto 14, 3) := dk_167 0 14 (dk_at dksX1_told_2 17 rfl rfl)
theorem dX1_told_67 : decode cX1_told 67 = .ok (.aload 4, 2) := dk_25 4 (dk_at dksX1_told_2 20 rfl rfl)
theorem dX1_told_69 : decode cX1_told 69 = .ok (.invokevirtual 117, 3) := dk_182 0 117 (dk_at dksX1_told_3 0 rfl rfl)
theorem dX1_told_72 : decode cX1_told 72 = .ok (.checkcast 26, 3) := dk_192 0 26 (dk_at dksX1_told_3 3 rfl rfl)
theorem dX1_told_75 : decode cX1_told 75 = .ok (.getfield 332, 3) := dk_180 1 76 (dk_at dksX1_told_3 6 rfl rfl)
theorem dX1_told_78 : decode cX1_told 78 = .ok (.ireturn, 1) := dk_172 (dk_at dksX1_told_3 9 rfl rfl)
abbrev cX1_edge : ByteArray := prog_1_method_14_code
def yX1_edge : MethodName := ⟨RX1, "edge", "(II)Ljava/util/Optional;"⟩
def dkwX1_edge_1 : List UInt8 := [50, 184, 0, 105, 176]
abbrev dktX1_edge_1 : List UInt8 := dkwX1_edge_1 ++ []
def dkwX1_edge_0 : List UInt8 := [27, 28, 184, 0, 96, 2, 160, 0, 9, 184, 0, 99, 167, 0, 16, 42, 180, 0, 28, 27, 28, 184, 0, 96]
abbrev dktX1_edge_0 : List UInt8 := dkwX1_edge_0 ++ dktX1_edge_1
theorem dksX1_edge_0 : cX1_edge.data.toList.drop 0 = dktX1_edge_0 := by decide +kernel
theorem dksX1_edge_1 : cX1_edge.data.toList.drop 24 = dktX1_edge_1 := dk_seg dksX1_edge_0 24 rfl rfl
theorem dX1_edge_0 : decode cX1_edge 0 = .ok (.iload_n 1, 1) := dk_27 (dk_at dksX1_edge_0 0 rfl rfl)
theorem dX1_edge_1 : decode cX1_edge 1 = .ok (.iload_n 2, 1) := dk_28 (dk_at dksX1_edge_0 1 rfl rfl)
theorem dX1_edge_2 : decode cX1_edge 2 = .ok (.invokestatic 96, 3) := dk_184 0 96 (dk_at dksX1_edge_0 2 rfl rfl)
theorem dX1_edge_5 : decode cX1_edge 5 = .ok (.iconst (-1), 1) := dk_2 (dk_at dksX1_edge_0 5 rfl rfl)
theorem dX1_edge_6 : decode cX1_edge 6 = .ok (.if_icmp .ne 9, 3) := dk_160 0 9 (dk_at dksX1_edge_0 6 rfl rfl)
theorem dX1_edge_9 : decode cX1_edge 9 = .ok (.invokestatic 99, 3) := dk_184 0 99 (dk_at dksX1_edge_0 9 rfl rfl)
theorem dX1_edge_12 : decode cX1_edge 12 = .ok (.goto 16, 3) := dk_167 0 16 (dk_at dksX1_edge_0 12 rfl rfl)
theorem dX1_edge_15 : decode cX1_edge 15 = .ok (.aload_n 0, 1) := dk_42 (dk_at dksX1_edge_0 15 rfl rfl)
theorem dX1_edge_16 : decode cX1_edge 16 = .ok (.getfield 28, 3) := dk_180 0 28 (dk_at dksX1_edge_0 16 rfl rfl)
theorem dX1_edge_19 : decode cX1_edge 19 = .ok (.iload_n 1, 1) := dk_27 (dk_at dksX1_edge_0 19 rfl rfl)
theorem dX1_edge_20 : decode cX1_edge 20 = .ok (.iload_n 2, 1) := dk_28 (dk_at dksX1_edge_0 20 rfl rfl)
theorem dX1_edge_21 : decode cX1_edge 21 = .ok (.invokestatic 96, 3) := dk_184 0 96 (dk_at dksX1_edge_0 21 rfl rfl)
theorem dX1_edge_24 : decode cX1_edge 24 = .ok (.aaload, 1) := dk_50 (dk_at dksX1_edge_1 0 rfl rfl)
theorem dX1_edge_25 : decode cX1_edge 25 = .ok (.invokestatic 105, 3) := dk_184 0 105 (dk_at dksX1_edge_1 1 rfl rfl)
theorem dX1_edge_28 : decode cX1_edge 28 = .ok (.areturn, 1) := dk_176 (dk_at dksX1_edge_1 4 rfl rfl)
abbrev cX1_edgeAt : ByteArray := prog_1_method_4_code
def yX1_edgeAt : MethodName := ⟨RX1, "edgeAt", "(II)I"⟩
def dkwX1_edgeAt_2 : List UInt8 := [167, 0, 7, 16, 30, 29, 96, 172]
abbrev dktX1_edgeAt_2 : List UInt8 := dkwX1_edgeAt_2 ++ []
def dkwX1_edgeAt_1 : List UInt8 := [54, 4, 29, 16, 6, 112, 54, 5, 27, 5, 112, 4, 160, 0, 13, 21, 4, 8, 104, 21, 5, 96]
abbrev dktX1_edgeAt_1 : List UInt8 := dkwX1_edgeAt_1 ++ dktX1_edgeAt_2
def dkwX1_edgeAt_0 : List UInt8 := [26, 27, 184, 0, 11, 61, 28, 2, 160, 0, 5, 2, 172, 26, 28, 184, 0, 15, 62, 29, 16, 6, 108]
abbrev dktX1_edgeAt_0 : List UInt8 := dkwX1_edgeAt_0 ++ dktX1_edgeAt_1
theorem dksX1_edgeAt_0 : cX1_edgeAt.data.toList.drop 0 = dktX1_edgeAt_0 := by decide +kernel
theorem dksX1_edgeAt_1 : cX1_edgeAt.data.toList.drop 23 = dktX1_edgeAt_1 := dk_seg dksX1_edgeAt_0 23 rfl rfl
theorem dksX1_edgeAt_2 : cX1_edgeAt.data.toList.drop 45 = dktX1_edgeAt_2 := dk_seg dksX1_edgeAt_1 22 rfl rfl
theorem dX1_edgeAt_0 : decode cX1_edgeAt 0 = .ok (.iload_n 0, 1) := dk_26 (dk_at dksX1_edgeAt_0 0 rfl rfl)
theorem dX1_edgeAt_1 : decode cX1_edgeAt 1 = .ok (.iload_n 1, 1) := dk_27 (dk_at dksX1_edgeAt_0 1 rfl rfl)
theorem dX1_edgeAt_2 : decode cX1_edgeAt 2 = .ok (.invokestatic 11, 3) := dk_184 0 11 (dk_at dksX1_edgeAt_0 2 rfl rfl)
theorem dX1_edgeAt_5 : decode cX1_edgeAt 5 = .ok (.istore_n 2, 1) := dk_61 (dk_at dksX1_edgeAt_0 5 rfl rfl)
theorem dX1_edgeAt_6 : decode cX1_edgeAt 6 = .ok (.iload_n 2, 1) := dk_28 (dk_at dksX1_edgeAt_0 6 rfl rfl)
theorem dX1_edgeAt_7 : decode cX1_edgeAt 7 = .ok (.iconst (-1), 1) := dk_2 (dk_at dksX1_edgeAt_0 7 rfl rfl)
theorem dX1_edgeAt_8 : decode cX1_edgeAt 8 = .ok (.if_icmp .ne 5, 3) := dk_160 0 5 (dk_at dksX1_edgeAt_0 8 rfl rfl)
theorem dX1_edgeAt_11 : decode cX1_edgeAt 11 = .ok (.iconst (-1), 1) := dk_2 (dk_at dksX1_edgeAt_0 11 rfl rfl)
theorem dX1_edgeAt_12 : decode cX1_edgeAt 12 = .ok (.ireturn, 1) := dk_172 (dk_at dksX1_edgeAt_0 12 rfl rfl)
theorem dX1_edgeAt_13 : decode cX1_edgeAt 13 = .ok (.iload_n 0, 1) := dk_26 (dk_at dksX1_edgeAt_0 13 rfl rfl)
theorem dX1_edgeAt_14 : decode cX1_edgeAt 14 = .ok (.iload_n 2, 1) := dk_28 (dk_at dksX1_edgeAt_0 14 rfl rfl)
theorem dX1_edgeAt_15 : decode cX1_edgeAt 15 = .ok (.invokestatic 15, 3) := dk_184 0 15 (dk_at dksX1_edgeAt_0 15 rfl rfl)
theorem dX1_edgeAt_18 : decode cX1_edgeAt 18 = .ok (.istore_n 3, 1) := dk_62 (dk_at dksX1_edgeAt_0 18 rfl rfl)
theorem dX1_edgeAt_19 : decode cX1_edgeAt 19 = .ok (.iload_n 3, 1) := dk_29 (dk_at dksX1_edgeAt_0 19 rfl rfl)
theorem dX1_edgeAt_20 : decode cX1_edgeAt 20 = .ok (.bipush 6, 2) := dk_16 6 (dk_at dksX1_edgeAt_0 20 rfl rfl)
theorem dX1_edgeAt_22 : decode cX1_edgeAt 22 = .ok (.idiv, 1) := dk_108 (dk_at dksX1_edgeAt_0 22 rfl rfl)
theorem dX1_edgeAt_23 : decode cX1_edgeAt 23 = .ok (.istore 4, 2) := dk_54 4 (dk_at dksX1_edgeAt_1 0 rfl rfl)
theorem dX1_edgeAt_25 : decode cX1_edgeAt 25 = .ok (.iload_n 3, 1) := dk_29 (dk_at dksX1_edgeAt_1 2 rfl rfl)
theorem dX1_edgeAt_26 : decode cX1_edgeAt 26 = .ok (.bipush 6, 2) := dk_16 6 (dk_at dksX1_edgeAt_1 3 rfl rfl)
theorem dX1_edgeAt_28 : decode cX1_edgeAt 28 = .ok (.irem, 1) := dk_112 (dk_at dksX1_edgeAt_1 5 rfl rfl)
theorem dX1_edgeAt_29 : decode cX1_edgeAt 29 = .ok (.istore 5, 2) := dk_54 5 (dk_at dksX1_edgeAt_1 6 rfl rfl)
theorem dX1_edgeAt_31 : decode cX1_edgeAt 31 = .ok (.iload_n 1, 1) := dk_27 (dk_at dksX1_edgeAt_1 8 rfl rfl)
theorem dX1_edgeAt_32 : decode cX1_edgeAt 32 = .ok (.iconst 2, 1) := dk_5 (dk_at dksX1_edgeAt_1 9 rfl rfl)
theorem dX1_edgeAt_33 : decode cX1_edgeAt 33 = .ok (.irem, 1) := dk_112 (dk_at dksX1_edgeAt_1 10 rfl rfl)
theorem dX1_edgeAt_34 : decode cX1_edgeAt 34 = .ok (.iconst 1, 1) := dk_4 (dk_at dksX1_edgeAt_1 11 rfl rfl)
theorem dX1_edgeAt_35 : decode cX1_edgeAt 35 = .ok (.if_icmp .ne 13, 3) := dk_160 0 13 (dk_at dksX1_edgeAt_1 12 rfl rfl)
theorem dX1_edgeAt_38 : decode cX1_edgeAt 38 = .ok (.iload 4, 2) := dk_21 4 (dk_at dksX1_edgeAt_1 15 rfl rfl)
theorem dX1_edgeAt_40 : decode cX1_edgeAt 40 = .ok (.iconst 5, 1) := dk_8 (dk_at dksX1_edgeAt_1 17 rfl rfl)
theorem dX1_edgeAt_41 : decode cX1_edgeAt 41 = .ok (.imul, 1) := dk_104 (dk_at dksX1_edgeAt_1 18 rfl rfl)
theorem dX1_edgeAt_42 : decode cX1_edgeAt 42 = .ok (.iload 5, 2) := dk_21 5 (dk_at dksX1_edgeAt_1 19 rfl rfl)
theorem dX1_edgeAt_44 : decode cX1_edgeAt 44 = .ok (.iadd, 1) := dk_96 (dk_at dksX1_edgeAt_1 21 rfl rfl)
theorem dX1_edgeAt_45 : decode cX1_edgeAt 45 = .ok (.goto 7, 3) := dk_167 0 7 (dk_at dksX1_edgeAt_2 0 rfl rfl)
theorem dX1_edgeAt_48 : decode cX1_edgeAt 48 = .ok (.bipush 30, 2) := dk_16 30 (dk_at dksX1_edgeAt_2 3 rfl rfl)
theorem dX1_edgeAt_50 : decode cX1_edgeAt 50 = .ok (.iload_n 3, 1) := dk_29 (dk_at dksX1_edgeAt_2 5 rfl rfl)
theorem dX1_edgeAt_51 : decode cX1_edgeAt 51 = .ok (.iadd, 1) := dk_96 (dk_at dksX1_edgeAt_2 6 rfl rfl)
theorem dX1_edgeAt_52 : decode cX1_edgeAt 52 = .ok (.ireturn, 1) := dk_172 (dk_at dksX1_edgeAt_2 7 rfl rfl)
abbrev cX1_beside : ByteArray := prog_1_method_3_code
def yX1_beside : MethodName := ⟨RX1, "beside", "(II)I"⟩
def dkwX1_beside_4 : List UInt8 := [2, 172]
abbrev dktX1_beside_4 : List UInt8 := dkwX1_beside_4 ++ []
def dkwX1_beside_3 : List UInt8 := [184, 0, 7, 153, 0, 21, 29, 3, 8, 184, 0, 7, 153, 0, 12, 28, 16, 6, 104, 29, 96, 167, 0, 4]
abbrev dktX1_beside_3 : List UInt8 := dkwX1_beside_3 ++ dktX1_beside_4
def dkwX1_beside_2 : List UInt8 := [184, 0, 3, 96, 27, 6, 160, 0, 7, 4, 167, 0, 4, 3, 184, 0, 3, 100, 62, 28, 3, 8]
abbrev dktX1_beside_2 : List UInt8 := dkwX1_beside_2 ++ dktX1_beside_3
def dkwX1_beside_1 : List UInt8 := [167, 0, 4, 3, 184, 0, 3, 100, 61, 26, 16, 6, 112, 27, 4, 160, 0, 7, 4, 167, 0, 4, 3]
abbrev dktX1_beside_1 : List UInt8 := dkwX1_beside_1 ++ dktX1_beside_2
def dkwX1_beside_0 : List UInt8 := [26, 16, 6, 108, 27, 5, 160, 0, 7, 4, 167, 0, 4, 3, 184, 0, 3, 96, 27, 154, 0, 7, 4]
abbrev dktX1_beside_0 : List UInt8 := dkwX1_beside_0 ++ dktX1_beside_1
theorem dksX1_beside_0 : cX1_beside.data.toList.drop 0 = dktX1_beside_0 := by decide +kernel
theorem dksX1_beside_1 : cX1_beside.data.toList.drop 23 = dktX1_beside_1 := dk_seg dksX1_beside_0 23 rfl rfl
theorem dksX1_beside_2 : cX1_beside.data.toList.drop 46 = dktX1_beside_2 := dk_seg dksX1_beside_1 23 rfl rfl
theorem dksX1_beside_3 : cX1_beside.data.toList.drop 68 = dktX1_beside_3 := dk_seg dksX1_beside_2 22 rfl rfl
theorem dksX1_beside_4 : cX1_beside.data.toList.drop 92 = dktX1_beside_4 := dk_seg dksX1_beside_3 24 rfl rfl
theorem dX1_beside_0 : decode cX1_beside 0 = .ok (.iload_n 0, 1) := dk_26 (dk_at dksX1_beside_0 0 rfl rfl)
theorem dX1_beside_1 : decode cX1_beside 1 = .ok (.bipush 6, 2) := dk_16 6 (dk_at dksX1_beside_0 1 rfl rfl)
theorem dX1_beside_3 : decode cX1_beside 3 = .ok (.idiv, 1) := dk_108 (dk_at dksX1_beside_0 3 rfl rfl)
theorem dX1_beside_4 : decode cX1_beside 4 = .ok (.iload_n 1, 1) := dk_27 (dk_at dksX1_beside_0 4 rfl rfl)
theorem dX1_beside_5 : decode cX1_beside 5 = .ok (.iconst 2, 1) := dk_5 (dk_at dksX1_beside_0 5 rfl rfl)
theorem dX1_beside_6 : decode cX1_beside 6 = .ok (.if_icmp .ne 7, 3) := dk_160 0 7 (dk_at dksX1_beside_0 6 rfl rfl)
theorem dX1_beside_9 : decode cX1_beside 9 = .ok (.iconst 1, 1) := dk_4 (dk_at dksX1_beside_0 9 rfl rfl)
theorem dX1_beside_10 : decode cX1_beside 10 = .ok (.goto 4, 3) := dk_167 0 4 (dk_at dksX1_beside_0 10 rfl rfl)
theorem dX1_beside_13 : decode cX1_beside 13 = .ok (.iconst 0, 1) := dk_3 (dk_at dksX1_beside_0 13 rfl rfl)
theorem dX1_beside_14 : decode cX1_beside 14 = .ok (.invokestatic 3, 3) := dk_184 0 3 (dk_at dksX1_beside_0 14 rfl rfl)
theorem dX1_beside_17 : decode cX1_beside 17 = .ok (.iadd, 1) := dk_96 (dk_at dksX1_beside_0 17 rfl rfl)
theorem dX1_beside_18 : decode cX1_beside 18 = .ok (.iload_n 1, 1) := dk_27 (dk_at dksX1_beside_0 18 rfl rfl)
theorem dX1_beside_19 : decode cX1_beside 19 = .ok (.ifCond .ne 7, 3) := dk_154 0 7 (dk_at dksX1_beside_0 19 rfl rfl)
theorem dX1_beside_22 : decode cX1_beside 22 = .ok (.iconst 1, 1) := dk_4 (dk_at dksX1_beside_0 22 rfl rfl)
theorem dX1_beside_23 : decode cX1_beside 23 = .ok (.goto 4, 3) := dk_167 0 4 (dk_at dksX1_beside_1 0 rfl rfl)
theorem dX1_beside_26 : decode cX1_beside 26 = .ok (.iconst 0, 1) := dk_3 (dk_at dksX1_beside_1 3 rfl rfl)
theorem dX1_beside_27 : decode cX1_beside 27 = .ok (.invokestatic 3, 3) := dk_184 0 3 (dk_at dksX1_beside_1 4 rfl rfl)
theorem dX1_beside_30 : decode cX1_beside 30 = .ok (.isub, 1) := dk_100 (dk_at dksX1_beside_1 7 rfl rfl)
theorem dX1_beside_31 : decode cX1_beside 31 = .ok (.istore_n 2, 1) := dk_61 (dk_at dksX1_beside_1 8 rfl rfl)
theorem dX1_beside_32 : decode cX1_beside 32 = .ok (.iload_n 0, 1) := dk_26 (dk_at dksX1_beside_1 9 rfl rfl)
theorem dX1_beside_33 : decode cX1_beside 33 = .ok (.bipush 6, 2) := dk_16 6 (dk_at dksX1_beside_1 10 rfl rfl)
theorem dX1_beside_35 : decode cX1_beside 35 = .ok (.irem, 1) := dk_112 (dk_at dksX1_beside_1 12 rfl rfl)
theorem dX1_beside_36 : decode cX1_beside 36 = .ok (.iload_n 1, 1) := dk_27 (dk_at dksX1_beside_1 13 rfl rfl)
theorem dX1_beside_37 : decode cX1_beside 37 = .ok (.iconst 1, 1) := dk_4 (dk_at dksX1_beside_1 14 rfl rfl)
theorem dX1_beside_38 : decode cX1_beside 38 = .ok (.if_icmp .ne 7, 3) := dk_160 0 7 (dk_at dksX1_beside_1 15 rfl rfl)
theorem dX1_beside_41 : decode cX1_beside 41 = .ok (.iconst 1, 1) := dk_4 (dk_at dksX1_beside_1 18 rfl rfl)
theorem dX1_beside_42 : decode cX1_beside 42 = .ok (.goto 4, 3) := dk_167 0 4 (dk_at dksX1_beside_1 19 rfl rfl)
theorem dX1_beside_45 : decode cX1_beside 45 = .ok (.iconst 0, 1) := dk_3 (dk_at dksX1_beside_1 22 rfl rfl)
theorem dX1_beside_46 : decode cX1_beside 46 = .ok (.invokestatic 3, 3) := dk_184 0 3 (dk_at dksX1_beside_2 0 rfl rfl)
theorem dX1_beside_49 : decode cX1_beside 49 = .ok (.iadd, 1) := dk_96 (dk_at dksX1_beside_2 3 rfl rfl)
theorem dX1_beside_50 : decode cX1_beside 50 = .ok (.iload_n 1, 1) := dk_27 (dk_at dksX1_beside_2 4 rfl rfl)
theorem dX1_beside_51 : decode cX1_beside 51 = .ok (.iconst 3, 1) := dk_6 (dk_at dksX1_beside_2 5 rfl rfl)
theorem dX1_beside_52 : decode cX1_beside 52 = .ok (.if_icmp .ne 7, 3) := dk_160 0 7 (dk_at dksX1_beside_2 6 rfl rfl)
theorem dX1_beside_55 : decode cX1_beside 55 = .ok (.iconst 1, 1) := dk_4 (dk_at dksX1_beside_2 9 rfl rfl)
theorem dX1_beside_56 : decode cX1_beside 56 = .ok (.goto 4, 3) := dk_167 0 4 (dk_at dksX1_beside_2 10 rfl rfl)
theorem dX1_beside_59 : decode cX1_beside 59 = .ok (.iconst 0, 1) := dk_3 (dk_at dksX1_beside_2 13 rfl rfl)
theorem dX1_beside_60 : decode cX1_beside 60 = .ok (.invokestatic 3, 3) := dk_184 0 3 (dk_at dksX1_beside_2 14 rfl rfl)
theorem dX1_beside_63 : decode cX1_beside 63 = .ok (.isub, 1) := dk_100 (dk_at dksX1_beside_2 17 rfl rfl)
theorem dX1_beside_64 : decode cX1_beside 64 = .ok (.istore_n 3, 1) := dk_62 (dk_at dksX1_beside_2 18 rfl rfl)
theorem dX1_beside_65 : decode cX1_beside 65 = .ok (.iload_n 2, 1) := dk_28 (dk_at dksX1_beside_2 19 rfl rfl)
theorem dX1_beside_66 : decode cX1_beside 66 = .ok (.iconst 0, 1) := dk_3 (dk_at dksX1_beside_2 20 rfl rfl)
theorem dX1_beside_67 : decode cX1_beside 67 = .ok (.iconst 5, 1) := dk_8 (dk_at dksX1_beside_2 21 rfl rfl)
theorem dX1_beside_68 : decode cX1_beside 68 = .ok (.invokestatic 7, 3) := dk_184 0 7 (dk_at dksX1_beside_3 0 rfl rfl)
theorem dX1_beside_71 : decode cX1_beside 71 = .ok (.ifCond .eq 21, 3) := dk_153 0 21 (dk_at dksX1_beside_3 3 rfl rfl)
theorem dX1_beside_74 : decode cX1_beside 74 = .ok (.iload_n 3, 1) := dk_29 (dk_at dksX1_beside_3 6 rfl rfl)
theorem dX1_beside_75 : decode cX1_beside 75 = .ok (.iconst 0, 1) := dk_3 (dk_at dksX1_beside_3 7 rfl rfl)
theorem dX1_beside_76 : decode cX1_beside 76 = .ok (.iconst 5, 1) := dk_8 (dk_at dksX1_beside_3 8 rfl rfl)
theorem dX1_beside_77 : decode cX1_beside 77 = .ok (.invokestatic 7, 3) := dk_184 0 7 (dk_at dksX1_beside_3 9 rfl rfl)
theorem dX1_beside_80 : decode cX1_beside 80 = .ok (.ifCond .eq 12, 3) := dk_153 0 12 (dk_at dksX1_beside_3 12 rfl rfl)
theorem dX1_beside_83 : decode cX1_beside 83 = .ok (.iload_n 2, 1) := dk_28 (dk_at dksX1_beside_3 15 rfl rfl)
theorem dX1_beside_84 : decode cX1_beside 84 = .ok (.bipush 6, 2) := dk_16 6 (dk_at dksX1_beside_3 16 rfl rfl)
theorem dX1_beside_86 : decode cX1_beside 86 = .ok (.imul, 1) := dk_104 (dk_at dksX1_beside_3 18 rfl rfl)
theorem dX1_beside_87 : decode cX1_beside 87 = .ok (.iload_n 3, 1) := dk_29 (dk_at dksX1_beside_3 19 rfl rfl)
theorem dX1_beside_88 : decode cX1_beside 88 = .ok (.iadd, 1) := dk_96 (dk_at dksX1_beside_3 20 rfl rfl)
theorem dX1_beside_89 : decode cX1_beside 89 = .ok (.goto 4, 3) := dk_167 0 4 (dk_at dksX1_beside_3 21 rfl rfl)
theorem dX1_beside_92 : decode cX1_beside 92 = .ok (.iconst (-1), 1) := dk_2 (dk_at dksX1_beside_4 0 rfl rfl)
theorem dX1_beside_93 : decode cX1_beside 93 = .ok (.ireturn, 1) := dk_172 (dk_at dksX1_beside_4 1 rfl rfl)
abbrev cX1_isShut : ByteArray := prog_1_method_15_code
def yX1_isShut : MethodName := ⟨RX1, "isShut", "(II)Z"⟩
def dkwX1_isShut_1 : List UInt8 := [182, 0, 120, 182, 0, 123, 153, 0, 7, 4, 167, 0, 4, 3, 172]
abbrev dktX1_isShut_1 : List UInt8 := dkwX1_isShut_1 ++ []
def dkwX1_isShut_0 : List UInt8 := [42, 27, 28, 182, 0, 109, 78, 45, 182, 0, 113, 154, 0, 20, 45, 182, 0, 117, 192, 0, 26, 42]
abbrev dktX1_isShut_0 : List UInt8 := dkwX1_isShut_0 ++ dktX1_isShut_1
theorem dksX1_isShut_0 : cX1_isShut.data.toList.drop 0 = dktX1_isShut_0 := by decide +kernel
theorem dksX1_isShut_1 : cX1_isShut.data.toList.drop 22 = dktX1_isShut_1 := dk_seg dksX1_isShut_0 22 rfl rfl
theorem dX1_isShut_0 : decode cX1_isShut 0 = .ok (.aload_n 0, 1) := dk_42 (dk_at dksX1_isShut_0 0 rfl rfl)
theorem dX1_isShut_1 : decode cX1_isShut 1 = .ok (.iload_n 1, 1) := dk_27 (dk_at dksX1_isShut_0 1 rfl rfl)
theorem dX1_isShut_2 : decode cX1_isShut 2 = .ok (.iload_n 2, 1) := dk_28 (dk_at dksX1_isShut_0 2 rfl rfl)
theorem dX1_isShut_3 : decode cX1_isShut 3 = .ok (.invokevirtual 109, 3) := dk_182 0 109 (dk_at dksX1_isShut_0 3 rfl rfl)
theorem dX1_isShut_6 : decode cX1_isShut 6 = .ok (.astore_n 3, 1) := dk_78 (dk_at dksX1_isShut_0 6 rfl rfl)
theorem dX1_isShut_7 : decode cX1_isShut 7 = .ok (.aload_n 3, 1) := dk_45 (dk_at dksX1_isShut_0 7 rfl rfl)
theorem dX1_isShut_8 : decode cX1_isShut 8 = .ok (.invokevirtual 113, 3) := dk_182 0 113 (dk_at dksX1_isShut_0 8 rfl rfl)
theorem dX1_isShut_11 : decode cX1_isShut 11 = .ok (.ifCond .ne 20, 3) := dk_154 0 20 (dk_at dksX1_isShut_0 11 rfl rfl)
theorem dX1_isShut_14 : decode cX1_isShut 14 = .ok (.aload_n 3, 1) := dk_45 (dk_at dksX1_isShut_0 14 rfl rfl)
theorem dX1_isShut_15 : decode cX1_isShut 15 = .ok (.invokevirtual 117, 3) := dk_182 0 117 (dk_at dksX1_isShut_0 15 rfl rfl)
theorem dX1_isShut_18 : decode cX1_isShut 18 = .ok (.checkcast 26, 3) := dk_192 0 26 (dk_at dksX1_isShut_0 18 rfl rfl)
theorem dX1_isShut_21 : decode cX1_isShut 21 = .ok (.aload_n 0, 1) := dk_42 (dk_at dksX1_isShut_0 21 rfl rfl)
theorem dX1_isShut_22 : decode cX1_isShut 22 = .ok (.invokevirtual 120, 3) := dk_182 0 120 (dk_at dksX1_isShut_1 0 rfl rfl)
theorem dX1_isShut_25 : decode cX1_isShut 25 = .ok (.invokevirtual 123, 3) := dk_182 0 123 (dk_at dksX1_isShut_1 3 rfl rfl)
theorem dX1_isShut_28 : decode cX1_isShut 28 = .ok (.ifCond .eq 7, 3) := dk_153 0 7 (dk_at dksX1_isShut_1 6 rfl rfl)
theorem dX1_isShut_31 : decode cX1_isShut 31 = .ok (.iconst 1, 1) := dk_4 (dk_at dksX1_isShut_1 9 rfl rfl)
theorem dX1_isShut_32 : decode cX1_isShut 32 = .ok (.goto 4, 3) := dk_167 0 4 (dk_at dksX1_isShut_1 10 rfl rfl)
theorem dX1_isShut_35 : decode cX1_isShut 35 = .ok (.iconst 0, 1) := dk_3 (dk_at dksX1_isShut_1 13 rfl rfl)
theorem dX1_isShut_36 : decode cX1_isShut 36 = .ok (.ireturn, 1) := dk_172 (dk_at dksX1_isShut_1 14 rfl rfl)
abbrev cX1_addWalker : ByteArray := prog_1_method_62_code
def yX1_addWalker : MethodName := ⟨RX1, "addWalker", "(LBumpward$Walker;)V"⟩
def dkwX1_addWalker_7 : List UInt8 := [167, 255, 231, 132, 4, 1, 167, 255, 215, 177]
abbrev dktX1_addWalker_7 : List UInt8 := dkwX1_addWalker_7 ++ []
def dkwX1_addWalker_6 : List UInt8 := [163, 0, 25, 42, 43, 180, 0, 232, 21, 4, 21, 5, 182, 1, 137, 133, 182, 1, 196, 132, 5, 1]
abbrev dktX1_addWalker_6 : List UInt8 := dkwX1_addWalker_6 ++ dktX1_addWalker_7
def dkwX1_addWalker_5 : List UInt8 := [40, 107, 143, 182, 1, 196, 3, 54, 4, 21, 4, 16, 36, 162, 0, 40, 4, 54, 5, 21, 5, 5]
abbrev dktX1_addWalker_5 : List UInt8 := dkwX1_addWalker_5 ++ dktX1_addWalker_6
def dkwX1_addWalker_4 : List UInt8 := [132, 2, 1, 167, 255, 238, 42, 43, 182, 1, 180, 133, 182, 1, 196, 43, 184, 1, 173, 73, 42, 20, 1, 199]
abbrev dktX1_addWalker_4 : List UInt8 := dkwX1_addWalker_4 ++ dktX1_addWalker_5
def dkwX1_addWalker_3 : List UInt8 := [132, 2, 1, 167, 255, 238, 3, 61, 28, 6, 163, 0, 19, 42, 43, 28, 182, 1, 177, 133, 182, 1, 196]
abbrev dktX1_addWalker_3 : List UInt8 := dkwX1_addWalker_3 ++ dktX1_addWalker_4
def dkwX1_addWalker_2 : List UInt8 := [132, 2, 1, 167, 255, 236, 3, 61, 28, 7, 162, 0, 19, 42, 43, 28, 184, 1, 162, 133, 182, 1, 196]
abbrev dktX1_addWalker_2 : List UInt8 := dkwX1_addWalker_2 ++ dktX1_addWalker_3
def dkwX1_addWalker_1 : List UInt8 := [167, 255, 236, 3, 61, 28, 7, 162, 0, 21, 42, 43, 180, 0, 201, 28, 182, 1, 145, 182, 1, 196]
abbrev dktX1_addWalker_1 : List UInt8 := dkwX1_addWalker_1 ++ dktX1_addWalker_2
def dkwX1_addWalker_0 : List UInt8 := [3, 61, 28, 16, 13, 162, 0, 20, 42, 42, 43, 28, 182, 1, 96, 133, 182, 1, 196, 132, 2, 1]
abbrev dktX1_addWalker_0 : List UInt8 := dkwX1_addWalker_0 ++ dktX1_addWalker_1
theorem dksX1_addWalker_0 : cX1_addWalker.data.toList.drop 0 = dktX1_addWalker_0 := by decide +kernel
theorem dksX1_addWalker_1 : cX1_addWalker.data.toList.drop 22 = dktX1_addWalker_1 := dk_seg dksX1_addWalker_0 22 rfl rfl
theorem dksX1_addWalker_2 : cX1_addWalker.data.toList.drop 44 = dktX1_addWalker_2 := dk_seg dksX1_addWalker_1 22 rfl rfl
theorem dksX1_addWalker_3 : cX1_addWalker.data.toList.drop 67 = dktX1_addWalker_3 := dk_seg dksX1_addWalker_2 23 rfl rfl
theorem dksX1_addWalker_4 : cX1_addWalker.data.toList.drop 90 = dktX1_addWalker_4 := dk_seg dksX1_addWalker_3 23 rfl rfl
theorem dksX1_addWalker_5 : cX1_addWalker.data.toList.drop 114 = dktX1_addWalker_5 := dk_seg dksX1_addWalker_4 24 rfl rfl
theorem dksX1_addWalker_6 : cX1_addWalker.data.toList.drop 136 = dktX1_addWalker_6 := dk_seg dksX1_addWalker_5 22 rfl rfl
theorem dksX1_addWalker_7 : cX1_addWalker.data.toList.drop 158 = dktX1_addWalker_7 := dk_seg dksX1_addWalker_6 22 rfl rfl
theorem dX1_addWalker_0 : decode cX1_addWalker 0 = .ok (.iconst 0, 1) := dk_3 (dk_at dksX1_addWalker_0 0 rfl rfl)
theorem dX1_addWalker_1 : decode cX1_addWalker 1 = .ok (.istore_n 2, 1) := dk_61 (dk_at dksX1_addWalker_0 1 rfl rfl)
theorem dX1_addWalker_2 : decode cX1_addWalker 2 = .ok (.iload_n 2, 1) := dk_28 (dk_at dksX1_addWalker_0 2 rfl rfl)
theorem dX1_addWalker_3 : decode cX1_addWalker 3 = .ok (.bipush 13, 2) := dk_16 13 (dk_at dksX1_addWalker_0 3 rfl rfl)
theorem dX1_addWalker_5 : decode cX1_addWalker 5 = .ok (.if_icmp .ge 20, 3) := dk_162 0 20 (dk_at dksX1_addWalker_0 5 rfl rfl)
theorem dX1_addWalker_8 : decode cX1_addWalker 8 = .ok (.aload_n 0, 1) := dk_42 (dk_at dksX1_addWalker_0 8 rfl rfl)
theorem dX1_addWalker_9 : decode cX1_addWalker 9 = .ok (.aload_n 0, 1) := dk_42 (dk_at dksX1_addWalker_0 9 rfl rfl)
theorem dX1_addWalker_10 : decode cX1_addWalker 10 = .ok (.aload_n 1, 1) := dk_43 (dk_at dksX1_addWalker_0 10 rfl rfl)
theorem dX1_addWalker_11 : decode cX1_addWalker 11 = .ok (.iload_n 2, 1) := dk_28 (dk_at dksX1_addWalker_0 11 rfl rfl)
theorem dX1_addWalker_12 : decode cX1_addWalker 12 = .ok (.invokevirtual 352, 3) := dk_182 1 96 (dk_at dksX1_addWalker_0 12 rfl rfl)
theorem dX1_addWalker_15 : decode cX1_addWalker 15 = .ok (.i2l, 1) := dk_133 (dk_at dksX1_addWalker_0 15 rfl rfl)
theorem dX1_addWalker_16 : decode cX1_addWalker 16 = .ok (.invokevirtual 452, 3) := dk_182 1 196 (dk_at dksX1_addWalker_0 16 rfl rfl)
theorem dX1_addWalker_19 : decode cX1_addWalker 19 = .ok (.iinc 2 1, 3) := dk_132 2 1 (dk_at dksX1_addWalker_0 19 rfl rfl)
theorem dX1_addWalker_22 : decode cX1_addWalker 22 = .ok (.goto (-20), 3) := dk_167 255 236 (dk_at dksX1_addWalker_1 0 rfl rfl)
theorem dX1_addWalker_25 : decode cX1_addWalker 25 = .ok (.iconst 0, 1) := dk_3 (dk_at dksX1_addWalker_1 3 rfl rfl)
theorem dX1_addWalker_26 : decode cX1_addWalker 26 = .ok (.istore_n 2, 1) := dk_61 (dk_at dksX1_addWalker_1 4 rfl rfl)
theorem dX1_addWalker_27 : decode cX1_addWalker 27 = .ok (.iload_n 2, 1) := dk_28 (dk_at dksX1_addWalker_1 5 rfl rfl)
theorem dX1_addWalker_28 : decode cX1_addWalker 28 = .ok (.iconst 4, 1) := dk_7 (dk_at dksX1_addWalker_1 6 rfl rfl)
theorem dX1_addWalker_29 : decode cX1_addWalker 29 = .ok (.if_icmp .ge 21, 3) := dk_162 0 21 (dk_at dksX1_addWalker_1 7 rfl rfl)
theorem dX1_addWalker_32 : decode cX1_addWalker 32 = .ok (.aload_n 0, 1) := dk_42 (dk_at dksX1_addWalker_1 10 rfl rfl)
theorem dX1_addWalker_33 : decode cX1_addWalker 33 = .ok (.aload_n 1, 1) := dk_43 (dk_at dksX1_addWalker_1 11 rfl rfl)
theorem dX1_addWalker_34 : decode cX1_addWalker 34 = .ok (.getfield 201, 3) := dk_180 0 201 (dk_at dksX1_addWalker_1 12 rfl rfl)
theorem dX1_addWalker_37 : decode cX1_addWalker 37 = .ok (.iload_n 2, 1) := dk_28 (dk_at dksX1_addWalker_1 15 rfl rfl)
theorem dX1_addWalker_38 : decode cX1_addWalker 38 = .ok (.invokevirtual 401, 3) := dk_182 1 145 (dk_at dksX1_addWalker_1 16 rfl rfl)
theorem dX1_addWalker_41 : decode cX1_addWalker 41 = .ok (.invokevirtual 452, 3) := dk_182 1 196 (dk_at dksX1_addWalker_1 19 rfl rfl)
theorem dX1_addWalker_44 : decode cX1_addWalker 44 = .ok (.iinc 2 1, 3) := dk_132 2 1 (dk_at dksX1_addWalker_2 0 rfl rfl)
theorem dX1_addWalker_47 : decode cX1_addWalker 47 = .ok (.goto (-20), 3) := dk_167 255 236 (dk_at dksX1_addWalker_2 3 rfl rfl)
theorem dX1_addWalker_50 : decode cX1_addWalker 50 = .ok (.iconst 0, 1) := dk_3 (dk_at dksX1_addWalker_2 6 rfl rfl)
theorem dX1_addWalker_51 : decode cX1_addWalker 51 = .ok (.istore_n 2, 1) := dk_61 (dk_at dksX1_addWalker_2 7 rfl rfl)
theorem dX1_addWalker_52 : decode cX1_addWalker 52 = .ok (.iload_n 2, 1) := dk_28 (dk_at dksX1_addWalker_2 8 rfl rfl)
theorem dX1_addWalker_53 : decode cX1_addWalker 53 = .ok (.iconst 4, 1) := dk_7 (dk_at dksX1_addWalker_2 9 rfl rfl)
theorem dX1_addWalker_54 : decode cX1_addWalker 54 = .ok (.if_icmp .ge 19, 3) := dk_162 0 19 (dk_at dksX1_addWalker_2 10 rfl rfl)
theorem dX1_addWalker_57 : decode cX1_addWalker 57 = .ok (.aload_n 0, 1) := dk_42 (dk_at dksX1_addWalker_2 13 rfl rfl)
theorem dX1_addWalker_58 : decode cX1_addWalker 58 = .ok (.aload_n 1, 1) := dk_43 (dk_at dksX1_addWalker_2 14 rfl rfl)
theorem dX1_addWalker_59 : decode cX1_addWalker 59 = .ok (.iload_n 2, 1) := dk_28 (dk_at dksX1_addWalker_2 15 rfl rfl)
theorem dX1_addWalker_60 : decode cX1_addWalker 60 = .ok (.invokestatic 418, 3) := dk_184 1 162 (dk_at dksX1_addWalker_2 16 rfl rfl)
theorem dX1_addWalker_63 : decode cX1_addWalker 63 = .ok (.i2l, 1) := dk_133 (dk_at dksX1_addWalker_2 19 rfl rfl)
theorem dX1_addWalker_64 : decode cX1_addWalker 64 = .ok (.invokevirtual 452, 3) := dk_182 1 196 (dk_at dksX1_addWalker_2 20 rfl rfl)
theorem dX1_addWalker_67 : decode cX1_addWalker 67 = .ok (.iinc 2 1, 3) := dk_132 2 1 (dk_at dksX1_addWalker_3 0 rfl rfl)
theorem dX1_addWalker_70 : decode cX1_addWalker 70 = .ok (.goto (-18), 3) := dk_167 255 238 (dk_at dksX1_addWalker_3 3 rfl rfl)
theorem dX1_addWalker_73 : decode cX1_addWalker 73 = .ok (.iconst 0, 1) := dk_3 (dk_at dksX1_addWalker_3 6 rfl rfl)
theorem dX1_addWalker_74 : decode cX1_addWalker 74 = .ok (.istore_n 2, 1) := dk_61 (dk_at dksX1_addWalker_3 7 rfl rfl)
theorem dX1_addWalker_75 : decode cX1_addWalker 75 = .ok (.iload_n 2, 1) := dk_28 (dk_at dksX1_addWalker_3 8 rfl rfl)
theorem dX1_addWalker_76 : decode cX1_addWalker 76 = .ok (.iconst 3, 1) := dk_6 (dk_at dksX1_addWalker_3 9 rfl rfl)
theorem dX1_addWalker_77 : decode cX1_addWalker 77 = .ok (.if_icmp .gt 19, 3) := dk_163 0 19 (dk_at dksX1_addWalker_3 10 rfl rfl)
theorem dX1_addWalker_80 : decode cX1_addWalker 80 = .ok (.aload_n 0, 1) := dk_42 (dk_at dksX1_addWalker_3 13 rfl rfl)
theorem dX1_addWalker_81 : decode cX1_addWalker 81 = .ok (.aload_n 1, 1) := dk_43 (dk_at dksX1_addWalker_3 14 rfl rfl)
theorem dX1_addWalker_82 : decode cX1_addWalker 82 = .ok (.iload_n 2, 1) := dk_28 (dk_at dksX1_addWalker_3 15 rfl rfl)
theorem dX1_addWalker_83 : decode cX1_addWalker 83 = .ok (.invokevirtual 433, 3) := dk_182 1 177 (dk_at dksX1_addWalker_3 16 rfl rfl)
theorem dX1_addWalker_86 : decode cX1_addWalker 86 = .ok (.i2l, 1) := dk_133 (dk_at dksX1_addWalker_3 19 rfl rfl)
theorem dX1_addWalker_87 : decode cX1_addWalker 87 = .ok (.invokevirtual 452, 3) := dk_182 1 196 (dk_at dksX1_addWalker_3 20 rfl rfl)
theorem dX1_addWalker_90 : decode cX1_addWalker 90 = .ok (.iinc 2 1, 3) := dk_132 2 1 (dk_at dksX1_addWalker_4 0 rfl rfl)
theorem dX1_addWalker_93 : decode cX1_addWalker 93 = .ok (.goto (-18), 3) := dk_167 255 238 (dk_at dksX1_addWalker_4 3 rfl rfl)
theorem dX1_addWalker_96 : decode cX1_addWalker 96 = .ok (.aload_n 0, 1) := dk_42 (dk_at dksX1_addWalker_4 6 rfl rfl)
theorem dX1_addWalker_97 : decode cX1_addWalker 97 = .ok (.aload_n 1, 1) := dk_43 (dk_at dksX1_addWalker_4 7 rfl rfl)
theorem dX1_addWalker_98 : decode cX1_addWalker 98 = .ok (.invokevirtual 436, 3) := dk_182 1 180 (dk_at dksX1_addWalker_4 8 rfl rfl)
theorem dX1_addWalker_101 : decode cX1_addWalker 101 = .ok (.i2l, 1) := dk_133 (dk_at dksX1_addWalker_4 11 rfl rfl)
theorem dX1_addWalker_102 : decode cX1_addWalker 102 = .ok (.invokevirtual 452, 3) := dk_182 1 196 (dk_at dksX1_addWalker_4 12 rfl rfl)
theorem dX1_addWalker_105 : decode cX1_addWalker 105 = .ok (.aload_n 1, 1) := dk_43 (dk_at dksX1_addWalker_4 15 rfl rfl)
theorem dX1_addWalker_106 : decode cX1_addWalker 106 = .ok (.invokestatic 429, 3) := dk_184 1 173 (dk_at dksX1_addWalker_4 16 rfl rfl)
theorem dX1_addWalker_109 : decode cX1_addWalker 109 = .ok (.dstore_n 2, 1) := dk_73 (dk_at dksX1_addWalker_4 19 rfl rfl)
theorem dX1_addWalker_110 : decode cX1_addWalker 110 = .ok (.aload_n 0, 1) := dk_42 (dk_at dksX1_addWalker_4 20 rfl rfl)
theorem dX1_addWalker_111 : decode cX1_addWalker 111 = .ok (.ldc2_w 455, 3) := dk_20 1 199 (dk_at dksX1_addWalker_4 21 rfl rfl)
theorem dX1_addWalker_114 : decode cX1_addWalker 114 = .ok (.dload_n 2, 1) := dk_40 (dk_at dksX1_addWalker_5 0 rfl rfl)
theorem dX1_addWalker_115 : decode cX1_addWalker 115 = .ok (.dmul, 1) := dk_107 (dk_at dksX1_addWalker_5 1 rfl rfl)
theorem dX1_addWalker_116 : decode cX1_addWalker 116 = .ok (.d2l, 1) := dk_143 (dk_at dksX1_addWalker_5 2 rfl rfl)
theorem dX1_addWalker_117 : decode cX1_addWalker 117 = .ok (.invokevirtual 452, 3) := dk_182 1 196 (dk_at dksX1_addWalker_5 3 rfl rfl)
theorem dX1_addWalker_120 : decode cX1_addWalker 120 = .ok (.iconst 0, 1) := dk_3 (dk_at dksX1_addWalker_5 6 rfl rfl)
theorem dX1_addWalker_121 : decode cX1_addWalker 121 = .ok (.istore 4, 2) := dk_54 4 (dk_at dksX1_addWalker_5 7 rfl rfl)
theorem dX1_addWalker_123 : decode cX1_addWalker 123 = .ok (.iload 4, 2) := dk_21 4 (dk_at dksX1_addWalker_5 9 rfl rfl)
theorem dX1_addWalker_125 : decode cX1_addWalker 125 = .ok (.bipush 36, 2) := dk_16 36 (dk_at dksX1_addWalker_5 11 rfl rfl)
theorem dX1_addWalker_127 : decode cX1_addWalker 127 = .ok (.if_icmp .ge 40, 3) := dk_162 0 40 (dk_at dksX1_addWalker_5 13 rfl rfl)
theorem dX1_addWalker_130 : decode cX1_addWalker 130 = .ok (.iconst 1, 1) := dk_4 (dk_at dksX1_addWalker_5 16 rfl rfl)
theorem dX1_addWalker_131 : decode cX1_addWalker 131 = .ok (.istore 5, 2) := dk_54 5 (dk_at dksX1_addWalker_5 17 rfl rfl)
theorem dX1_addWalker_133 : decode cX1_addWalker 133 = .ok (.iload 5, 2) := dk_21 5 (dk_at dksX1_addWalker_5 19 rfl rfl)
theorem dX1_addWalker_135 : decode cX1_addWalker 135 = .ok (.iconst 2, 1) := dk_5 (dk_at dksX1_addWalker_5 21 rfl rfl)
theorem dX1_addWalker_136 : decode cX1_addWalker 136 = .ok (.if_icmp .gt 25, 3) := dk_163 0 25 (dk_at dksX1_addWalker_6 0 rfl rfl)
theorem dX1_addWalker_139 : decode cX1_addWalker 139 = .ok (.aload_n 0, 1) := dk_42 (dk_at dksX1_addWalker_6 3 rfl rfl)
theorem dX1_addWalker_140 : decode cX1_addWalker 140 = .ok (.aload_n 1, 1) := dk_43 (dk_at dksX1_addWalker_6 4 rfl rfl)
theorem dX1_addWalker_141 : decode cX1_addWalker 141 = .ok (.getfield 232, 3) := dk_180 0 232 (dk_at dksX1_addWalker_6 5 rfl rfl)
theorem dX1_addWalker_144 : decode cX1_addWalker 144 = .ok (.iload 4, 2) := dk_21 4 (dk_at dksX1_addWalker_6 8 rfl rfl)
theorem dX1_addWalker_146 : decode cX1_addWalker 146 = .ok (.iload 5, 2) := dk_21 5 (dk_at dksX1_addWalker_6 10 rfl rfl)
theorem dX1_addWalker_148 : decode cX1_addWalker 148 = .ok (.invokevirtual 393, 3) := dk_182 1 137 (dk_at dksX1_addWalker_6 12 rfl rfl)
theorem dX1_addWalker_151 : decode cX1_addWalker 151 = .ok (.i2l, 1) := dk_133 (dk_at dksX1_addWalker_6 15 rfl rfl)
theorem dX1_addWalker_152 : decode cX1_addWalker 152 = .ok (.invokevirtual 452, 3) := dk_182 1 196 (dk_at dksX1_addWalker_6 16 rfl rfl)
theorem dX1_addWalker_155 : decode cX1_addWalker 155 = .ok (.iinc 5 1, 3) := dk_132 5 1 (dk_at dksX1_addWalker_6 19 rfl rfl)
theorem dX1_addWalker_158 : decode cX1_addWalker 158 = .ok (.goto (-25), 3) := dk_167 255 231 (dk_at dksX1_addWalker_7 0 rfl rfl)
theorem dX1_addWalker_161 : decode cX1_addWalker 161 = .ok (.iinc 4 1, 3) := dk_132 4 1 (dk_at dksX1_addWalker_7 3 rfl rfl)
theorem dX1_addWalker_164 : decode cX1_addWalker 164 = .ok (.goto (-41), 3) := dk_167 255 215 (dk_at dksX1_addWalker_7 6 rfl rfl)
theorem dX1_addWalker_167 : decode cX1_addWalker 167 = .ok (.return_, 1) := dk_177 (dk_at dksX1_addWalker_7 9 rfl rfl)
abbrev cX1_told_2 : ByteArray := prog_1_method_39_code
def yX1_told_2 : MethodName := ⟨RX1, "told", "(LBumpward$Walker;I)I"⟩
def dkwX1_told_2_5 : List UInt8 := [180, 1, 93, 172, 43, 180, 0, 192, 172, 43, 180, 0, 249, 172, 43, 180, 0, 255, 172]
abbrev dktX1_told_2_5 : List UInt8 := dkwX1_told_2_5 ++ []
def dkwX1_told_2_4 : List UInt8 := [172, 42, 43, 180, 0, 232, 4, 182, 1, 89, 172, 42, 43, 180, 0, 232, 3, 182, 1, 89, 172, 43]
abbrev dktX1_told_2_4 : List UInt8 := dkwX1_told_2_4 ++ dktX1_told_2_5
def dkwX1_told_2_3 : List UInt8 := [182, 0, 195, 184, 0, 3, 172, 43, 180, 0, 232, 4, 182, 1, 87, 172, 43, 180, 0, 232, 5, 182, 1, 87]
abbrev dktX1_told_2_3 : List UInt8 := dkwX1_told_2_3 ++ dktX1_told_2_4
def dkwX1_told_2_2 : List UInt8 := [43, 180, 1, 2, 172, 43, 180, 1, 43, 172, 43, 180, 0, 184, 172, 43, 180, 0, 201, 182, 1, 17, 172, 43]
abbrev dktX1_told_2_2 : List UInt8 := dkwX1_told_2_2 ++ dktX1_told_2_3
def dkwX1_told_2_1 : List UInt8 := [170, 0, 0, 0, 0, 0, 147, 0, 0, 0, 0, 0, 0, 0, 11, 0, 0, 0, 63, 0, 0, 0, 68, 0, 0, 0, 73, 0, 0, 0, 78, 0, 0, 0, 86, 0, 0, 0, 94, 0, 0, 0, 103, 0, 0, 0, 112, 0, 0, 0, 122, 0, 0, 0, 132, 0, 0, 0, 137, 0, 0, 0, 142]
abbrev dktX1_told_2_1 : List UInt8 := dkwX1_told_2_1 ++ dktX1_told_2_2
def dkwX1_told_2_0 : List UInt8 := [28]
abbrev dktX1_told_2_0 : List UInt8 := dkwX1_told_2_0 ++ dktX1_told_2_1
theorem dksX1_told_2_0 : cX1_told_2.data.toList.drop 0 = dktX1_told_2_0 := by decide +kernel
theorem dksX1_told_2_1 : cX1_told_2.data.toList.drop 1 = dktX1_told_2_1 := dk_seg dksX1_told_2_0 1 rfl rfl
theorem dksX1_told_2_2 : cX1_told_2.data.toList.drop 64 = dktX1_told_2_2 := dk_seg dksX1_told_2_1 63 rfl rfl
theorem dksX1_told_2_3 : cX1_told_2.data.toList.drop 88 = dktX1_told_2_3 := dk_seg dksX1_told_2_2 24 rfl rfl
theorem dksX1_told_2_4 : cX1_told_2.data.toList.drop 112 = dktX1_told_2_4 := dk_seg dksX1_told_2_3 24 rfl rfl
theorem dksX1_told_2_5 : cX1_told_2.data.toList.drop 134 = dktX1_told_2_5 := dk_seg dksX1_told_2_4 22 rfl rfl
theorem dX1_told_2_0 : decode cX1_told_2 0 = .ok (.iload_n 2, 1) := dk_28 (dk_at dksX1_told_2_0 0 rfl rfl)
theorem dX1_told_2_1 : decode cX1_told_2 1 = .ok (.tableswitch 147 0 11 #[63, 68, 73, 78, 86, 94, 103, 112, 122, 132, 137, 142], 63) := by decide +kernel
theorem dX1_told_2_64 : decode cX1_told_2 64 = .ok (.aload_n 1, 1) := dk_43 (dk_at dksX1_told_2_2 0 rfl rfl)
theorem dX1_told_2_65 : decode cX1_told_2 65 = .ok (.getfield 258, 3) := dk_180 1 2 (dk_at dksX1_told_2_2 1 rfl rfl)
theorem dX1_told_2_68 : decode cX1_told_2 68 = .ok (.ireturn, 1) := dk_172 (dk_at dksX1_told_2_2 4 rfl rfl)
theorem dX1_told_2_69 : decode cX1_told_2 69 = .ok (.aload_n 1, 1) := dk_43 (dk_at dksX1_told_2_2 5 rfl rfl)
theorem dX1_told_2_70 : decode cX1_told_2 70 = .ok (.getfield 299, 3) := dk_180 1 43 (dk_at dksX1_told_2_2 6 rfl rfl)
theorem dX1_told_2_73 : decode cX1_told_2 73 = .ok (.ireturn, 1) := dk_172 (dk_at dksX1_told_2_2 9 rfl rfl)
theorem dX1_told_2_74 : decode cX1_told_2 74 = .ok (.aload_n 1, 1) := dk_43 (dk_at dksX1_told_2_2 10 rfl rfl)
theorem dX1_told_2_75 : decode cX1_told_2 75 = .ok (.getfield 184, 3) := dk_180 0 184 (dk_at dksX1_told_2_2 11 rfl rfl)
theorem dX1_told_2_78 : decode cX1_told_2 78 = .ok (.ireturn, 1) := dk_172 (dk_at dksX1_told_2_2 14 rfl rfl)
theorem dX1_told_2_79 : decode cX1_told_2 79 = .ok (.aload_n 1, 1) := dk_43 (dk_at dksX1_told_2_2 15 rfl rfl)
theorem dX1_told_2_80 : decode cX1_told_2 80 = .ok (.getfield 201, 3) := dk_180 0 201 (dk_at dksX1_told_2_2 16 rfl rfl)
theorem dX1_told_2_83 : decode cX1_told_2 83 = .ok (.invokevirtual 273, 3) := dk_182 1 17 (dk_at dksX1_told_2_2 19 rfl rfl)
theorem dX1_told_2_86 : decode cX1_told_2 86 = .ok (.ireturn, 1) := dk_172 (dk_at dksX1_told_2_2 22 rfl rfl)
theorem dX1_told_2_87 : decode cX1_told_2 87 = .ok (.aload_n 1, 1) := dk_43 (dk_at dksX1_told_2_2 23 rfl rfl)
theorem dX1_told_2_88 : decode cX1_told_2 88 = .ok (.invokevirtual 195, 3) := dk_182 0 195 (dk_at dksX1_told_2_3 0 rfl rfl)
theorem dX1_told_2_91 : decode cX1_told_2 91 = .ok (.invokestatic 3, 3) := dk_184 0 3 (dk_at dksX1_told_2_3 3 rfl rfl)
theorem dX1_told_2_94 : decode cX1_told_2 94 = .ok (.ireturn, 1) := dk_172 (dk_at dksX1_told_2_3 6 rfl rfl)
theorem dX1_told_2_95 : decode cX1_told_2 95 = .ok (.aload_n 1, 1) := dk_43 (dk_at dksX1_told_2_3 7 rfl rfl)
theorem dX1_told_2_96 : decode cX1_told_2 96 = .ok (.getfield 232, 3) := dk_180 0 232 (dk_at dksX1_told_2_3 8 rfl rfl)
theorem dX1_told_2_99 : decode cX1_told_2 99 = .ok (.iconst 1, 1) := dk_4 (dk_at dksX1_told_2_3 11 rfl rfl)
theorem dX1_told_2_100 : decode cX1_told_2 100 = .ok (.invokevirtual 343, 3) := dk_182 1 87 (dk_at dksX1_told_2_3 12 rfl rfl)
theorem dX1_told_2_103 : decode cX1_told_2 103 = .ok (.ireturn, 1) := dk_172 (dk_at dksX1_told_2_3 15 rfl rfl)
theorem dX1_told_2_104 : decode cX1_told_2 104 = .ok (.aload_n 1, 1) := dk_43 (dk_at dksX1_told_2_3 16 rfl rfl)
theorem dX1_told_2_105 : decode cX1_told_2 105 = .ok (.getfield 232, 3) := dk_180 0 232 (dk_at dksX1_told_2_3 17 rfl rfl)
theorem dX1_told_2_108 : decode cX1_told_2 108 = .ok (.iconst 2, 1) := dk_5 (dk_at dksX1_told_2_3 20 rfl rfl)
theorem dX1_told_2_109 : decode cX1_told_2 109 = .ok (.invokevirtual 343, 3) := dk_182 1 87 (dk_at dksX1_told_2_3 21 rfl rfl)
theorem dX1_told_2_112 : decode cX1_told_2 112 = .ok (.ireturn, 1) := dk_172 (dk_at dksX1_told_2_4 0 rfl rfl)
theorem dX1_told_2_113 : decode cX1_told_2 113 = .ok (.aload_n 0, 1) := dk_42 (dk_at dksX1_told_2_4 1 rfl rfl)
theorem dX1_told_2_114 : decode cX1_told_2 114 = .ok (.aload_n 1, 1) := dk_43 (dk_at dksX1_told_2_4 2 rfl rfl)
theorem dX1_told_2_115 : decode cX1_told_2 115 = .ok (.getfield 232, 3) := dk_180 0 232 (dk_at dksX1_told_2_4 3 rfl rfl)
theorem dX1_told_2_118 : decode cX1_told_2 118 = .ok (.iconst 1, 1) := dk_4 (dk_at dksX1_told_2_4 6 rfl rfl)
theorem dX1_told_2_119 : decode cX1_told_2 119 = .ok (.invokevirtual 345, 3) := dk_182 1 89 (dk_at dksX1_told_2_4 7 rfl rfl)
theorem dX1_told_2_122 : decode cX1_told_2 122 = .ok (.ireturn, 1) := dk_172 (dk_at dksX1_told_2_4 10 rfl rfl)
theorem dX1_told_2_123 : decode cX1_told_2 123 = .ok (.aload_n 0, 1) := dk_42 (dk_at dksX1_told_2_4 11 rfl rfl)
theorem dX1_told_2_124 : decode cX1_told_2 124 = .ok (.aload_n 1, 1) := dk_43 (dk_at dksX1_told_2_4 12 rfl rfl)
theorem dX1_told_2_125 : decode cX1_told_2 125 = .ok (.getfield 232, 3) := dk_180 0 232 (dk_at dksX1_told_2_4 13 rfl rfl)
theorem dX1_told_2_128 : decode cX1_told_2 128 = .ok (.iconst 0, 1) := dk_3 (dk_at dksX1_told_2_4 16 rfl rfl)
theorem dX1_told_2_129 : decode cX1_told_2 129 = .ok (.invokevirtual 345, 3) := dk_182 1 89 (dk_at dksX1_told_2_4 17 rfl rfl)
theorem dX1_told_2_132 : decode cX1_told_2 132 = .ok (.ireturn, 1) := dk_172 (dk_at dksX1_told_2_4 20 rfl rfl)
theorem dX1_told_2_133 : decode cX1_told_2 133 = .ok (.aload_n 1, 1) := dk_43 (dk_at dksX1_told_2_4 21 rfl rfl)
theorem dX1_told_2_134 : decode cX1_told_2 134 = .ok (.getfield 349, 3) := dk_180 1 93 (dk_at dksX1_told_2_5 0 rfl rfl)
theorem dX1_told_2_137 : decode cX1_told_2 137 = .ok (.ireturn, 1) := dk_172 (dk_at dksX1_told_2_5 3 rfl rfl)
theorem dX1_told_2_138 : decode cX1_told_2 138 = .ok (.aload_n 1, 1) := dk_43 (dk_at dksX1_told_2_5 4 rfl rfl)
theorem dX1_told_2_139 : decode cX1_told_2 139 = .ok (.getfield 192, 3) := dk_180 0 192 (dk_at dksX1_told_2_5 5 rfl rfl)
theorem dX1_told_2_142 : decode cX1_told_2 142 = .ok (.ireturn, 1) := dk_172 (dk_at dksX1_told_2_5 8 rfl rfl)
theorem dX1_told_2_143 : decode cX1_told_2 143 = .ok (.aload_n 1, 1) := dk_43 (dk_at dksX1_told_2_5 9 rfl rfl)
theorem dX1_told_2_144 : decode cX1_told_2 144 = .ok (.getfield 249, 3) := dk_180 0 249 (dk_at dksX1_told_2_5 10 rfl rfl)
theorem dX1_told_2_147 : decode cX1_told_2 147 = .ok (.ireturn, 1) := dk_172 (dk_at dksX1_told_2_5 13 rfl rfl)
theorem dX1_told_2_148 : decode cX1_told_2 148 = .ok (.aload_n 1, 1) := dk_43 (dk_at dksX1_told_2_5 14 rfl rfl)
theorem dX1_told_2_149 : decode cX1_told_2 149 = .ok (.getfield 255, 3) := dk_180 0 255 (dk_at dksX1_told_2_5 15 rfl rfl)
theorem dX1_told_2_152 : decode cX1_told_2 152 = .ok (.ireturn, 1) := dk_172 (dk_at dksX1_told_2_5 18 rfl rfl)
abbrev cX1_safetyTold : ByteArray := prog_1_method_50_code
def yX1_safetyTold : MethodName := ⟨RX1, "safetyTold", "(LBumpward$Walker;I)I"⟩
def dkwX1_safetyTold_1 : List UInt8 := [5, 160, 0, 13, 42, 182, 0, 187, 184, 0, 3, 167, 0, 7, 42, 182, 1, 159, 172]
abbrev dktX1_safetyTold_1 : List UInt8 := dkwX1_safetyTold_1 ++ []
def dkwX1_safetyTold_0 : List UInt8 := [27, 154, 0, 10, 42, 182, 1, 153, 167, 0, 34, 27, 4, 160, 0, 10, 42, 182, 1, 156, 167, 0, 22, 27]
abbrev dktX1_safetyTold_0 : List UInt8 := dkwX1_safetyTold_0 ++ dktX1_safetyTold_1
theorem dksX1_safetyTold_0 : cX1_safetyTold.data.toList.drop 0 = dktX1_safetyTold_0 := by decide +kernel
theorem dksX1_safetyTold_1 : cX1_safetyTold.data.toList.drop 24 = dktX1_safetyTold_1 := dk_seg dksX1_safetyTold_0 24 rfl rfl
theorem dX1_safetyTold_0 : decode cX1_safetyTold 0 = .ok (.iload_n 1, 1) := dk_27 (dk_at dksX1_safetyTold_0 0 rfl rfl)
theorem dX1_safetyTold_1 : decode cX1_safetyTold 1 = .ok (.ifCond .ne 10, 3) := dk_154 0 10 (dk_at dksX1_safetyTold_0 1 rfl rfl)
theorem dX1_safetyTold_4 : decode cX1_safetyTold 4 = .ok (.aload_n 0, 1) := dk_42 (dk_at dksX1_safetyTold_0 4 rfl rfl)
theorem dX1_safetyTold_5 : decode cX1_safetyTold 5 = .ok (.invokevirtual 409, 3) := dk_182 1 153 (dk_at dksX1_safetyTold_0 5 rfl rfl)
theorem dX1_safetyTold_8 : decode cX1_safetyTold 8 = .ok (.goto 34, 3) := dk_167 0 34 (dk_at dksX1_safetyTold_0 8 rfl rfl)
theorem dX1_safetyTold_11 : decode cX1_safetyTold 11 = .ok (.iload_n 1, 1) := dk_27 (dk_at dksX1_safetyTold_0 11 rfl rfl)
theorem dX1_safetyTold_12 : decode cX1_safetyTold 12 = .ok (.iconst 1, 1) := dk_4 (dk_at dksX1_safetyTold_0 12 rfl rfl)
theorem dX1_safetyTold_13 : decode cX1_safetyTold 13 = .ok (.if_icmp .ne 10, 3) := dk_160 0 10 (dk_at dksX1_safetyTold_0 13 rfl rfl)
theorem dX1_safetyTold_16 : decode cX1_safetyTold 16 = .ok (.aload_n 0, 1) := dk_42 (dk_at dksX1_safetyTold_0 16 rfl rfl)
theorem dX1_safetyTold_17 : decode cX1_safetyTold 17 = .ok (.invokevirtual 412, 3) := dk_182 1 156 (dk_at dksX1_safetyTold_0 17 rfl rfl)
theorem dX1_safetyTold_20 : decode cX1_safetyTold 20 = .ok (.goto 22, 3) := dk_167 0 22 (dk_at dksX1_safetyTold_0 20 rfl rfl)
theorem dX1_safetyTold_23 : decode cX1_safetyTold 23 = .ok (.iload_n 1, 1) := dk_27 (dk_at dksX1_safetyTold_0 23 rfl rfl)
theorem dX1_safetyTold_24 : decode cX1_safetyTold 24 = .ok (.iconst 2, 1) := dk_5 (dk_at dksX1_safetyTold_1 0 rfl rfl)
theorem dX1_safetyTold_25 : decode cX1_safetyTold 25 = .ok (.if_icmp .ne 13, 3) := dk_160 0 13 (dk_at dksX1_safetyTold_1 1 rfl rfl)
theorem dX1_safetyTold_28 : decode cX1_safetyTold 28 = .ok (.aload_n 0, 1) := dk_42 (dk_at dksX1_safetyTold_1 4 rfl rfl)
theorem dX1_safetyTold_29 : decode cX1_safetyTold 29 = .ok (.invokevirtual 187, 3) := dk_182 0 187 (dk_at dksX1_safetyTold_1 5 rfl rfl)
theorem dX1_safetyTold_32 : decode cX1_safetyTold 32 = .ok (.invokestatic 3, 3) := dk_184 0 3 (dk_at dksX1_safetyTold_1 8 rfl rfl)
theorem dX1_safetyTold_35 : decode cX1_safetyTold 35 = .ok (.goto 7, 3) := dk_167 0 7 (dk_at dksX1_safetyTold_1 11 rfl rfl)
theorem dX1_safetyTold_38 : decode cX1_safetyTold 38 = .ok (.aload_n 0, 1) := dk_42 (dk_at dksX1_safetyTold_1 14 rfl rfl)
theorem dX1_safetyTold_39 : decode cX1_safetyTold 39 = .ok (.invokevirtual 415, 3) := dk_182 1 159 (dk_at dksX1_safetyTold_1 15 rfl rfl)
theorem dX1_safetyTold_42 : decode cX1_safetyTold 42 = .ok (.ireturn, 1) := dk_172 (dk_at dksX1_safetyTold_1 18 rfl rfl)
abbrev cX1_doubt : ByteArray := prog_1_method_52_code
def yX1_doubt : MethodName := ⟨RX1, "doubt", "(LBumpward$Walker;)D"⟩
def dkwX1_doubt_1 : List UInt8 := [167, 255, 237, 31, 184, 1, 165, 135, 74, 41, 20, 1, 171, 111, 175]
abbrev dktX1_doubt_1 : List UInt8 := dkwX1_doubt_1 ++ []
def dkwX1_doubt_0 : List UInt8 := [9, 64, 3, 62, 29, 7, 162, 0, 20, 31, 42, 180, 0, 201, 29, 182, 1, 145, 129, 64, 132, 3, 1]
abbrev dktX1_doubt_0 : List UInt8 := dkwX1_doubt_0 ++ dktX1_doubt_1
theorem dksX1_doubt_0 : cX1_doubt.data.toList.drop 0 = dktX1_doubt_0 := by decide +kernel
theorem dksX1_doubt_1 : cX1_doubt.data.toList.drop 23 = dktX1_doubt_1 := dk_seg dksX1_doubt_0 23 rfl rfl
theorem dX1_doubt_0 : decode cX1_doubt 0 = .ok (.lconst 0, 1) := dk_9 (dk_at dksX1_doubt_0 0 rfl rfl)
theorem dX1_doubt_1 : decode cX1_doubt 1 = .ok (.lstore_n 1, 1) := dk_64 (dk_at dksX1_doubt_0 1 rfl rfl)
theorem dX1_doubt_2 : decode cX1_doubt 2 = .ok (.iconst 0, 1) := dk_3 (dk_at dksX1_doubt_0 2 rfl rfl)
theorem dX1_doubt_3 : decode cX1_doubt 3 = .ok (.istore_n 3, 1) := dk_62 (dk_at dksX1_doubt_0 3 rfl rfl)
theorem dX1_doubt_4 : decode cX1_doubt 4 = .ok (.iload_n 3, 1) := dk_29 (dk_at dksX1_doubt_0 4 rfl rfl)
theorem dX1_doubt_5 : decode cX1_doubt 5 = .ok (.iconst 4, 1) := dk_7 (dk_at dksX1_doubt_0 5 rfl rfl)
theorem dX1_doubt_6 : decode cX1_doubt 6 = .ok (.if_icmp .ge 20, 3) := dk_162 0 20 (dk_at dksX1_doubt_0 6 rfl rfl)
theorem dX1_doubt_9 : decode cX1_doubt 9 = .ok (.lload_n 1, 1) := dk_31 (dk_at dksX1_doubt_0 9 rfl rfl)
theorem dX1_doubt_10 : decode cX1_doubt 10 = .ok (.aload_n 0, 1) := dk_42 (dk_at dksX1_doubt_0 10 rfl rfl)
theorem dX1_doubt_11 : decode cX1_doubt 11 = .ok (.getfield 201, 3) := dk_180 0 201 (dk_at dksX1_doubt_0 11 rfl rfl)
theorem dX1_doubt_14 : decode cX1_doubt 14 = .ok (.iload_n 3, 1) := dk_29 (dk_at dksX1_doubt_0 14 rfl rfl)
theorem dX1_doubt_15 : decode cX1_doubt 15 = .ok (.invokevirtual 401, 3) := dk_182 1 145 (dk_at dksX1_doubt_0 15 rfl rfl)
theorem dX1_doubt_18 : decode cX1_doubt 18 = .ok (.lor, 1) := dk_129 (dk_at dksX1_doubt_0 18 rfl rfl)
theorem dX1_doubt_19 : decode cX1_doubt 19 = .ok (.lstore_n 1, 1) := dk_64 (dk_at dksX1_doubt_0 19 rfl rfl)
theorem dX1_doubt_20 : decode cX1_doubt 20 = .ok (.iinc 3 1, 3) := dk_132 3 1 (dk_at dksX1_doubt_0 20 rfl rfl)
theorem dX1_doubt_23 : decode cX1_doubt 23 = .ok (.goto (-19), 3) := dk_167 255 237 (dk_at dksX1_doubt_1 0 rfl rfl)
theorem dX1_doubt_26 : decode cX1_doubt 26 = .ok (.lload_n 1, 1) := dk_31 (dk_at dksX1_doubt_1 3 rfl rfl)
theorem dX1_doubt_27 : decode cX1_doubt 27 = .ok (.invokestatic 421, 3) := dk_184 1 165 (dk_at dksX1_doubt_1 4 rfl rfl)
theorem dX1_doubt_30 : decode cX1_doubt 30 = .ok (.i2d, 1) := dk_135 (dk_at dksX1_doubt_1 7 rfl rfl)
theorem dX1_doubt_31 : decode cX1_doubt 31 = .ok (.dstore_n 3, 1) := dk_74 (dk_at dksX1_doubt_1 8 rfl rfl)
theorem dX1_doubt_32 : decode cX1_doubt 32 = .ok (.dload_n 3, 1) := dk_41 (dk_at dksX1_doubt_1 9 rfl rfl)
theorem dX1_doubt_33 : decode cX1_doubt 33 = .ok (.ldc2_w 427, 3) := dk_20 1 171 (dk_at dksX1_doubt_1 10 rfl rfl)
theorem dX1_doubt_36 : decode cX1_doubt 36 = .ok (.ddiv, 1) := dk_111 (dk_at dksX1_doubt_1 13 rfl rfl)
theorem dX1_doubt_37 : decode cX1_doubt 37 = .ok (.dreturn, 1) := dk_175 (dk_at dksX1_doubt_1 14 rfl rfl)
abbrev cX1_edge_2 : ByteArray := prog_1_method_16_code
def yX1_edge_2 : MethodName := ⟨RX1, "edge", "(IIII)I"⟩
def dkwX1_edge_2_3 : List UInt8 := [182, 0, 149, 172]
abbrev dktX1_edge_2_3 : List UInt8 := dkwX1_edge_2_3 ++ []
def dkwX1_edge_2_2 : List UInt8 := [167, 0, 4, 3, 18, 138, 184, 0, 139, 25, 5, 182, 0, 117, 192, 0, 26, 184, 0, 143, 29, 50, 21, 4]
abbrev dktX1_edge_2_2 : List UInt8 := dkwX1_edge_2_2 ++ dktX1_edge_2_3
def dkwX1_edge_2_1 : List UInt8 := [153, 0, 27, 29, 3, 5, 184, 0, 7, 153, 0, 18, 21, 4, 3, 18, 137, 184, 0, 7, 153, 0, 7, 4]
abbrev dktX1_edge_2_1 : List UInt8 := dkwX1_edge_2_1 ++ dktX1_edge_2_2
def dkwX1_edge_2_0 : List UInt8 := [27, 184, 0, 127, 87, 28, 184, 0, 131, 87, 42, 27, 28, 182, 0, 109, 58, 5, 25, 5, 182, 0, 134]
abbrev dktX1_edge_2_0 : List UInt8 := dkwX1_edge_2_0 ++ dktX1_edge_2_1
theorem dksX1_edge_2_0 : cX1_edge_2.data.toList.drop 0 = dktX1_edge_2_0 := by decide +kernel
theorem dksX1_edge_2_1 : cX1_edge_2.data.toList.drop 23 = dktX1_edge_2_1 := dk_seg dksX1_edge_2_0 23 rfl rfl
theorem dksX1_edge_2_2 : cX1_edge_2.data.toList.drop 47 = dktX1_edge_2_2 := dk_seg dksX1_edge_2_1 24 rfl rfl
theorem dksX1_edge_2_3 : cX1_edge_2.data.toList.drop 71 = dktX1_edge_2_3 := dk_seg dksX1_edge_2_2 24 rfl rfl
theorem dX1_edge_2_0 : decode cX1_edge_2 0 = .ok (.iload_n 1, 1) := dk_27 (dk_at dksX1_edge_2_0 0 rfl rfl)
theorem dX1_edge_2_1 : decode cX1_edge_2 1 = .ok (.invokestatic 127, 3) := dk_184 0 127 (dk_at dksX1_edge_2_0 1 rfl rfl)
theorem dX1_edge_2_4 : decode cX1_edge_2 4 = .ok (.pop, 1) := dk_87 (dk_at dksX1_edge_2_0 4 rfl rfl)
theorem dX1_edge_2_5 : decode cX1_edge_2 5 = .ok (.iload_n 2, 1) := dk_28 (dk_at dksX1_edge_2_0 5 rfl rfl)
theorem dX1_edge_2_6 : decode cX1_edge_2 6 = .ok (.invokestatic 131, 3) := dk_184 0 131 (dk_at dksX1_edge_2_0 6 rfl rfl)
theorem dX1_edge_2_9 : decode cX1_edge_2 9 = .ok (.pop, 1) := dk_87 (dk_at dksX1_edge_2_0 9 rfl rfl)
theorem dX1_edge_2_10 : decode cX1_edge_2 10 = .ok (.aload_n 0, 1) := dk_42 (dk_at dksX1_edge_2_0 10 rfl rfl)
theorem dX1_edge_2_11 : decode cX1_edge_2 11 = .ok (.iload_n 1, 1) := dk_27 (dk_at dksX1_edge_2_0 11 rfl rfl)
theorem dX1_edge_2_12 : decode cX1_edge_2 12 = .ok (.iload_n 2, 1) := dk_28 (dk_at dksX1_edge_2_0 12 rfl rfl)
theorem dX1_edge_2_13 : decode cX1_edge_2 13 = .ok (.invokevirtual 109, 3) := dk_182 0 109 (dk_at dksX1_edge_2_0 13 rfl rfl)
theorem dX1_edge_2_16 : decode cX1_edge_2 16 = .ok (.astore 5, 2) := dk_58 5 (dk_at dksX1_edge_2_0 16 rfl rfl)
theorem dX1_edge_2_18 : decode cX1_edge_2 18 = .ok (.aload 5, 2) := dk_25 5 (dk_at dksX1_edge_2_0 18 rfl rfl)
theorem dX1_edge_2_20 : decode cX1_edge_2 20 = .ok (.invokevirtual 134, 3) := dk_182 0 134 (dk_at dksX1_edge_2_0 20 rfl rfl)
theorem dX1_edge_2_23 : decode cX1_edge_2 23 = .ok (.ifCond .eq 27, 3) := dk_153 0 27 (dk_at dksX1_edge_2_1 0 rfl rfl)
theorem dX1_edge_2_26 : decode cX1_edge_2 26 = .ok (.iload_n 3, 1) := dk_29 (dk_at dksX1_edge_2_1 3 rfl rfl)
theorem dX1_edge_2_27 : decode cX1_edge_2 27 = .ok (.iconst 0, 1) := dk_3 (dk_at dksX1_edge_2_1 4 rfl rfl)
theorem dX1_edge_2_28 : decode cX1_edge_2 28 = .ok (.iconst 2, 1) := dk_5 (dk_at dksX1_edge_2_1 5 rfl rfl)
theorem dX1_edge_2_29 : decode cX1_edge_2 29 = .ok (.invokestatic 7, 3) := dk_184 0 7 (dk_at dksX1_edge_2_1 6 rfl rfl)
theorem dX1_edge_2_32 : decode cX1_edge_2 32 = .ok (.ifCond .eq 18, 3) := dk_153 0 18 (dk_at dksX1_edge_2_1 9 rfl rfl)
theorem dX1_edge_2_35 : decode cX1_edge_2 35 = .ok (.iload 4, 2) := dk_21 4 (dk_at dksX1_edge_2_1 12 rfl rfl)
theorem dX1_edge_2_37 : decode cX1_edge_2 37 = .ok (.iconst 0, 1) := dk_3 (dk_at dksX1_edge_2_1 14 rfl rfl)
theorem dX1_edge_2_38 : decode cX1_edge_2 38 = .ok (.ldc 137, 2) := dk_18 137 (dk_at dksX1_edge_2_1 15 rfl rfl)
theorem dX1_edge_2_40 : decode cX1_edge_2 40 = .ok (.invokestatic 7, 3) := dk_184 0 7 (dk_at dksX1_edge_2_1 17 rfl rfl)
theorem dX1_edge_2_43 : decode cX1_edge_2 43 = .ok (.ifCond .eq 7, 3) := dk_153 0 7 (dk_at dksX1_edge_2_1 20 rfl rfl)
theorem dX1_edge_2_46 : decode cX1_edge_2 46 = .ok (.iconst 1, 1) := dk_4 (dk_at dksX1_edge_2_1 23 rfl rfl)
theorem dX1_edge_2_47 : decode cX1_edge_2 47 = .ok (.goto 4, 3) := dk_167 0 4 (dk_at dksX1_edge_2_2 0 rfl rfl)
theorem dX1_edge_2_50 : decode cX1_edge_2 50 = .ok (.iconst 0, 1) := dk_3 (dk_at dksX1_edge_2_2 3 rfl rfl)
theorem dX1_edge_2_51 : decode cX1_edge_2 51 = .ok (.ldc 138, 2) := dk_18 138 (dk_at dksX1_edge_2_2 4 rfl rfl)
theorem dX1_edge_2_53 : decode cX1_edge_2 53 = .ok (.invokestatic 139, 3) := dk_184 0 139 (dk_at dksX1_edge_2_2 6 rfl rfl)
theorem dX1_edge_2_56 : decode cX1_edge_2 56 = .ok (.aload 5, 2) := dk_25 5 (dk_at dksX1_edge_2_2 9 rfl rfl)
theorem dX1_edge_2_58 : decode cX1_edge_2 58 = .ok (.invokevirtual 117, 3) := dk_182 0 117 (dk_at dksX1_edge_2_2 11 rfl rfl)
theorem dX1_edge_2_61 : decode cX1_edge_2 61 = .ok (.checkcast 26, 3) := dk_192 0 26 (dk_at dksX1_edge_2_2 14 rfl rfl)
theorem dX1_edge_2_64 : decode cX1_edge_2 64 = .ok (.invokestatic 143, 3) := dk_184 0 143 (dk_at dksX1_edge_2_2 17 rfl rfl)
theorem dX1_edge_2_67 : decode cX1_edge_2 67 = .ok (.iload_n 3, 1) := dk_29 (dk_at dksX1_edge_2_2 20 rfl rfl)
theorem dX1_edge_2_68 : decode cX1_edge_2 68 = .ok (.aaload, 1) := dk_50 (dk_at dksX1_edge_2_2 21 rfl rfl)
theorem dX1_edge_2_69 : decode cX1_edge_2 69 = .ok (.iload 4, 2) := dk_21 4 (dk_at dksX1_edge_2_2 22 rfl rfl)
theorem dX1_edge_2_71 : decode cX1_edge_2 71 = .ok (.invokevirtual 149, 3) := dk_182 0 149 (dk_at dksX1_edge_2_3 0 rfl rfl)
theorem dX1_edge_2_74 : decode cX1_edge_2 74 = .ok (.ireturn, 1) := dk_172 (dk_at dksX1_edge_2_3 3 rfl rfl)
abbrev cX1_cellOf : ByteArray := prog_1_method_10_code
def yX1_cellOf : MethodName := ⟨RX1, "cellOf", "(I)I"⟩
def dkwX1_cellOf_0 : List UInt8 := [26, 16, 36, 18, 72, 184, 0, 74, 172]
abbrev dktX1_cellOf_0 : List UInt8 := dkwX1_cellOf_0 ++ []
theorem dksX1_cellOf_0 : cX1_cellOf.data.toList.drop 0 = dktX1_cellOf_0 := by decide +kernel
theorem dX1_cellOf_0 : decode cX1_cellOf 0 = .ok (.iload_n 0, 1) := dk_26 (dk_at dksX1_cellOf_0 0 rfl rfl)
theorem dX1_cellOf_1 : decode cX1_cellOf 1 = .ok (.bipush 36, 2) := dk_16 36 (dk_at dksX1_cellOf_0 1 rfl rfl)
theorem dX1_cellOf_3 : decode cX1_cellOf 3 = .ok (.ldc 72, 2) := dk_18 72 (dk_at dksX1_cellOf_0 3 rfl rfl)
theorem dX1_cellOf_5 : decode cX1_cellOf 5 = .ok (.invokestatic 74, 3) := dk_184 0 74 (dk_at dksX1_cellOf_0 5 rfl rfl)
theorem dX1_cellOf_8 : decode cX1_cellOf 8 = .ok (.ireturn, 1) := dk_172 (dk_at dksX1_cellOf_0 8 rfl rfl)
abbrev cX1_index : ByteArray := prog_1_method_9_code
def yX1_index : MethodName := ⟨RX1, "index", "(IILjava/lang/String;)I"⟩
def dkwX1_index_0 : List UInt8 := [26, 155, 0, 8, 26, 27, 161, 0, 12, 187, 0, 69, 89, 44, 183, 0, 71, 191, 26, 172]
abbrev dktX1_index_0 : List UInt8 := dkwX1_index_0 ++ []
theorem dksX1_index_0 : cX1_index.data.toList.drop 0 = dktX1_index_0 := by decide +kernel
theorem dX1_index_0 : decode cX1_index 0 = .ok (.iload_n 0, 1) := dk_26 (dk_at dksX1_index_0 0 rfl rfl)
theorem dX1_index_1 : decode cX1_index 1 = .ok (.ifCond .lt 8, 3) := dk_155 0 8 (dk_at dksX1_index_0 1 rfl rfl)
theorem dX1_index_4 : decode cX1_index 4 = .ok (.iload_n 0, 1) := dk_26 (dk_at dksX1_index_0 4 rfl rfl)
theorem dX1_index_5 : decode cX1_index 5 = .ok (.iload_n 1, 1) := dk_27 (dk_at dksX1_index_0 5 rfl rfl)
theorem dX1_index_6 : decode cX1_index 6 = .ok (.if_icmp .lt 12, 3) := dk_161 0 12 (dk_at dksX1_index_0 6 rfl rfl)
theorem dX1_index_9 : decode cX1_index 9 = .ok (.new 69, 3) := dk_187 0 69 (dk_at dksX1_index_0 9 rfl rfl)
theorem dX1_index_12 : decode cX1_index 12 = .ok (.dup, 1) := dk_89 (dk_at dksX1_index_0 12 rfl rfl)
theorem dX1_index_13 : decode cX1_index 13 = .ok (.aload_n 2, 1) := dk_44 (dk_at dksX1_index_0 13 rfl rfl)
theorem dX1_index_14 : decode cX1_index 14 = .ok (.invokespecial 71, 3) := dk_183 0 71 (dk_at dksX1_index_0 14 rfl rfl)
theorem dX1_index_17 : decode cX1_index 17 = .ok (.athrow, 1) := dk_191 (dk_at dksX1_index_0 17 rfl rfl)
theorem dX1_index_18 : decode cX1_index 18 = .ok (.iload_n 0, 1) := dk_26 (dk_at dksX1_index_0 18 rfl rfl)
theorem dX1_index_19 : decode cX1_index 19 = .ok (.ireturn, 1) := dk_172 (dk_at dksX1_index_0 19 rfl rfl)
abbrev cX1_sideOf : ByteArray := prog_1_method_11_code
def yX1_sideOf : MethodName := ⟨RX1, "sideOf", "(I)I"⟩
def dkwX1_sideOf_0 : List UInt8 := [26, 7, 18, 78, 184, 0, 74, 172]
abbrev dktX1_sideOf_0 : List UInt8 := dkwX1_sideOf_0 ++ []
theorem dksX1_sideOf_0 : cX1_sideOf.data.toList.drop 0 = dktX1_sideOf_0 := by decide +kernel
theorem dX1_sideOf_0 : decode cX1_sideOf 0 = .ok (.iload_n 0, 1) := dk_26 (dk_at dksX1_sideOf_0 0 rfl rfl)
theorem dX1_sideOf_1 : decode cX1_sideOf 1 = .ok (.iconst 4, 1) := dk_7 (dk_at dksX1_sideOf_0 1 rfl rfl)
theorem dX1_sideOf_2 : decode cX1_sideOf 2 = .ok (.ldc 78, 2) := dk_18 78 (dk_at dksX1_sideOf_0 2 rfl rfl)
theorem dX1_sideOf_4 : decode cX1_sideOf 4 = .ok (.invokestatic 74, 3) := dk_184 0 74 (dk_at dksX1_sideOf_0 4 rfl rfl)
theorem dX1_sideOf_7 : decode cX1_sideOf 7 = .ok (.ireturn, 1) := dk_172 (dk_at dksX1_sideOf_0 7 rfl rfl)
abbrev cX1_check : ByteArray := prog_1_method_7_code
def yX1_check : MethodName := ⟨RX1, "check", "(ZLjava/lang/String;)V"⟩
def dkwX1_check_0 : List UInt8 := [26, 154, 0, 12, 187, 0, 61, 89, 43, 183, 0, 63, 191, 177]
abbrev dktX1_check_0 : List UInt8 := dkwX1_check_0 ++ []
theorem dksX1_check_0 : cX1_check.data.toList.drop 0 = dktX1_check_0 := by decide +kernel
theorem dX1_check_0 : decode cX1_check 0 = .ok (.iload_n 0, 1) := dk_26 (dk_at dksX1_check_0 0 rfl rfl)
theorem dX1_check_1 : decode cX1_check 1 = .ok (.ifCond .ne 12, 3) := dk_154 0 12 (dk_at dksX1_check_0 1 rfl rfl)
theorem dX1_check_4 : decode cX1_check 4 = .ok (.new 61, 3) := dk_187 0 61 (dk_at dksX1_check_0 4 rfl rfl)
theorem dX1_check_7 : decode cX1_check 7 = .ok (.dup, 1) := dk_89 (dk_at dksX1_check_0 7 rfl rfl)
theorem dX1_check_8 : decode cX1_check 8 = .ok (.aload_n 1, 1) := dk_43 (dk_at dksX1_check_0 8 rfl rfl)
theorem dX1_check_9 : decode cX1_check 9 = .ok (.invokespecial 63, 3) := dk_183 0 63 (dk_at dksX1_check_0 9 rfl rfl)
theorem dX1_check_12 : decode cX1_check 12 = .ok (.athrow, 1) := dk_191 (dk_at dksX1_check_0 12 rfl rfl)
theorem dX1_check_13 : decode cX1_check 13 = .ok (.return_, 1) := dk_177 (dk_at dksX1_check_0 13 rfl rfl)
abbrev cX1_lay : ByteArray := prog_1_method_18_code
def yX1_lay : MethodName := ⟨RX1, "lay", "(I)I"⟩
def dkwX1_lay_4 : List UInt8 := [132, 4, 1, 167, 255, 188, 132, 3, 1, 167, 255, 173, 42, 178, 0, 159, 182, 0, 165, 172]
abbrev dktX1_lay_4 : List UInt8 := dkwX1_lay_4 ++ []
def dkwX1_lay_3 : List UInt8 := [192, 0, 26, 28, 16, 40, 162, 0, 9, 178, 0, 159, 167, 0, 6, 178, 0, 162, 3, 182, 0, 149, 87]
abbrev dktX1_lay_3 : List UInt8 := dkwX1_lay_3 ++ dktX1_lay_4
def dkwX1_lay_2 : List UInt8 := [153, 0, 6, 167, 0, 42, 16, 29, 28, 104, 16, 13, 96, 16, 127, 112, 61, 25, 5, 182, 0, 117]
abbrev dktX1_lay_2 : List UInt8 := dkwX1_lay_2 ++ dktX1_lay_3
def dkwX1_lay_1 : List UInt8 := [54, 4, 21, 4, 5, 163, 0, 68, 42, 29, 21, 4, 182, 0, 109, 58, 5, 25, 5, 182, 0, 113]
abbrev dktX1_lay_1 : List UInt8 := dkwX1_lay_1 ++ dktX1_lay_2
def dkwX1_lay_0 : List UInt8 := [27, 3, 16, 126, 184, 0, 7, 18, 157, 184, 0, 139, 27, 61, 3, 62, 29, 16, 36, 162, 0, 83, 4]
abbrev dktX1_lay_0 : List UInt8 := dkwX1_lay_0 ++ dktX1_lay_1
theorem dksX1_lay_0 : cX1_lay.data.toList.drop 0 = dktX1_lay_0 := by decide +kernel
theorem dksX1_lay_1 : cX1_lay.data.toList.drop 23 = dktX1_lay_1 := dk_seg dksX1_lay_0 23 rfl rfl
theorem dksX1_lay_2 : cX1_lay.data.toList.drop 45 = dktX1_lay_2 := dk_seg dksX1_lay_1 22 rfl rfl
theorem dksX1_lay_3 : cX1_lay.data.toList.drop 67 = dktX1_lay_3 := dk_seg dksX1_lay_2 22 rfl rfl
theorem dksX1_lay_4 : cX1_lay.data.toList.drop 90 = dktX1_lay_4 := dk_seg dksX1_lay_3 23 rfl rfl
theorem dX1_lay_0 : decode cX1_lay 0 = .ok (.iload_n 1, 1) := dk_27 (dk_at dksX1_lay_0 0 rfl rfl)
theorem dX1_lay_1 : decode cX1_lay 1 = .ok (.iconst 0, 1) := dk_3 (dk_at dksX1_lay_0 1 rfl rfl)
theorem dX1_lay_2 : decode cX1_lay 2 = .ok (.bipush 126, 2) := dk_16 126 (dk_at dksX1_lay_0 2 rfl rfl)
theorem dX1_lay_4 : decode cX1_lay 4 = .ok (.invokestatic 7, 3) := dk_184 0 7 (dk_at dksX1_lay_0 4 rfl rfl)
theorem dX1_lay_7 : decode cX1_lay 7 = .ok (.ldc 157, 2) := dk_18 157 (dk_at dksX1_lay_0 7 rfl rfl)
theorem dX1_lay_9 : decode cX1_lay 9 = .ok (.invokestatic 139, 3) := dk_184 0 139 (dk_at dksX1_lay_0 9 rfl rfl)
theorem dX1_lay_12 : decode cX1_lay 12 = .ok (.iload_n 1, 1) := dk_27 (dk_at dksX1_lay_0 12 rfl rfl)
theorem dX1_lay_13 : decode cX1_lay 13 = .ok (.istore_n 2, 1) := dk_61 (dk_at dksX1_lay_0 13 rfl rfl)
theorem dX1_lay_14 : decode cX1_lay 14 = .ok (.iconst 0, 1) := dk_3 (dk_at dksX1_lay_0 14 rfl rfl)
theorem dX1_lay_15 : decode cX1_lay 15 = .ok (.istore_n 3, 1) := dk_62 (dk_at dksX1_lay_0 15 rfl rfl)
theorem dX1_lay_16 : decode cX1_lay 16 = .ok (.iload_n 3, 1) := dk_29 (dk_at dksX1_lay_0 16 rfl rfl)
theorem dX1_lay_17 : decode cX1_lay 17 = .ok (.bipush 36, 2) := dk_16 36 (dk_at dksX1_lay_0 17 rfl rfl)
theorem dX1_lay_19 : decode cX1_lay 19 = .ok (.if_icmp .ge 83, 3) := dk_162 0 83 (dk_at dksX1_lay_0 19 rfl rfl)
theorem dX1_lay_22 : decode cX1_lay 22 = .ok (.iconst 1, 1) := dk_4 (dk_at dksX1_lay_0 22 rfl rfl)
theorem dX1_lay_23 : decode cX1_lay 23 = .ok (.istore 4, 2) := dk_54 4 (dk_at dksX1_lay_1 0 rfl rfl)
theorem dX1_lay_25 : decode cX1_lay 25 = .ok (.iload 4, 2) := dk_21 4 (dk_at dksX1_lay_1 2 rfl rfl)
theorem dX1_lay_27 : decode cX1_lay 27 = .ok (.iconst 2, 1) := dk_5 (dk_at dksX1_lay_1 4 rfl rfl)
theorem dX1_lay_28 : decode cX1_lay 28 = .ok (.if_icmp .gt 68, 3) := dk_163 0 68 (dk_at dksX1_lay_1 5 rfl rfl)
theorem dX1_lay_31 : decode cX1_lay 31 = .ok (.aload_n 0, 1) := dk_42 (dk_at dksX1_lay_1 8 rfl rfl)
theorem dX1_lay_32 : decode cX1_lay 32 = .ok (.iload_n 3, 1) := dk_29 (dk_at dksX1_lay_1 9 rfl rfl)
theorem dX1_lay_33 : decode cX1_lay 33 = .ok (.iload 4, 2) := dk_21 4 (dk_at dksX1_lay_1 10 rfl rfl)
theorem dX1_lay_35 : decode cX1_lay 35 = .ok (.invokevirtual 109, 3) := dk_182 0 109 (dk_at dksX1_lay_1 12 rfl rfl)
theorem dX1_lay_38 : decode cX1_lay 38 = .ok (.astore 5, 2) := dk_58 5 (dk_at dksX1_lay_1 15 rfl rfl)
theorem dX1_lay_40 : decode cX1_lay 40 = .ok (.aload 5, 2) := dk_25 5 (dk_at dksX1_lay_1 17 rfl rfl)
theorem dX1_lay_42 : decode cX1_lay 42 = .ok (.invokevirtual 113, 3) := dk_182 0 113 (dk_at dksX1_lay_1 19 rfl rfl)
theorem dX1_lay_45 : decode cX1_lay 45 = .ok (.ifCond .eq 6, 3) := dk_153 0 6 (dk_at dksX1_lay_2 0 rfl rfl)
theorem dX1_lay_48 : decode cX1_lay 48 = .ok (.goto 42, 3) := dk_167 0 42 (dk_at dksX1_lay_2 3 rfl rfl)
theorem dX1_lay_51 : decode cX1_lay 51 = .ok (.bipush 29, 2) := dk_16 29 (dk_at dksX1_lay_2 6 rfl rfl)
theorem dX1_lay_53 : decode cX1_lay 53 = .ok (.iload_n 2, 1) := dk_28 (dk_at dksX1_lay_2 8 rfl rfl)
theorem dX1_lay_54 : decode cX1_lay 54 = .ok (.imul, 1) := dk_104 (dk_at dksX1_lay_2 9 rfl rfl)
theorem dX1_lay_55 : decode cX1_lay 55 = .ok (.bipush 13, 2) := dk_16 13 (dk_at dksX1_lay_2 10 rfl rfl)
theorem dX1_lay_57 : decode cX1_lay 57 = .ok (.iadd, 1) := dk_96 (dk_at dksX1_lay_2 12 rfl rfl)
theorem dX1_lay_58 : decode cX1_lay 58 = .ok (.bipush 127, 2) := dk_16 127 (dk_at dksX1_lay_2 13 rfl rfl)
theorem dX1_lay_60 : decode cX1_lay 60 = .ok (.irem, 1) := dk_112 (dk_at dksX1_lay_2 15 rfl rfl)
theorem dX1_lay_61 : decode cX1_lay 61 = .ok (.istore_n 2, 1) := dk_61 (dk_at dksX1_lay_2 16 rfl rfl)
theorem dX1_lay_62 : decode cX1_lay 62 = .ok (.aload 5, 2) := dk_25 5 (dk_at dksX1_lay_2 17 rfl rfl)
theorem dX1_lay_64 : decode cX1_lay 64 = .ok (.invokevirtual 117, 3) := dk_182 0 117 (dk_at dksX1_lay_2 19 rfl rfl)
theorem dX1_lay_67 : decode cX1_lay 67 = .ok (.checkcast 26, 3) := dk_192 0 26 (dk_at dksX1_lay_3 0 rfl rfl)
theorem dX1_lay_70 : decode cX1_lay 70 = .ok (.iload_n 2, 1) := dk_28 (dk_at dksX1_lay_3 3 rfl rfl)
theorem dX1_lay_71 : decode cX1_lay 71 = .ok (.bipush 40, 2) := dk_16 40 (dk_at dksX1_lay_3 4 rfl rfl)
theorem dX1_lay_73 : decode cX1_lay 73 = .ok (.if_icmp .ge 9, 3) := dk_162 0 9 (dk_at dksX1_lay_3 6 rfl rfl)
theorem dX1_lay_76 : decode cX1_lay 76 = .ok (.getstatic 159, 3) := dk_178 0 159 (dk_at dksX1_lay_3 9 rfl rfl)
theorem dX1_lay_79 : decode cX1_lay 79 = .ok (.goto 6, 3) := dk_167 0 6 (dk_at dksX1_lay_3 12 rfl rfl)
theorem dX1_lay_82 : decode cX1_lay 82 = .ok (.getstatic 162, 3) := dk_178 0 162 (dk_at dksX1_lay_3 15 rfl rfl)
theorem dX1_lay_85 : decode cX1_lay 85 = .ok (.iconst 0, 1) := dk_3 (dk_at dksX1_lay_3 18 rfl rfl)
theorem dX1_lay_86 : decode cX1_lay 86 = .ok (.invokevirtual 149, 3) := dk_182 0 149 (dk_at dksX1_lay_3 19 rfl rfl)
theorem dX1_lay_89 : decode cX1_lay 89 = .ok (.pop, 1) := dk_87 (dk_at dksX1_lay_3 22 rfl rfl)
theorem dX1_lay_90 : decode cX1_lay 90 = .ok (.iinc 4 1, 3) := dk_132 4 1 (dk_at dksX1_lay_4 0 rfl rfl)
theorem dX1_lay_93 : decode cX1_lay 93 = .ok (.goto (-68), 3) := dk_167 255 188 (dk_at dksX1_lay_4 3 rfl rfl)
theorem dX1_lay_96 : decode cX1_lay 96 = .ok (.iinc 3 1, 3) := dk_132 3 1 (dk_at dksX1_lay_4 6 rfl rfl)
theorem dX1_lay_99 : decode cX1_lay 99 = .ok (.goto (-83), 3) := dk_167 255 173 (dk_at dksX1_lay_4 9 rfl rfl)
theorem dX1_lay_102 : decode cX1_lay 102 = .ok (.aload_n 0, 1) := dk_42 (dk_at dksX1_lay_4 12 rfl rfl)
theorem dX1_lay_103 : decode cX1_lay 103 = .ok (.getstatic 159, 3) := dk_178 0 159 (dk_at dksX1_lay_4 13 rfl rfl)
theorem dX1_lay_106 : decode cX1_lay 106 = .ok (.invokevirtual 165, 3) := dk_182 0 165 (dk_at dksX1_lay_4 16 rfl rfl)
theorem dX1_lay_109 : decode cX1_lay 109 = .ok (.ireturn, 1) := dk_172 (dk_at dksX1_lay_4 19 rfl rfl)
abbrev cX1_cell : ByteArray := prog_1_method_20_code
def yX1_cell : MethodName := ⟨RX1, "cell", "(IZZ)I"⟩
def dkwX1_cell_1 : List UInt8 := [172]
abbrev dktX1_cell_1 : List UInt8 := dkwX1_cell_1 ++ []
def dkwX1_cell_0 : List UInt8 := [42, 180, 0, 32, 27, 184, 0, 127, 28, 84, 42, 180, 0, 36, 27, 29, 84, 42, 180, 0, 36, 184, 0, 169]
abbrev dktX1_cell_0 : List UInt8 := dkwX1_cell_0 ++ dktX1_cell_1
theorem dksX1_cell_0 : cX1_cell.data.toList.drop 0 = dktX1_cell_0 := by decide +kernel
theorem dksX1_cell_1 : cX1_cell.data.toList.drop 24 = dktX1_cell_1 := dk_seg dksX1_cell_0 24 rfl rfl
theorem dX1_cell_0 : decode cX1_cell 0 = .ok (.aload_n 0, 1) := dk_42 (dk_at dksX1_cell_0 0 rfl rfl)
theorem dX1_cell_1 : decode cX1_cell 1 = .ok (.getfield 32, 3) := dk_180 0 32 (dk_at dksX1_cell_0 1 rfl rfl)
theorem dX1_cell_4 : decode cX1_cell 4 = .ok (.iload_n 1, 1) := dk_27 (dk_at dksX1_cell_0 4 rfl rfl)
theorem dX1_cell_5 : decode cX1_cell 5 = .ok (.invokestatic 127, 3) := dk_184 0 127 (dk_at dksX1_cell_0 5 rfl rfl)
theorem dX1_cell_8 : decode cX1_cell 8 = .ok (.iload_n 2, 1) := dk_28 (dk_at dksX1_cell_0 8 rfl rfl)
theorem dX1_cell_9 : decode cX1_cell 9 = .ok (.bastore, 1) := dk_84 (dk_at dksX1_cell_0 9 rfl rfl)
theorem dX1_cell_10 : decode cX1_cell 10 = .ok (.aload_n 0, 1) := dk_42 (dk_at dksX1_cell_0 10 rfl rfl)
theorem dX1_cell_11 : decode cX1_cell 11 = .ok (.getfield 36, 3) := dk_180 0 36 (dk_at dksX1_cell_0 11 rfl rfl)
theorem dX1_cell_14 : decode cX1_cell 14 = .ok (.iload_n 1, 1) := dk_27 (dk_at dksX1_cell_0 14 rfl rfl)
theorem dX1_cell_15 : decode cX1_cell 15 = .ok (.iload_n 3, 1) := dk_29 (dk_at dksX1_cell_0 15 rfl rfl)
theorem dX1_cell_16 : decode cX1_cell 16 = .ok (.bastore, 1) := dk_84 (dk_at dksX1_cell_0 16 rfl rfl)
theorem dX1_cell_17 : decode cX1_cell 17 = .ok (.aload_n 0, 1) := dk_42 (dk_at dksX1_cell_0 17 rfl rfl)
theorem dX1_cell_18 : decode cX1_cell 18 = .ok (.getfield 36, 3) := dk_180 0 36 (dk_at dksX1_cell_0 18 rfl rfl)
theorem dX1_cell_21 : decode cX1_cell 21 = .ok (.invokestatic 169, 3) := dk_184 0 169 (dk_at dksX1_cell_0 21 rfl rfl)
theorem dX1_cell_24 : decode cX1_cell 24 = .ok (.ireturn, 1) := dk_172 (dk_at dksX1_cell_1 0 rfl rfl)
abbrev cX1_walker : ByteArray := prog_1_method_21_code
def yX1_walker : MethodName := ⟨RX1, "walker", "(IIIZ)I"⟩
def dkwX1_walker_4 : List UInt8 := [182, 0, 80, 4, 100, 172]
abbrev dktX1_walker_4 : List UInt8 := dkwX1_walker_4 ++ []
def dkwX1_walker_3 : List UInt8 := [182, 0, 80, 27, 7, 104, 28, 96, 29, 21, 4, 183, 0, 177, 182, 0, 180, 87, 42, 180, 0, 42]
abbrev dktX1_walker_3 : List UInt8 := dkwX1_walker_3 ++ dktX1_walker_4
def dkwX1_walker_2 : List UInt8 := [4, 167, 0, 4, 3, 18, 172, 184, 0, 174, 42, 180, 0, 42, 187, 0, 90, 89, 42, 180, 0, 42]
abbrev dktX1_walker_2 : List UInt8 := dkwX1_walker_2 ++ dktX1_walker_3
def dkwX1_walker_1 : List UInt8 := [153, 0, 7, 4, 167, 0, 4, 3, 18, 84, 184, 0, 139, 42, 180, 0, 42, 182, 0, 80, 6, 162, 0, 7]
abbrev dktX1_walker_1 : List UInt8 := dkwX1_walker_1 ++ dktX1_walker_2
def dkwX1_walker_0 : List UInt8 := [27, 184, 0, 127, 87, 28, 3, 6, 184, 0, 7, 153, 0, 18, 29, 4, 17, 1, 244, 184, 0, 7]
abbrev dktX1_walker_0 : List UInt8 := dkwX1_walker_0 ++ dktX1_walker_1
theorem dksX1_walker_0 : cX1_walker.data.toList.drop 0 = dktX1_walker_0 := by decide +kernel
theorem dksX1_walker_1 : cX1_walker.data.toList.drop 22 = dktX1_walker_1 := dk_seg dksX1_walker_0 22 rfl rfl
theorem dksX1_walker_2 : cX1_walker.data.toList.drop 46 = dktX1_walker_2 := dk_seg dksX1_walker_1 24 rfl rfl
theorem dksX1_walker_3 : cX1_walker.data.toList.drop 68 = dktX1_walker_3 := dk_seg dksX1_walker_2 22 rfl rfl
theorem dksX1_walker_4 : cX1_walker.data.toList.drop 90 = dktX1_walker_4 := dk_seg dksX1_walker_3 22 rfl rfl
theorem dX1_walker_0 : decode cX1_walker 0 = .ok (.iload_n 1, 1) := dk_27 (dk_at dksX1_walker_0 0 rfl rfl)
theorem dX1_walker_1 : decode cX1_walker 1 = .ok (.invokestatic 127, 3) := dk_184 0 127 (dk_at dksX1_walker_0 1 rfl rfl)
theorem dX1_walker_4 : decode cX1_walker 4 = .ok (.pop, 1) := dk_87 (dk_at dksX1_walker_0 4 rfl rfl)
theorem dX1_walker_5 : decode cX1_walker 5 = .ok (.iload_n 2, 1) := dk_28 (dk_at dksX1_walker_0 5 rfl rfl)
theorem dX1_walker_6 : decode cX1_walker 6 = .ok (.iconst 0, 1) := dk_3 (dk_at dksX1_walker_0 6 rfl rfl)
theorem dX1_walker_7 : decode cX1_walker 7 = .ok (.iconst 3, 1) := dk_6 (dk_at dksX1_walker_0 7 rfl rfl)
theorem dX1_walker_8 : decode cX1_walker 8 = .ok (.invokestatic 7, 3) := dk_184 0 7 (dk_at dksX1_walker_0 8 rfl rfl)
theorem dX1_walker_11 : decode cX1_walker 11 = .ok (.ifCond .eq 18, 3) := dk_153 0 18 (dk_at dksX1_walker_0 11 rfl rfl)
theorem dX1_walker_14 : decode cX1_walker 14 = .ok (.iload_n 3, 1) := dk_29 (dk_at dksX1_walker_0 14 rfl rfl)
theorem dX1_walker_15 : decode cX1_walker 15 = .ok (.iconst 1, 1) := dk_4 (dk_at dksX1_walker_0 15 rfl rfl)
theorem dX1_walker_16 : decode cX1_walker 16 = .ok (.sipush 500, 3) := dk_17 1 244 (dk_at dksX1_walker_0 16 rfl rfl)
theorem dX1_walker_19 : decode cX1_walker 19 = .ok (.invokestatic 7, 3) := dk_184 0 7 (dk_at dksX1_walker_0 19 rfl rfl)
theorem dX1_walker_22 : decode cX1_walker 22 = .ok (.ifCond .eq 7, 3) := dk_153 0 7 (dk_at dksX1_walker_1 0 rfl rfl)
theorem dX1_walker_25 : decode cX1_walker 25 = .ok (.iconst 1, 1) := dk_4 (dk_at dksX1_walker_1 3 rfl rfl)
theorem dX1_walker_26 : decode cX1_walker 26 = .ok (.goto 4, 3) := dk_167 0 4 (dk_at dksX1_walker_1 4 rfl rfl)
theorem dX1_walker_29 : decode cX1_walker 29 = .ok (.iconst 0, 1) := dk_3 (dk_at dksX1_walker_1 7 rfl rfl)
theorem dX1_walker_30 : decode cX1_walker 30 = .ok (.ldc 84, 2) := dk_18 84 (dk_at dksX1_walker_1 8 rfl rfl)
theorem dX1_walker_32 : decode cX1_walker 32 = .ok (.invokestatic 139, 3) := dk_184 0 139 (dk_at dksX1_walker_1 10 rfl rfl)
theorem dX1_walker_35 : decode cX1_walker 35 = .ok (.aload_n 0, 1) := dk_42 (dk_at dksX1_walker_1 13 rfl rfl)
theorem dX1_walker_36 : decode cX1_walker 36 = .ok (.getfield 42, 3) := dk_180 0 42 (dk_at dksX1_walker_1 14 rfl rfl)
theorem dX1_walker_39 : decode cX1_walker 39 = .ok (.invokevirtual 80, 3) := dk_182 0 80 (dk_at dksX1_walker_1 17 rfl rfl)
theorem dX1_walker_42 : decode cX1_walker 42 = .ok (.iconst 3, 1) := dk_6 (dk_at dksX1_walker_1 20 rfl rfl)
theorem dX1_walker_43 : decode cX1_walker 43 = .ok (.if_icmp .ge 7, 3) := dk_162 0 7 (dk_at dksX1_walker_1 21 rfl rfl)
theorem dX1_walker_46 : decode cX1_walker 46 = .ok (.iconst 1, 1) := dk_4 (dk_at dksX1_walker_2 0 rfl rfl)
theorem dX1_walker_47 : decode cX1_walker 47 = .ok (.goto 4, 3) := dk_167 0 4 (dk_at dksX1_walker_2 1 rfl rfl)
theorem dX1_walker_50 : decode cX1_walker 50 = .ok (.iconst 0, 1) := dk_3 (dk_at dksX1_walker_2 4 rfl rfl)
theorem dX1_walker_51 : decode cX1_walker 51 = .ok (.ldc 172, 2) := dk_18 172 (dk_at dksX1_walker_2 5 rfl rfl)
theorem dX1_walker_53 : decode cX1_walker 53 = .ok (.invokestatic 174, 3) := dk_184 0 174 (dk_at dksX1_walker_2 7 rfl rfl)
theorem dX1_walker_56 : decode cX1_walker 56 = .ok (.aload_n 0, 1) := dk_42 (dk_at dksX1_walker_2 10 rfl rfl)
theorem dX1_walker_57 : decode cX1_walker 57 = .ok (.getfield 42, 3) := dk_180 0 42 (dk_at dksX1_walker_2 11 rfl rfl)
theorem dX1_walker_60 : decode cX1_walker 60 = .ok (.new 90, 3) := dk_187 0 90 (dk_at dksX1_walker_2 14 rfl rfl)
theorem dX1_walker_63 : decode cX1_walker 63 = .ok (.dup, 1) := dk_89 (dk_at dksX1_walker_2 17 rfl rfl)
theorem dX1_walker_64 : decode cX1_walker 64 = .ok (.aload_n 0, 1) := dk_42 (dk_at dksX1_walker_2 18 rfl rfl)
theorem dX1_walker_65 : decode cX1_walker 65 = .ok (.getfield 42, 3) := dk_180 0 42 (dk_at dksX1_walker_2 19 rfl rfl)
theorem dX1_walker_68 : decode cX1_walker 68 = .ok (.invokevirtual 80, 3) := dk_182 0 80 (dk_at dksX1_walker_3 0 rfl rfl)
theorem dX1_walker_71 : decode cX1_walker 71 = .ok (.iload_n 1, 1) := dk_27 (dk_at dksX1_walker_3 3 rfl rfl)
theorem dX1_walker_72 : decode cX1_walker 72 = .ok (.iconst 4, 1) := dk_7 (dk_at dksX1_walker_3 4 rfl rfl)
theorem dX1_walker_73 : decode cX1_walker 73 = .ok (.imul, 1) := dk_104 (dk_at dksX1_walker_3 5 rfl rfl)
theorem dX1_walker_74 : decode cX1_walker 74 = .ok (.iload_n 2, 1) := dk_28 (dk_at dksX1_walker_3 6 rfl rfl)
theorem dX1_walker_75 : decode cX1_walker 75 = .ok (.iadd, 1) := dk_96 (dk_at dksX1_walker_3 7 rfl rfl)
theorem dX1_walker_76 : decode cX1_walker 76 = .ok (.iload_n 3, 1) := dk_29 (dk_at dksX1_walker_3 8 rfl rfl)
theorem dX1_walker_77 : decode cX1_walker 77 = .ok (.iload 4, 2) := dk_21 4 (dk_at dksX1_walker_3 9 rfl rfl)
theorem dX1_walker_79 : decode cX1_walker 79 = .ok (.invokespecial 177, 3) := dk_183 0 177 (dk_at dksX1_walker_3 11 rfl rfl)
theorem dX1_walker_82 : decode cX1_walker 82 = .ok (.invokevirtual 180, 3) := dk_182 0 180 (dk_at dksX1_walker_3 14 rfl rfl)
theorem dX1_walker_85 : decode cX1_walker 85 = .ok (.pop, 1) := dk_87 (dk_at dksX1_walker_3 17 rfl rfl)
theorem dX1_walker_86 : decode cX1_walker 86 = .ok (.aload_n 0, 1) := dk_42 (dk_at dksX1_walker_3 18 rfl rfl)
theorem dX1_walker_87 : decode cX1_walker 87 = .ok (.getfield 42, 3) := dk_180 0 42 (dk_at dksX1_walker_3 19 rfl rfl)
theorem dX1_walker_90 : decode cX1_walker 90 = .ok (.invokevirtual 80, 3) := dk_182 0 80 (dk_at dksX1_walker_4 0 rfl rfl)
theorem dX1_walker_93 : decode cX1_walker 93 = .ok (.iconst 1, 1) := dk_4 (dk_at dksX1_walker_4 3 rfl rfl)
theorem dX1_walker_94 : decode cX1_walker 94 = .ok (.isub, 1) := dk_100 (dk_at dksX1_walker_4 4 rfl rfl)
theorem dX1_walker_95 : decode cX1_walker 95 = .ok (.ireturn, 1) := dk_172 (dk_at dksX1_walker_4 5 rfl rfl)
abbrev cX1_state : ByteArray := prog_1_method_8_code
def yX1_state : MethodName := ⟨RX1, "state", "(ZLjava/lang/String;)V"⟩
def dkwX1_state_0 : List UInt8 := [26, 154, 0, 12, 187, 0, 66, 89, 43, 183, 0, 68, 191, 177]
abbrev dktX1_state_0 : List UInt8 := dkwX1_state_0 ++ []
theorem dksX1_state_0 : cX1_state.data.toList.drop 0 = dktX1_state_0 := by decide +kernel
theorem dX1_state_0 : decode cX1_state 0 = .ok (.iload_n 0, 1) := dk_26 (dk_at dksX1_state_0 0 rfl rfl)
theorem dX1_state_1 : decode cX1_state 1 = .ok (.ifCond .ne 12, 3) := dk_154 0 12 (dk_at dksX1_state_0 1 rfl rfl)
theorem dX1_state_4 : decode cX1_state 4 = .ok (.new 66, 3) := dk_187 0 66 (dk_at dksX1_state_0 4 rfl rfl)
theorem dX1_state_7 : decode cX1_state 7 = .ok (.dup, 1) := dk_89 (dk_at dksX1_state_0 7 rfl rfl)
theorem dX1_state_8 : decode cX1_state 8 = .ok (.aload_n 1, 1) := dk_43 (dk_at dksX1_state_0 8 rfl rfl)
theorem dX1_state_9 : decode cX1_state 9 = .ok (.invokespecial 68, 3) := dk_183 0 68 (dk_at dksX1_state_0 9 rfl rfl)
theorem dX1_state_12 : decode cX1_state 12 = .ok (.athrow, 1) := dk_191 (dk_at dksX1_state_0 12 rfl rfl)
theorem dX1_state_13 : decode cX1_state 13 = .ok (.return_, 1) := dk_177 (dk_at dksX1_state_0 13 rfl rfl)
abbrev cX1_forward : ByteArray := prog_1_method_25_code
def yX1_forward : MethodName := ⟨RX1, "forward", "(IZ)Z"⟩
def dkwX1_forward_7 : List UInt8 := [96, 181, 1, 2, 42, 45, 182, 1, 5, 21, 4, 172]
abbrev dktX1_forward_7 : List UInt8 := dkwX1_forward_7 ++ []
def dkwX1_forward_6 : List UInt8 := [181, 0, 255, 167, 0, 25, 45, 45, 182, 0, 224, 45, 182, 0, 226, 184, 0, 11, 7, 104, 45, 182, 0, 226]
abbrev dktX1_forward_6 : List UInt8 := dkwX1_forward_6 ++ dktX1_forward_7
def dkwX1_forward_5 : List UInt8 := [51, 153, 0, 28, 42, 180, 0, 49, 182, 0, 252, 6, 112, 154, 0, 16, 45, 89, 180, 0, 255, 4, 96]
abbrev dktX1_forward_5 : List UInt8 := dkwX1_forward_5 ++ dktX1_forward_6
def dkwX1_forward_4 : List UInt8 := [153, 0, 16, 45, 89, 180, 0, 249, 4, 96, 181, 0, 249, 167, 0, 62, 42, 180, 0, 32, 45, 182, 0, 224]
abbrev dktX1_forward_4 : List UInt8 := dkwX1_forward_4 ++ dktX1_forward_5
def dkwX1_forward_3 : List UInt8 := [182, 0, 236, 45, 45, 180, 0, 201, 45, 180, 0, 232, 21, 4, 182, 0, 241, 182, 0, 245, 21, 4]
abbrev dktX1_forward_3 : List UInt8 := dkwX1_forward_3 ++ dktX1_forward_4
def dkwX1_forward_2 : List UInt8 := [153, 0, 25, 45, 180, 0, 232, 45, 182, 0, 198, 45, 180, 0, 201, 182, 0, 205, 7, 112, 21, 4]
abbrev dktX1_forward_2 : List UInt8 := dkwX1_forward_2 ++ dktX1_forward_3
def dkwX1_forward_1 : List UInt8 := [3, 18, 222, 184, 0, 174, 42, 45, 182, 0, 224, 45, 182, 0, 226, 182, 0, 229, 54, 4, 45, 182, 0, 195]
abbrev dktX1_forward_1 : List UInt8 := dkwX1_forward_1 ++ dktX1_forward_2
def dkwX1_forward_0 : List UInt8 := [42, 27, 182, 0, 210, 78, 42, 45, 28, 182, 0, 214, 42, 45, 182, 0, 218, 154, 0, 7, 4, 167, 0, 4]
abbrev dktX1_forward_0 : List UInt8 := dkwX1_forward_0 ++ dktX1_forward_1
theorem dksX1_forward_0 : cX1_forward.data.toList.drop 0 = dktX1_forward_0 := by decide +kernel
theorem dksX1_forward_1 : cX1_forward.data.toList.drop 24 = dktX1_forward_1 := dk_seg dksX1_forward_0 24 rfl rfl
theorem dksX1_forward_2 : cX1_forward.data.toList.drop 48 = dktX1_forward_2 := dk_seg dksX1_forward_1 24 rfl rfl
theorem dksX1_forward_3 : cX1_forward.data.toList.drop 70 = dktX1_forward_3 := dk_seg dksX1_forward_2 22 rfl rfl
theorem dksX1_forward_4 : cX1_forward.data.toList.drop 92 = dktX1_forward_4 := dk_seg dksX1_forward_3 22 rfl rfl
theorem dksX1_forward_5 : cX1_forward.data.toList.drop 116 = dktX1_forward_5 := dk_seg dksX1_forward_4 24 rfl rfl
theorem dksX1_forward_6 : cX1_forward.data.toList.drop 139 = dktX1_forward_6 := dk_seg dksX1_forward_5 23 rfl rfl
theorem dksX1_forward_7 : cX1_forward.data.toList.drop 163 = dktX1_forward_7 := dk_seg dksX1_forward_6 24 rfl rfl
theorem dX1_forward_0 : decode cX1_forward 0 = .ok (.aload_n 0, 1) := dk_42 (dk_at dksX1_forward_0 0 rfl rfl)
theorem dX1_forward_1 : decode cX1_forward 1 = .ok (.iload_n 1, 1) := dk_27 (dk_at dksX1_forward_0 1 rfl rfl)
theorem dX1_forward_2 : decode cX1_forward 2 = .ok (.invokevirtual 210, 3) := dk_182 0 210 (dk_at dksX1_forward_0 2 rfl rfl)
theorem dX1_forward_5 : decode cX1_forward 5 = .ok (.astore_n 3, 1) := dk_78 (dk_at dksX1_forward_0 5 rfl rfl)
theorem dX1_forward_6 : decode cX1_forward 6 = .ok (.aload_n 0, 1) := dk_42 (dk_at dksX1_forward_0 6 rfl rfl)
theorem dX1_forward_7 : decode cX1_forward 7 = .ok (.aload_n 3, 1) := dk_45 (dk_at dksX1_forward_0 7 rfl rfl)
theorem dX1_forward_8 : decode cX1_forward 8 = .ok (.iload_n 2, 1) := dk_28 (dk_at dksX1_forward_0 8 rfl rfl)
theorem dX1_forward_9 : decode cX1_forward 9 = .ok (.invokevirtual 214, 3) := dk_182 0 214 (dk_at dksX1_forward_0 9 rfl rfl)
theorem dX1_forward_12 : decode cX1_forward 12 = .ok (.aload_n 0, 1) := dk_42 (dk_at dksX1_forward_0 12 rfl rfl)
theorem dX1_forward_13 : decode cX1_forward 13 = .ok (.aload_n 3, 1) := dk_45 (dk_at dksX1_forward_0 13 rfl rfl)
theorem dX1_forward_14 : decode cX1_forward 14 = .ok (.invokevirtual 218, 3) := dk_182 0 218 (dk_at dksX1_forward_0 14 rfl rfl)
theorem dX1_forward_17 : decode cX1_forward 17 = .ok (.ifCond .ne 7, 3) := dk_154 0 7 (dk_at dksX1_forward_0 17 rfl rfl)
theorem dX1_forward_20 : decode cX1_forward 20 = .ok (.iconst 1, 1) := dk_4 (dk_at dksX1_forward_0 20 rfl rfl)
theorem dX1_forward_21 : decode cX1_forward 21 = .ok (.goto 4, 3) := dk_167 0 4 (dk_at dksX1_forward_0 21 rfl rfl)
theorem dX1_forward_24 : decode cX1_forward 24 = .ok (.iconst 0, 1) := dk_3 (dk_at dksX1_forward_1 0 rfl rfl)
theorem dX1_forward_25 : decode cX1_forward 25 = .ok (.ldc 222, 2) := dk_18 222 (dk_at dksX1_forward_1 1 rfl rfl)
theorem dX1_forward_27 : decode cX1_forward 27 = .ok (.invokestatic 174, 3) := dk_184 0 174 (dk_at dksX1_forward_1 3 rfl rfl)
theorem dX1_forward_30 : decode cX1_forward 30 = .ok (.aload_n 0, 1) := dk_42 (dk_at dksX1_forward_1 6 rfl rfl)
theorem dX1_forward_31 : decode cX1_forward 31 = .ok (.aload_n 3, 1) := dk_45 (dk_at dksX1_forward_1 7 rfl rfl)
theorem dX1_forward_32 : decode cX1_forward 32 = .ok (.invokevirtual 224, 3) := dk_182 0 224 (dk_at dksX1_forward_1 8 rfl rfl)
theorem dX1_forward_35 : decode cX1_forward 35 = .ok (.aload_n 3, 1) := dk_45 (dk_at dksX1_forward_1 11 rfl rfl)
theorem dX1_forward_36 : decode cX1_forward 36 = .ok (.invokevirtual 226, 3) := dk_182 0 226 (dk_at dksX1_forward_1 12 rfl rfl)
theorem dX1_forward_39 : decode cX1_forward 39 = .ok (.invokevirtual 229, 3) := dk_182 0 229 (dk_at dksX1_forward_1 15 rfl rfl)
theorem dX1_forward_42 : decode cX1_forward 42 = .ok (.istore 4, 2) := dk_54 4 (dk_at dksX1_forward_1 18 rfl rfl)
theorem dX1_forward_44 : decode cX1_forward 44 = .ok (.aload_n 3, 1) := dk_45 (dk_at dksX1_forward_1 20 rfl rfl)
theorem dX1_forward_45 : decode cX1_forward 45 = .ok (.invokevirtual 195, 3) := dk_182 0 195 (dk_at dksX1_forward_1 21 rfl rfl)
theorem dX1_forward_48 : decode cX1_forward 48 = .ok (.ifCond .eq 25, 3) := dk_153 0 25 (dk_at dksX1_forward_2 0 rfl rfl)
theorem dX1_forward_51 : decode cX1_forward 51 = .ok (.aload_n 3, 1) := dk_45 (dk_at dksX1_forward_2 3 rfl rfl)
theorem dX1_forward_52 : decode cX1_forward 52 = .ok (.getfield 232, 3) := dk_180 0 232 (dk_at dksX1_forward_2 4 rfl rfl)
theorem dX1_forward_55 : decode cX1_forward 55 = .ok (.aload_n 3, 1) := dk_45 (dk_at dksX1_forward_2 7 rfl rfl)
theorem dX1_forward_56 : decode cX1_forward 56 = .ok (.invokevirtual 198, 3) := dk_182 0 198 (dk_at dksX1_forward_2 8 rfl rfl)
theorem dX1_forward_59 : decode cX1_forward 59 = .ok (.aload_n 3, 1) := dk_45 (dk_at dksX1_forward_2 11 rfl rfl)
theorem dX1_forward_60 : decode cX1_forward 60 = .ok (.getfield 201, 3) := dk_180 0 201 (dk_at dksX1_forward_2 12 rfl rfl)
theorem dX1_forward_63 : decode cX1_forward 63 = .ok (.invokevirtual 205, 3) := dk_182 0 205 (dk_at dksX1_forward_2 15 rfl rfl)
theorem dX1_forward_66 : decode cX1_forward 66 = .ok (.iconst 4, 1) := dk_7 (dk_at dksX1_forward_2 18 rfl rfl)
theorem dX1_forward_67 : decode cX1_forward 67 = .ok (.irem, 1) := dk_112 (dk_at dksX1_forward_2 19 rfl rfl)
theorem dX1_forward_68 : decode cX1_forward 68 = .ok (.iload 4, 2) := dk_21 4 (dk_at dksX1_forward_2 20 rfl rfl)
theorem dX1_forward_70 : decode cX1_forward 70 = .ok (.invokevirtual 236, 3) := dk_182 0 236 (dk_at dksX1_forward_3 0 rfl rfl)
theorem dX1_forward_73 : decode cX1_forward 73 = .ok (.aload_n 3, 1) := dk_45 (dk_at dksX1_forward_3 3 rfl rfl)
theorem dX1_forward_74 : decode cX1_forward 74 = .ok (.aload_n 3, 1) := dk_45 (dk_at dksX1_forward_3 4 rfl rfl)
theorem dX1_forward_75 : decode cX1_forward 75 = .ok (.getfield 201, 3) := dk_180 0 201 (dk_at dksX1_forward_3 5 rfl rfl)
theorem dX1_forward_78 : decode cX1_forward 78 = .ok (.aload_n 3, 1) := dk_45 (dk_at dksX1_forward_3 8 rfl rfl)
theorem dX1_forward_79 : decode cX1_forward 79 = .ok (.getfield 232, 3) := dk_180 0 232 (dk_at dksX1_forward_3 9 rfl rfl)
theorem dX1_forward_82 : decode cX1_forward 82 = .ok (.iload 4, 2) := dk_21 4 (dk_at dksX1_forward_3 12 rfl rfl)
theorem dX1_forward_84 : decode cX1_forward 84 = .ok (.invokevirtual 241, 3) := dk_182 0 241 (dk_at dksX1_forward_3 14 rfl rfl)
theorem dX1_forward_87 : decode cX1_forward 87 = .ok (.invokevirtual 245, 3) := dk_182 0 245 (dk_at dksX1_forward_3 17 rfl rfl)
theorem dX1_forward_90 : decode cX1_forward 90 = .ok (.iload 4, 2) := dk_21 4 (dk_at dksX1_forward_3 20 rfl rfl)
theorem dX1_forward_92 : decode cX1_forward 92 = .ok (.ifCond .eq 16, 3) := dk_153 0 16 (dk_at dksX1_forward_4 0 rfl rfl)
theorem dX1_forward_95 : decode cX1_forward 95 = .ok (.aload_n 3, 1) := dk_45 (dk_at dksX1_forward_4 3 rfl rfl)
theorem dX1_forward_96 : decode cX1_forward 96 = .ok (.dup, 1) := dk_89 (dk_at dksX1_forward_4 4 rfl rfl)
theorem dX1_forward_97 : decode cX1_forward 97 = .ok (.getfield 249, 3) := dk_180 0 249 (dk_at dksX1_forward_4 5 rfl rfl)
theorem dX1_forward_100 : decode cX1_forward 100 = .ok (.iconst 1, 1) := dk_4 (dk_at dksX1_forward_4 8 rfl rfl)
theorem dX1_forward_101 : decode cX1_forward 101 = .ok (.iadd, 1) := dk_96 (dk_at dksX1_forward_4 9 rfl rfl)
theorem dX1_forward_102 : decode cX1_forward 102 = .ok (.putfield 249, 3) := dk_181 0 249 (dk_at dksX1_forward_4 10 rfl rfl)
theorem dX1_forward_105 : decode cX1_forward 105 = .ok (.goto 62, 3) := dk_167 0 62 (dk_at dksX1_forward_4 13 rfl rfl)
theorem dX1_forward_108 : decode cX1_forward 108 = .ok (.aload_n 0, 1) := dk_42 (dk_at dksX1_forward_4 16 rfl rfl)
theorem dX1_forward_109 : decode cX1_forward 109 = .ok (.getfield 32, 3) := dk_180 0 32 (dk_at dksX1_forward_4 17 rfl rfl)
theorem dX1_forward_112 : decode cX1_forward 112 = .ok (.aload_n 3, 1) := dk_45 (dk_at dksX1_forward_4 20 rfl rfl)
theorem dX1_forward_113 : decode cX1_forward 113 = .ok (.invokevirtual 224, 3) := dk_182 0 224 (dk_at dksX1_forward_4 21 rfl rfl)
theorem dX1_forward_116 : decode cX1_forward 116 = .ok (.baload, 1) := dk_51 (dk_at dksX1_forward_5 0 rfl rfl)
theorem dX1_forward_117 : decode cX1_forward 117 = .ok (.ifCond .eq 28, 3) := dk_153 0 28 (dk_at dksX1_forward_5 1 rfl rfl)
theorem dX1_forward_120 : decode cX1_forward 120 = .ok (.aload_n 0, 1) := dk_42 (dk_at dksX1_forward_5 4 rfl rfl)
theorem dX1_forward_121 : decode cX1_forward 121 = .ok (.getfield 49, 3) := dk_180 0 49 (dk_at dksX1_forward_5 5 rfl rfl)
theorem dX1_forward_124 : decode cX1_forward 124 = .ok (.invokevirtual 252, 3) := dk_182 0 252 (dk_at dksX1_forward_5 8 rfl rfl)
theorem dX1_forward_127 : decode cX1_forward 127 = .ok (.iconst 3, 1) := dk_6 (dk_at dksX1_forward_5 11 rfl rfl)
theorem dX1_forward_128 : decode cX1_forward 128 = .ok (.irem, 1) := dk_112 (dk_at dksX1_forward_5 12 rfl rfl)
theorem dX1_forward_129 : decode cX1_forward 129 = .ok (.ifCond .ne 16, 3) := dk_154 0 16 (dk_at dksX1_forward_5 13 rfl rfl)
theorem dX1_forward_132 : decode cX1_forward 132 = .ok (.aload_n 3, 1) := dk_45 (dk_at dksX1_forward_5 16 rfl rfl)
theorem dX1_forward_133 : decode cX1_forward 133 = .ok (.dup, 1) := dk_89 (dk_at dksX1_forward_5 17 rfl rfl)
theorem dX1_forward_134 : decode cX1_forward 134 = .ok (.getfield 255, 3) := dk_180 0 255 (dk_at dksX1_forward_5 18 rfl rfl)
theorem dX1_forward_137 : decode cX1_forward 137 = .ok (.iconst 1, 1) := dk_4 (dk_at dksX1_forward_5 21 rfl rfl)
theorem dX1_forward_138 : decode cX1_forward 138 = .ok (.iadd, 1) := dk_96 (dk_at dksX1_forward_5 22 rfl rfl)
theorem dX1_forward_139 : decode cX1_forward 139 = .ok (.putfield 255, 3) := dk_181 0 255 (dk_at dksX1_forward_6 0 rfl rfl)
theorem dX1_forward_142 : decode cX1_forward 142 = .ok (.goto 25, 3) := dk_167 0 25 (dk_at dksX1_forward_6 3 rfl rfl)
theorem dX1_forward_145 : decode cX1_forward 145 = .ok (.aload_n 3, 1) := dk_45 (dk_at dksX1_forward_6 6 rfl rfl)
theorem dX1_forward_146 : decode cX1_forward 146 = .ok (.aload_n 3, 1) := dk_45 (dk_at dksX1_forward_6 7 rfl rfl)
theorem dX1_forward_147 : decode cX1_forward 147 = .ok (.invokevirtual 224, 3) := dk_182 0 224 (dk_at dksX1_forward_6 8 rfl rfl)
theorem dX1_forward_150 : decode cX1_forward 150 = .ok (.aload_n 3, 1) := dk_45 (dk_at dksX1_forward_6 11 rfl rfl)
theorem dX1_forward_151 : decode cX1_forward 151 = .ok (.invokevirtual 226, 3) := dk_182 0 226 (dk_at dksX1_forward_6 12 rfl rfl)
theorem dX1_forward_154 : decode cX1_forward 154 = .ok (.invokestatic 11, 3) := dk_184 0 11 (dk_at dksX1_forward_6 15 rfl rfl)
theorem dX1_forward_157 : decode cX1_forward 157 = .ok (.iconst 4, 1) := dk_7 (dk_at dksX1_forward_6 18 rfl rfl)
theorem dX1_forward_158 : decode cX1_forward 158 = .ok (.imul, 1) := dk_104 (dk_at dksX1_forward_6 19 rfl rfl)
theorem dX1_forward_159 : decode cX1_forward 159 = .ok (.aload_n 3, 1) := dk_45 (dk_at dksX1_forward_6 20 rfl rfl)
theorem dX1_forward_160 : decode cX1_forward 160 = .ok (.invokevirtual 226, 3) := dk_182 0 226 (dk_at dksX1_forward_6 21 rfl rfl)
theorem dX1_forward_163 : decode cX1_forward 163 = .ok (.iadd, 1) := dk_96 (dk_at dksX1_forward_7 0 rfl rfl)
theorem dX1_forward_164 : decode cX1_forward 164 = .ok (.putfield 258, 3) := dk_181 1 2 (dk_at dksX1_forward_7 1 rfl rfl)
theorem dX1_forward_167 : decode cX1_forward 167 = .ok (.aload_n 0, 1) := dk_42 (dk_at dksX1_forward_7 4 rfl rfl)
theorem dX1_forward_168 : decode cX1_forward 168 = .ok (.aload_n 3, 1) := dk_45 (dk_at dksX1_forward_7 5 rfl rfl)
theorem dX1_forward_169 : decode cX1_forward 169 = .ok (.invokevirtual 261, 3) := dk_182 1 5 (dk_at dksX1_forward_7 6 rfl rfl)
theorem dX1_forward_172 : decode cX1_forward 172 = .ok (.iload 4, 2) := dk_21 4 (dk_at dksX1_forward_7 9 rfl rfl)
theorem dX1_forward_174 : decode cX1_forward 174 = .ok (.ireturn, 1) := dk_172 (dk_at dksX1_forward_7 11 rfl rfl)
abbrev cX1_walkerOf : ByteArray := prog_1_method_12_code
def yX1_walkerOf : MethodName := ⟨RX1, "walkerOf", "(I)LBumpward$Walker;"⟩
def dkwX1_walkerOf_0 : List UInt8 := [42, 180, 0, 42, 27, 42, 180, 0, 42, 182, 0, 80, 18, 84, 184, 0, 74, 182, 0, 86, 192, 0, 90, 176]
abbrev dktX1_walkerOf_0 : List UInt8 := dkwX1_walkerOf_0 ++ []
theorem dksX1_walkerOf_0 : cX1_walkerOf.data.toList.drop 0 = dktX1_walkerOf_0 := by decide +kernel
theorem dX1_walkerOf_0 : decode cX1_walkerOf 0 = .ok (.aload_n 0, 1) := dk_42 (dk_at dksX1_walkerOf_0 0 rfl rfl)
theorem dX1_walkerOf_1 : decode cX1_walkerOf 1 = .ok (.getfield 42, 3) := dk_180 0 42 (dk_at dksX1_walkerOf_0 1 rfl rfl)
theorem dX1_walkerOf_4 : decode cX1_walkerOf 4 = .ok (.iload_n 1, 1) := dk_27 (dk_at dksX1_walkerOf_0 4 rfl rfl)
theorem dX1_walkerOf_5 : decode cX1_walkerOf 5 = .ok (.aload_n 0, 1) := dk_42 (dk_at dksX1_walkerOf_0 5 rfl rfl)
theorem dX1_walkerOf_6 : decode cX1_walkerOf 6 = .ok (.getfield 42, 3) := dk_180 0 42 (dk_at dksX1_walkerOf_0 6 rfl rfl)
theorem dX1_walkerOf_9 : decode cX1_walkerOf 9 = .ok (.invokevirtual 80, 3) := dk_182 0 80 (dk_at dksX1_walkerOf_0 9 rfl rfl)
theorem dX1_walkerOf_12 : decode cX1_walkerOf 12 = .ok (.ldc 84, 2) := dk_18 84 (dk_at dksX1_walkerOf_0 12 rfl rfl)
theorem dX1_walkerOf_14 : decode cX1_walkerOf 14 = .ok (.invokestatic 74, 3) := dk_184 0 74 (dk_at dksX1_walkerOf_0 14 rfl rfl)
theorem dX1_walkerOf_17 : decode cX1_walkerOf 17 = .ok (.invokevirtual 86, 3) := dk_182 0 86 (dk_at dksX1_walkerOf_0 17 rfl rfl)
theorem dX1_walkerOf_20 : decode cX1_walkerOf 20 = .ok (.checkcast 90, 3) := dk_192 0 90 (dk_at dksX1_walkerOf_0 20 rfl rfl)
theorem dX1_walkerOf_23 : decode cX1_walkerOf 23 = .ok (.areturn, 1) := dk_176 (dk_at dksX1_walkerOf_0 23 rfl rfl)
abbrev cX1_checkAct : ByteArray := prog_1_method_22_code
def yX1_checkAct : MethodName := ⟨RX1, "checkAct", "(LBumpward$Walker;Z)V"⟩
def dkwX1_checkAct_1 : List UInt8 := [17, 11, 184, 162, 0, 7, 4, 167, 0, 4, 3, 18, 190, 184, 0, 174, 177]
abbrev dktX1_checkAct_1 : List UInt8 := dkwX1_checkAct_1 ++ []
def dkwX1_checkAct_0 : List UInt8 := [43, 180, 0, 184, 158, 0, 28, 28, 154, 0, 10, 43, 182, 0, 187, 153, 0, 17, 42, 180, 0, 92]
abbrev dktX1_checkAct_0 : List UInt8 := dkwX1_checkAct_0 ++ dktX1_checkAct_1
theorem dksX1_checkAct_0 : cX1_checkAct.data.toList.drop 0 = dktX1_checkAct_0 := by decide +kernel
theorem dksX1_checkAct_1 : cX1_checkAct.data.toList.drop 22 = dktX1_checkAct_1 := dk_seg dksX1_checkAct_0 22 rfl rfl
theorem dX1_checkAct_0 : decode cX1_checkAct 0 = .ok (.aload_n 1, 1) := dk_43 (dk_at dksX1_checkAct_0 0 rfl rfl)
theorem dX1_checkAct_1 : decode cX1_checkAct 1 = .ok (.getfield 184, 3) := dk_180 0 184 (dk_at dksX1_checkAct_0 1 rfl rfl)
theorem dX1_checkAct_4 : decode cX1_checkAct 4 = .ok (.ifCond .le 28, 3) := dk_158 0 28 (dk_at dksX1_checkAct_0 4 rfl rfl)
theorem dX1_checkAct_7 : decode cX1_checkAct 7 = .ok (.iload_n 2, 1) := dk_28 (dk_at dksX1_checkAct_0 7 rfl rfl)
theorem dX1_checkAct_8 : decode cX1_checkAct 8 = .ok (.ifCond .ne 10, 3) := dk_154 0 10 (dk_at dksX1_checkAct_0 8 rfl rfl)
theorem dX1_checkAct_11 : decode cX1_checkAct 11 = .ok (.aload_n 1, 1) := dk_43 (dk_at dksX1_checkAct_0 11 rfl rfl)
theorem dX1_checkAct_12 : decode cX1_checkAct 12 = .ok (.invokevirtual 187, 3) := dk_182 0 187 (dk_at dksX1_checkAct_0 12 rfl rfl)
theorem dX1_checkAct_15 : decode cX1_checkAct 15 = .ok (.ifCond .eq 17, 3) := dk_153 0 17 (dk_at dksX1_checkAct_0 15 rfl rfl)
theorem dX1_checkAct_18 : decode cX1_checkAct 18 = .ok (.aload_n 0, 1) := dk_42 (dk_at dksX1_checkAct_0 18 rfl rfl)
theorem dX1_checkAct_19 : decode cX1_checkAct 19 = .ok (.getfield 92, 3) := dk_180 0 92 (dk_at dksX1_checkAct_0 19 rfl rfl)
theorem dX1_checkAct_22 : decode cX1_checkAct 22 = .ok (.sipush 3000, 3) := dk_17 11 184 (dk_at dksX1_checkAct_1 0 rfl rfl)
theorem dX1_checkAct_25 : decode cX1_checkAct 25 = .ok (.if_icmp .ge 7, 3) := dk_162 0 7 (dk_at dksX1_checkAct_1 3 rfl rfl)
theorem dX1_checkAct_28 : decode cX1_checkAct 28 = .ok (.iconst 1, 1) := dk_4 (dk_at dksX1_checkAct_1 6 rfl rfl)
theorem dX1_checkAct_29 : decode cX1_checkAct 29 = .ok (.goto 4, 3) := dk_167 0 4 (dk_at dksX1_checkAct_1 7 rfl rfl)
theorem dX1_checkAct_32 : decode cX1_checkAct 32 = .ok (.iconst 0, 1) := dk_3 (dk_at dksX1_checkAct_1 10 rfl rfl)
theorem dX1_checkAct_33 : decode cX1_checkAct 33 = .ok (.ldc 190, 2) := dk_18 190 (dk_at dksX1_checkAct_1 11 rfl rfl)
theorem dX1_checkAct_35 : decode cX1_checkAct 35 = .ok (.invokestatic 174, 3) := dk_184 0 174 (dk_at dksX1_checkAct_1 13 rfl rfl)
theorem dX1_checkAct_38 : decode cX1_checkAct 38 = .ok (.return_, 1) := dk_177 (dk_at dksX1_checkAct_1 16 rfl rfl)
abbrev cX1_isBarredAhead : ByteArray := prog_1_method_24_code
def yX1_isBarredAhead : MethodName := ⟨RX1, "isBarredAhead", "(LBumpward$Walker;)Z"⟩
def dkwX1_isBarredAhead_1 : List UInt8 := [184, 0, 11, 61, 28, 2, 159, 0, 16, 42, 180, 0, 36, 28, 51, 153, 0, 7, 4, 167, 0, 4, 3, 172]
abbrev dktX1_isBarredAhead_1 : List UInt8 := dkwX1_isBarredAhead_1 ++ []
def dkwX1_isBarredAhead_0 : List UInt8 := [43, 182, 0, 195, 154, 0, 5, 3, 172, 43, 182, 0, 198, 43, 180, 0, 201, 182, 0, 205, 7, 112]
abbrev dktX1_isBarredAhead_0 : List UInt8 := dkwX1_isBarredAhead_0 ++ dktX1_isBarredAhead_1
theorem dksX1_isBarredAhead_0 : cX1_isBarredAhead.data.toList.drop 0 = dktX1_isBarredAhead_0 := by decide +kernel
theorem dksX1_isBarredAhead_1 : cX1_isBarredAhead.data.toList.drop 22 = dktX1_isBarredAhead_1 := dk_seg dksX1_isBarredAhead_0 22 rfl rfl
theorem dX1_isBarredAhead_0 : decode cX1_isBarredAhead 0 = .ok (.aload_n 1, 1) := dk_43 (dk_at dksX1_isBarredAhead_0 0 rfl rfl)
theorem dX1_isBarredAhead_1 : decode cX1_isBarredAhead 1 = .ok (.invokevirtual 195, 3) := dk_182 0 195 (dk_at dksX1_isBarredAhead_0 1 rfl rfl)
theorem dX1_isBarredAhead_4 : decode cX1_isBarredAhead 4 = .ok (.ifCond .ne 5, 3) := dk_154 0 5 (dk_at dksX1_isBarredAhead_0 4 rfl rfl)
theorem dX1_isBarredAhead_7 : decode cX1_isBarredAhead 7 = .ok (.iconst 0, 1) := dk_3 (dk_at dksX1_isBarredAhead_0 7 rfl rfl)
theorem dX1_isBarredAhead_8 : decode cX1_isBarredAhead 8 = .ok (.ireturn, 1) := dk_172 (dk_at dksX1_isBarredAhead_0 8 rfl rfl)
theorem dX1_isBarredAhead_9 : decode cX1_isBarredAhead 9 = .ok (.aload_n 1, 1) := dk_43 (dk_at dksX1_isBarredAhead_0 9 rfl rfl)
theorem dX1_isBarredAhead_10 : decode cX1_isBarredAhead 10 = .ok (.invokevirtual 198, 3) := dk_182 0 198 (dk_at dksX1_isBarredAhead_0 10 rfl rfl)
theorem dX1_isBarredAhead_13 : decode cX1_isBarredAhead 13 = .ok (.aload_n 1, 1) := dk_43 (dk_at dksX1_isBarredAhead_0 13 rfl rfl)
theorem dX1_isBarredAhead_14 : decode cX1_isBarredAhead 14 = .ok (.getfield 201, 3) := dk_180 0 201 (dk_at dksX1_isBarredAhead_0 14 rfl rfl)
theorem dX1_isBarredAhead_17 : decode cX1_isBarredAhead 17 = .ok (.invokevirtual 205, 3) := dk_182 0 205 (dk_at dksX1_isBarredAhead_0 17 rfl rfl)
theorem dX1_isBarredAhead_20 : decode cX1_isBarredAhead 20 = .ok (.iconst 4, 1) := dk_7 (dk_at dksX1_isBarredAhead_0 20 rfl rfl)
theorem dX1_isBarredAhead_21 : decode cX1_isBarredAhead 21 = .ok (.irem, 1) := dk_112 (dk_at dksX1_isBarredAhead_0 21 rfl rfl)
theorem dX1_isBarredAhead_22 : decode cX1_isBarredAhead 22 = .ok (.invokestatic 11, 3) := dk_184 0 11 (dk_at dksX1_isBarredAhead_1 0 rfl rfl)
theorem dX1_isBarredAhead_25 : decode cX1_isBarredAhead 25 = .ok (.istore_n 2, 1) := dk_61 (dk_at dksX1_isBarredAhead_1 3 rfl rfl)
theorem dX1_isBarredAhead_26 : decode cX1_isBarredAhead 26 = .ok (.iload_n 2, 1) := dk_28 (dk_at dksX1_isBarredAhead_1 4 rfl rfl)
theorem dX1_isBarredAhead_27 : decode cX1_isBarredAhead 27 = .ok (.iconst (-1), 1) := dk_2 (dk_at dksX1_isBarredAhead_1 5 rfl rfl)
theorem dX1_isBarredAhead_28 : decode cX1_isBarredAhead 28 = .ok (.if_icmp .eq 16, 3) := dk_159 0 16 (dk_at dksX1_isBarredAhead_1 6 rfl rfl)
theorem dX1_isBarredAhead_31 : decode cX1_isBarredAhead 31 = .ok (.aload_n 0, 1) := dk_42 (dk_at dksX1_isBarredAhead_1 9 rfl rfl)
theorem dX1_isBarredAhead_32 : decode cX1_isBarredAhead 32 = .ok (.getfield 36, 3) := dk_180 0 36 (dk_at dksX1_isBarredAhead_1 10 rfl rfl)
theorem dX1_isBarredAhead_35 : decode cX1_isBarredAhead 35 = .ok (.iload_n 2, 1) := dk_28 (dk_at dksX1_isBarredAhead_1 13 rfl rfl)
theorem dX1_isBarredAhead_36 : decode cX1_isBarredAhead 36 = .ok (.baload, 1) := dk_51 (dk_at dksX1_isBarredAhead_1 14 rfl rfl)
theorem dX1_isBarredAhead_37 : decode cX1_isBarredAhead 37 = .ok (.ifCond .eq 7, 3) := dk_153 0 7 (dk_at dksX1_isBarredAhead_1 15 rfl rfl)
theorem dX1_isBarredAhead_40 : decode cX1_isBarredAhead 40 = .ok (.iconst 1, 1) := dk_4 (dk_at dksX1_isBarredAhead_1 18 rfl rfl)
theorem dX1_isBarredAhead_41 : decode cX1_isBarredAhead 41 = .ok (.goto 4, 3) := dk_167 0 4 (dk_at dksX1_isBarredAhead_1 19 rfl rfl)
theorem dX1_isBarredAhead_44 : decode cX1_isBarredAhead 44 = .ok (.iconst 0, 1) := dk_3 (dk_at dksX1_isBarredAhead_1 22 rfl rfl)
theorem dX1_isBarredAhead_45 : decode cX1_isBarredAhead 45 = .ok (.ireturn, 1) := dk_172 (dk_at dksX1_isBarredAhead_1 23 rfl rfl)
abbrev cX1_end : ByteArray := prog_1_method_23_code
def yX1_end : MethodName := ⟨RX1, "end", "(LBumpward$Walker;)V"⟩
def dkwX1_end_1 : List UInt8 := [180, 0, 92, 4, 96, 181, 0, 92, 177]
abbrev dktX1_end_1 : List UInt8 := dkwX1_end_1 ++ []
def dkwX1_end_0 : List UInt8 := [43, 89, 180, 0, 184, 4, 100, 181, 0, 184, 43, 89, 180, 0, 192, 4, 96, 181, 0, 192, 42, 89]
abbrev dktX1_end_0 : List UInt8 := dkwX1_end_0 ++ dktX1_end_1
theorem dksX1_end_0 : cX1_end.data.toList.drop 0 = dktX1_end_0 := by decide +kernel
theorem dksX1_end_1 : cX1_end.data.toList.drop 22 = dktX1_end_1 := dk_seg dksX1_end_0 22 rfl rfl
theorem dX1_end_0 : decode cX1_end 0 = .ok (.aload_n 1, 1) := dk_43 (dk_at dksX1_end_0 0 rfl rfl)
theorem dX1_end_1 : decode cX1_end 1 = .ok (.dup, 1) := dk_89 (dk_at dksX1_end_0 1 rfl rfl)
theorem dX1_end_2 : decode cX1_end 2 = .ok (.getfield 184, 3) := dk_180 0 184 (dk_at dksX1_end_0 2 rfl rfl)
theorem dX1_end_5 : decode cX1_end 5 = .ok (.iconst 1, 1) := dk_4 (dk_at dksX1_end_0 5 rfl rfl)
theorem dX1_end_6 : decode cX1_end 6 = .ok (.isub, 1) := dk_100 (dk_at dksX1_end_0 6 rfl rfl)
theorem dX1_end_7 : decode cX1_end 7 = .ok (.putfield 184, 3) := dk_181 0 184 (dk_at dksX1_end_0 7 rfl rfl)
theorem dX1_end_10 : decode cX1_end 10 = .ok (.aload_n 1, 1) := dk_43 (dk_at dksX1_end_0 10 rfl rfl)
theorem dX1_end_11 : decode cX1_end 11 = .ok (.dup, 1) := dk_89 (dk_at dksX1_end_0 11 rfl rfl)
theorem dX1_end_12 : decode cX1_end 12 = .ok (.getfield 192, 3) := dk_180 0 192 (dk_at dksX1_end_0 12 rfl rfl)
theorem dX1_end_15 : decode cX1_end 15 = .ok (.iconst 1, 1) := dk_4 (dk_at dksX1_end_0 15 rfl rfl)
theorem dX1_end_16 : decode cX1_end 16 = .ok (.iadd, 1) := dk_96 (dk_at dksX1_end_0 16 rfl rfl)
theorem dX1_end_17 : decode cX1_end 17 = .ok (.putfield 192, 3) := dk_181 0 192 (dk_at dksX1_end_0 17 rfl rfl)
theorem dX1_end_20 : decode cX1_end 20 = .ok (.aload_n 0, 1) := dk_42 (dk_at dksX1_end_0 20 rfl rfl)
theorem dX1_end_21 : decode cX1_end 21 = .ok (.dup, 1) := dk_89 (dk_at dksX1_end_0 21 rfl rfl)
theorem dX1_end_22 : decode cX1_end 22 = .ok (.getfield 92, 3) := dk_180 0 92 (dk_at dksX1_end_1 0 rfl rfl)
theorem dX1_end_25 : decode cX1_end 25 = .ok (.iconst 1, 1) := dk_4 (dk_at dksX1_end_1 3 rfl rfl)
theorem dX1_end_26 : decode cX1_end 26 = .ok (.iadd, 1) := dk_96 (dk_at dksX1_end_1 4 rfl rfl)
theorem dX1_end_27 : decode cX1_end 27 = .ok (.putfield 92, 3) := dk_181 0 92 (dk_at dksX1_end_1 5 rfl rfl)
theorem dX1_end_30 : decode cX1_end 30 = .ok (.return_, 1) := dk_177 (dk_at dksX1_end_1 8 rfl rfl)
abbrev cX1_turn : ByteArray := prog_1_method_26_code
def yX1_turn : MethodName := ⟨RX1, "turn", "(IZZ)I"⟩
def dkwX1_turn_2 : List UInt8 := [182, 1, 5, 25, 4, 180, 0, 201, 182, 1, 17, 172]
abbrev dktX1_turn_2 : List UInt8 := dkwX1_turn_2 ++ []
def dkwX1_turn_1 : List UInt8 := [184, 1, 9, 181, 1, 2, 25, 4, 25, 4, 180, 0, 201, 28, 182, 1, 13, 182, 0, 245, 42, 25, 4]
abbrev dktX1_turn_1 : List UInt8 := dkwX1_turn_1 ++ dktX1_turn_2
def dkwX1_turn_0 : List UInt8 := [42, 27, 182, 0, 210, 58, 4, 42, 25, 4, 29, 182, 0, 214, 25, 4, 25, 4, 180, 1, 2, 28]
abbrev dktX1_turn_0 : List UInt8 := dkwX1_turn_0 ++ dktX1_turn_1
theorem dksX1_turn_0 : cX1_turn.data.toList.drop 0 = dktX1_turn_0 := by decide +kernel
theorem dksX1_turn_1 : cX1_turn.data.toList.drop 22 = dktX1_turn_1 := dk_seg dksX1_turn_0 22 rfl rfl
theorem dksX1_turn_2 : cX1_turn.data.toList.drop 45 = dktX1_turn_2 := dk_seg dksX1_turn_1 23 rfl rfl
theorem dX1_turn_0 : decode cX1_turn 0 = .ok (.aload_n 0, 1) := dk_42 (dk_at dksX1_turn_0 0 rfl rfl)
theorem dX1_turn_1 : decode cX1_turn 1 = .ok (.iload_n 1, 1) := dk_27 (dk_at dksX1_turn_0 1 rfl rfl)
theorem dX1_turn_2 : decode cX1_turn 2 = .ok (.invokevirtual 210, 3) := dk_182 0 210 (dk_at dksX1_turn_0 2 rfl rfl)
theorem dX1_turn_5 : decode cX1_turn 5 = .ok (.astore 4, 2) := dk_58 4 (dk_at dksX1_turn_0 5 rfl rfl)
theorem dX1_turn_7 : decode cX1_turn 7 = .ok (.aload_n 0, 1) := dk_42 (dk_at dksX1_turn_0 7 rfl rfl)
theorem dX1_turn_8 : decode cX1_turn 8 = .ok (.aload 4, 2) := dk_25 4 (dk_at dksX1_turn_0 8 rfl rfl)
theorem dX1_turn_10 : decode cX1_turn 10 = .ok (.iload_n 3, 1) := dk_29 (dk_at dksX1_turn_0 10 rfl rfl)
theorem dX1_turn_11 : decode cX1_turn 11 = .ok (.invokevirtual 214, 3) := dk_182 0 214 (dk_at dksX1_turn_0 11 rfl rfl)
theorem dX1_turn_14 : decode cX1_turn 14 = .ok (.aload 4, 2) := dk_25 4 (dk_at dksX1_turn_0 14 rfl rfl)
theorem dX1_turn_16 : decode cX1_turn 16 = .ok (.aload 4, 2) := dk_25 4 (dk_at dksX1_turn_0 16 rfl rfl)
theorem dX1_turn_18 : decode cX1_turn 18 = .ok (.getfield 258, 3) := dk_180 1 2 (dk_at dksX1_turn_0 18 rfl rfl)
theorem dX1_turn_21 : decode cX1_turn 21 = .ok (.iload_n 2, 1) := dk_28 (dk_at dksX1_turn_0 21 rfl rfl)
theorem dX1_turn_22 : decode cX1_turn 22 = .ok (.invokestatic 265, 3) := dk_184 1 9 (dk_at dksX1_turn_1 0 rfl rfl)
theorem dX1_turn_25 : decode cX1_turn 25 = .ok (.putfield 258, 3) := dk_181 1 2 (dk_at dksX1_turn_1 3 rfl rfl)
theorem dX1_turn_28 : decode cX1_turn 28 = .ok (.aload 4, 2) := dk_25 4 (dk_at dksX1_turn_1 6 rfl rfl)
theorem dX1_turn_30 : decode cX1_turn 30 = .ok (.aload 4, 2) := dk_25 4 (dk_at dksX1_turn_1 8 rfl rfl)
theorem dX1_turn_32 : decode cX1_turn 32 = .ok (.getfield 201, 3) := dk_180 0 201 (dk_at dksX1_turn_1 10 rfl rfl)
theorem dX1_turn_35 : decode cX1_turn 35 = .ok (.iload_n 2, 1) := dk_28 (dk_at dksX1_turn_1 13 rfl rfl)
theorem dX1_turn_36 : decode cX1_turn 36 = .ok (.invokevirtual 269, 3) := dk_182 1 13 (dk_at dksX1_turn_1 14 rfl rfl)
theorem dX1_turn_39 : decode cX1_turn 39 = .ok (.invokevirtual 245, 3) := dk_182 0 245 (dk_at dksX1_turn_1 17 rfl rfl)
theorem dX1_turn_42 : decode cX1_turn 42 = .ok (.aload_n 0, 1) := dk_42 (dk_at dksX1_turn_1 20 rfl rfl)
theorem dX1_turn_43 : decode cX1_turn 43 = .ok (.aload 4, 2) := dk_25 4 (dk_at dksX1_turn_1 21 rfl rfl)
theorem dX1_turn_45 : decode cX1_turn 45 = .ok (.invokevirtual 261, 3) := dk_182 1 5 (dk_at dksX1_turn_2 0 rfl rfl)
theorem dX1_turn_48 : decode cX1_turn 48 = .ok (.aload 4, 2) := dk_25 4 (dk_at dksX1_turn_2 3 rfl rfl)
theorem dX1_turn_50 : decode cX1_turn 50 = .ok (.getfield 201, 3) := dk_180 0 201 (dk_at dksX1_turn_2 5 rfl rfl)
theorem dX1_turn_53 : decode cX1_turn 53 = .ok (.invokevirtual 273, 3) := dk_182 1 17 (dk_at dksX1_turn_2 8 rfl rfl)
theorem dX1_turn_56 : decode cX1_turn 56 = .ok (.ireturn, 1) := dk_172 (dk_at dksX1_turn_2 11 rfl rfl)
abbrev cX1_turn_2 : ByteArray := prog_1_method_5_code
def yX1_turn_2 : MethodName := ⟨RX1, "turn", "(IZ)I"⟩
def dkwX1_turn_2_0 : List UInt8 := [26, 7, 108, 7, 104, 26, 27, 153, 0, 7, 4, 167, 0, 4, 6, 96, 7, 112, 96, 172]
abbrev dktX1_turn_2_0 : List UInt8 := dkwX1_turn_2_0 ++ []
theorem dksX1_turn_2_0 : cX1_turn_2.data.toList.drop 0 = dktX1_turn_2_0 := by decide +kernel
theorem dX1_turn_2_0 : decode cX1_turn_2 0 = .ok (.iload_n 0, 1) := dk_26 (dk_at dksX1_turn_2_0 0 rfl rfl)
theorem dX1_turn_2_1 : decode cX1_turn_2 1 = .ok (.iconst 4, 1) := dk_7 (dk_at dksX1_turn_2_0 1 rfl rfl)
theorem dX1_turn_2_2 : decode cX1_turn_2 2 = .ok (.idiv, 1) := dk_108 (dk_at dksX1_turn_2_0 2 rfl rfl)
theorem dX1_turn_2_3 : decode cX1_turn_2 3 = .ok (.iconst 4, 1) := dk_7 (dk_at dksX1_turn_2_0 3 rfl rfl)
theorem dX1_turn_2_4 : decode cX1_turn_2 4 = .ok (.imul, 1) := dk_104 (dk_at dksX1_turn_2_0 4 rfl rfl)
theorem dX1_turn_2_5 : decode cX1_turn_2 5 = .ok (.iload_n 0, 1) := dk_26 (dk_at dksX1_turn_2_0 5 rfl rfl)
theorem dX1_turn_2_6 : decode cX1_turn_2 6 = .ok (.iload_n 1, 1) := dk_27 (dk_at dksX1_turn_2_0 6 rfl rfl)
theorem dX1_turn_2_7 : decode cX1_turn_2 7 = .ok (.ifCond .eq 7, 3) := dk_153 0 7 (dk_at dksX1_turn_2_0 7 rfl rfl)
theorem dX1_turn_2_10 : decode cX1_turn_2 10 = .ok (.iconst 1, 1) := dk_4 (dk_at dksX1_turn_2_0 10 rfl rfl)
theorem dX1_turn_2_11 : decode cX1_turn_2 11 = .ok (.goto 4, 3) := dk_167 0 4 (dk_at dksX1_turn_2_0 11 rfl rfl)
theorem dX1_turn_2_14 : decode cX1_turn_2 14 = .ok (.iconst 3, 1) := dk_6 (dk_at dksX1_turn_2_0 14 rfl rfl)
theorem dX1_turn_2_15 : decode cX1_turn_2 15 = .ok (.iadd, 1) := dk_96 (dk_at dksX1_turn_2_0 15 rfl rfl)
theorem dX1_turn_2_16 : decode cX1_turn_2 16 = .ok (.iconst 4, 1) := dk_7 (dk_at dksX1_turn_2_0 16 rfl rfl)
theorem dX1_turn_2_17 : decode cX1_turn_2 17 = .ok (.irem, 1) := dk_112 (dk_at dksX1_turn_2_0 17 rfl rfl)
theorem dX1_turn_2_18 : decode cX1_turn_2 18 = .ok (.iadd, 1) := dk_96 (dk_at dksX1_turn_2_0 18 rfl rfl)
theorem dX1_turn_2_19 : decode cX1_turn_2 19 = .ok (.ireturn, 1) := dk_172 (dk_at dksX1_turn_2_0 19 rfl rfl)
abbrev cX1_feel : ByteArray := prog_1_method_28_code
def yX1_feel : MethodName := ⟨RX1, "feel", "(IZ)I"⟩
def dkwX1_feel_4 : List UInt8 := [180, 0, 232, 21, 4, 182, 1, 21, 182, 0, 245, 42, 45, 182, 1, 5, 21, 4, 172]
abbrev dktX1_feel_4 : List UInt8 := dkwX1_feel_4 ++ []
def dkwX1_feel_3 : List UInt8 := [4, 160, 0, 7, 4, 167, 0, 4, 3, 182, 0, 236, 132, 5, 1, 167, 255, 206, 45, 45, 180, 0, 201, 45]
abbrev dktX1_feel_3 : List UInt8 := dkwX1_feel_3 ++ dktX1_feel_4
def dkwX1_feel_2 : List UInt8 := [182, 0, 198, 45, 180, 0, 201, 182, 0, 205, 21, 5, 96, 6, 96, 7, 112, 21, 4, 21, 5, 122, 4, 126]
abbrev dktX1_feel_2 : List UInt8 := dkwX1_feel_2 ++ dktX1_feel_3
def dkwX1_feel_1 : List UInt8 := [54, 4, 45, 182, 0, 195, 153, 0, 59, 3, 54, 5, 21, 5, 6, 162, 0, 50, 45, 180, 0, 232, 45]
abbrev dktX1_feel_1 : List UInt8 := dkwX1_feel_1 ++ dktX1_feel_2
def dkwX1_feel_0 : List UInt8 := [42, 27, 182, 0, 210, 78, 42, 45, 28, 182, 0, 214, 42, 45, 182, 0, 224, 45, 182, 0, 226, 182, 1, 18]
abbrev dktX1_feel_0 : List UInt8 := dkwX1_feel_0 ++ dktX1_feel_1
theorem dksX1_feel_0 : cX1_feel.data.toList.drop 0 = dktX1_feel_0 := by decide +kernel
theorem dksX1_feel_1 : cX1_feel.data.toList.drop 24 = dktX1_feel_1 := dk_seg dksX1_feel_0 24 rfl rfl
theorem dksX1_feel_2 : cX1_feel.data.toList.drop 47 = dktX1_feel_2 := dk_seg dksX1_feel_1 23 rfl rfl
theorem dksX1_feel_3 : cX1_feel.data.toList.drop 71 = dktX1_feel_3 := dk_seg dksX1_feel_2 24 rfl rfl
theorem dksX1_feel_4 : cX1_feel.data.toList.drop 95 = dktX1_feel_4 := dk_seg dksX1_feel_3 24 rfl rfl
theorem dX1_feel_0 : decode cX1_feel 0 = .ok (.aload_n 0, 1) := dk_42 (dk_at dksX1_feel_0 0 rfl rfl)
theorem dX1_feel_1 : decode cX1_feel 1 = .ok (.iload_n 1, 1) := dk_27 (dk_at dksX1_feel_0 1 rfl rfl)
theorem dX1_feel_2 : decode cX1_feel 2 = .ok (.invokevirtual 210, 3) := dk_182 0 210 (dk_at dksX1_feel_0 2 rfl rfl)
theorem dX1_feel_5 : decode cX1_feel 5 = .ok (.astore_n 3, 1) := dk_78 (dk_at dksX1_feel_0 5 rfl rfl)
theorem dX1_feel_6 : decode cX1_feel 6 = .ok (.aload_n 0, 1) := dk_42 (dk_at dksX1_feel_0 6 rfl rfl)
theorem dX1_feel_7 : decode cX1_feel 7 = .ok (.aload_n 3, 1) := dk_45 (dk_at dksX1_feel_0 7 rfl rfl)
theorem dX1_feel_8 : decode cX1_feel 8 = .ok (.iload_n 2, 1) := dk_28 (dk_at dksX1_feel_0 8 rfl rfl)
theorem dX1_feel_9 : decode cX1_feel 9 = .ok (.invokevirtual 214, 3) := dk_182 0 214 (dk_at dksX1_feel_0 9 rfl rfl)
theorem dX1_feel_12 : decode cX1_feel 12 = .ok (.aload_n 0, 1) := dk_42 (dk_at dksX1_feel_0 12 rfl rfl)
theorem dX1_feel_13 : decode cX1_feel 13 = .ok (.aload_n 3, 1) := dk_45 (dk_at dksX1_feel_0 13 rfl rfl)
theorem dX1_feel_14 : decode cX1_feel 14 = .ok (.invokevirtual 224, 3) := dk_182 0 224 (dk_at dksX1_feel_0 14 rfl rfl)
theorem dX1_feel_17 : decode cX1_feel 17 = .ok (.aload_n 3, 1) := dk_45 (dk_at dksX1_feel_0 17 rfl rfl)
theorem dX1_feel_18 : decode cX1_feel 18 = .ok (.invokevirtual 226, 3) := dk_182 0 226 (dk_at dksX1_feel_0 18 rfl rfl)
theorem dX1_feel_21 : decode cX1_feel 21 = .ok (.invokevirtual 274, 3) := dk_182 1 18 (dk_at dksX1_feel_0 21 rfl rfl)
theorem dX1_feel_24 : decode cX1_feel 24 = .ok (.istore 4, 2) := dk_54 4 (dk_at dksX1_feel_1 0 rfl rfl)
theorem dX1_feel_26 : decode cX1_feel 26 = .ok (.aload_n 3, 1) := dk_45 (dk_at dksX1_feel_1 2 rfl rfl)
theorem dX1_feel_27 : decode cX1_feel 27 = .ok (.invokevirtual 195, 3) := dk_182 0 195 (dk_at dksX1_feel_1 3 rfl rfl)
theorem dX1_feel_30 : decode cX1_feel 30 = .ok (.ifCond .eq 59, 3) := dk_153 0 59 (dk_at dksX1_feel_1 6 rfl rfl)
theorem dX1_feel_33 : decode cX1_feel 33 = .ok (.iconst 0, 1) := dk_3 (dk_at dksX1_feel_1 9 rfl rfl)
theorem dX1_feel_34 : decode cX1_feel 34 = .ok (.istore 5, 2) := dk_54 5 (dk_at dksX1_feel_1 10 rfl rfl)
theorem dX1_feel_36 : decode cX1_feel 36 = .ok (.iload 5, 2) := dk_21 5 (dk_at dksX1_feel_1 12 rfl rfl)
theorem dX1_feel_38 : decode cX1_feel 38 = .ok (.iconst 3, 1) := dk_6 (dk_at dksX1_feel_1 14 rfl rfl)
theorem dX1_feel_39 : decode cX1_feel 39 = .ok (.if_icmp .ge 50, 3) := dk_162 0 50 (dk_at dksX1_feel_1 15 rfl rfl)
theorem dX1_feel_42 : decode cX1_feel 42 = .ok (.aload_n 3, 1) := dk_45 (dk_at dksX1_feel_1 18 rfl rfl)
theorem dX1_feel_43 : decode cX1_feel 43 = .ok (.getfield 232, 3) := dk_180 0 232 (dk_at dksX1_feel_1 19 rfl rfl)
theorem dX1_feel_46 : decode cX1_feel 46 = .ok (.aload_n 3, 1) := dk_45 (dk_at dksX1_feel_1 22 rfl rfl)
theorem dX1_feel_47 : decode cX1_feel 47 = .ok (.invokevirtual 198, 3) := dk_182 0 198 (dk_at dksX1_feel_2 0 rfl rfl)
theorem dX1_feel_50 : decode cX1_feel 50 = .ok (.aload_n 3, 1) := dk_45 (dk_at dksX1_feel_2 3 rfl rfl)
theorem dX1_feel_51 : decode cX1_feel 51 = .ok (.getfield 201, 3) := dk_180 0 201 (dk_at dksX1_feel_2 4 rfl rfl)
theorem dX1_feel_54 : decode cX1_feel 54 = .ok (.invokevirtual 205, 3) := dk_182 0 205 (dk_at dksX1_feel_2 7 rfl rfl)
theorem dX1_feel_57 : decode cX1_feel 57 = .ok (.iload 5, 2) := dk_21 5 (dk_at dksX1_feel_2 10 rfl rfl)
theorem dX1_feel_59 : decode cX1_feel 59 = .ok (.iadd, 1) := dk_96 (dk_at dksX1_feel_2 12 rfl rfl)
theorem dX1_feel_60 : decode cX1_feel 60 = .ok (.iconst 3, 1) := dk_6 (dk_at dksX1_feel_2 13 rfl rfl)
theorem dX1_feel_61 : decode cX1_feel 61 = .ok (.iadd, 1) := dk_96 (dk_at dksX1_feel_2 14 rfl rfl)
theorem dX1_feel_62 : decode cX1_feel 62 = .ok (.iconst 4, 1) := dk_7 (dk_at dksX1_feel_2 15 rfl rfl)
theorem dX1_feel_63 : decode cX1_feel 63 = .ok (.irem, 1) := dk_112 (dk_at dksX1_feel_2 16 rfl rfl)
theorem dX1_feel_64 : decode cX1_feel 64 = .ok (.iload 4, 2) := dk_21 4 (dk_at dksX1_feel_2 17 rfl rfl)
theorem dX1_feel_66 : decode cX1_feel 66 = .ok (.iload 5, 2) := dk_21 5 (dk_at dksX1_feel_2 19 rfl rfl)
theorem dX1_feel_68 : decode cX1_feel 68 = .ok (.ishr, 1) := dk_122 (dk_at dksX1_feel_2 21 rfl rfl)
theorem dX1_feel_69 : decode cX1_feel 69 = .ok (.iconst 1, 1) := dk_4 (dk_at dksX1_feel_2 22 rfl rfl)
theorem dX1_feel_70 : decode cX1_feel 70 = .ok (.iand, 1) := dk_126 (dk_at dksX1_feel_2 23 rfl rfl)
theorem dX1_feel_71 : decode cX1_feel 71 = .ok (.iconst 1, 1) := dk_4 (dk_at dksX1_feel_3 0 rfl rfl)
theorem dX1_feel_72 : decode cX1_feel 72 = .ok (.if_icmp .ne 7, 3) := dk_160 0 7 (dk_at dksX1_feel_3 1 rfl rfl)
theorem dX1_feel_75 : decode cX1_feel 75 = .ok (.iconst 1, 1) := dk_4 (dk_at dksX1_feel_3 4 rfl rfl)
theorem dX1_feel_76 : decode cX1_feel 76 = .ok (.goto 4, 3) := dk_167 0 4 (dk_at dksX1_feel_3 5 rfl rfl)
theorem dX1_feel_79 : decode cX1_feel 79 = .ok (.iconst 0, 1) := dk_3 (dk_at dksX1_feel_3 8 rfl rfl)
theorem dX1_feel_80 : decode cX1_feel 80 = .ok (.invokevirtual 236, 3) := dk_182 0 236 (dk_at dksX1_feel_3 9 rfl rfl)
theorem dX1_feel_83 : decode cX1_feel 83 = .ok (.iinc 5 1, 3) := dk_132 5 1 (dk_at dksX1_feel_3 12 rfl rfl)
theorem dX1_feel_86 : decode cX1_feel 86 = .ok (.goto (-50), 3) := dk_167 255 206 (dk_at dksX1_feel_3 15 rfl rfl)
theorem dX1_feel_89 : decode cX1_feel 89 = .ok (.aload_n 3, 1) := dk_45 (dk_at dksX1_feel_3 18 rfl rfl)
theorem dX1_feel_90 : decode cX1_feel 90 = .ok (.aload_n 3, 1) := dk_45 (dk_at dksX1_feel_3 19 rfl rfl)
theorem dX1_feel_91 : decode cX1_feel 91 = .ok (.getfield 201, 3) := dk_180 0 201 (dk_at dksX1_feel_3 20 rfl rfl)
theorem dX1_feel_94 : decode cX1_feel 94 = .ok (.aload_n 3, 1) := dk_45 (dk_at dksX1_feel_3 23 rfl rfl)
theorem dX1_feel_95 : decode cX1_feel 95 = .ok (.getfield 232, 3) := dk_180 0 232 (dk_at dksX1_feel_4 0 rfl rfl)
theorem dX1_feel_98 : decode cX1_feel 98 = .ok (.iload 4, 2) := dk_21 4 (dk_at dksX1_feel_4 3 rfl rfl)
theorem dX1_feel_100 : decode cX1_feel 100 = .ok (.invokevirtual 277, 3) := dk_182 1 21 (dk_at dksX1_feel_4 5 rfl rfl)
theorem dX1_feel_103 : decode cX1_feel 103 = .ok (.invokevirtual 245, 3) := dk_182 0 245 (dk_at dksX1_feel_4 8 rfl rfl)
theorem dX1_feel_106 : decode cX1_feel 106 = .ok (.aload_n 0, 1) := dk_42 (dk_at dksX1_feel_4 11 rfl rfl)
theorem dX1_feel_107 : decode cX1_feel 107 = .ok (.aload_n 3, 1) := dk_45 (dk_at dksX1_feel_4 12 rfl rfl)
theorem dX1_feel_108 : decode cX1_feel 108 = .ok (.invokevirtual 261, 3) := dk_182 1 5 (dk_at dksX1_feel_4 13 rfl rfl)
theorem dX1_feel_111 : decode cX1_feel 111 = .ok (.iload 4, 2) := dk_21 4 (dk_at dksX1_feel_4 16 rfl rfl)
theorem dX1_feel_113 : decode cX1_feel 113 = .ok (.ireturn, 1) := dk_172 (dk_at dksX1_feel_4 18 rfl rfl)
abbrev cX1_felt : ByteArray := prog_1_method_27_code
def yX1_felt : MethodName := ⟨RX1, "felt", "(II)I"⟩
def dkwX1_felt_1 : List UInt8 := [153, 0, 10, 29, 4, 21, 4, 120, 128, 62, 132, 4, 1, 167, 255, 224, 29, 172]
abbrev dktX1_felt_1 : List UInt8 := dkwX1_felt_1 ++ []
def dkwX1_felt_0 : List UInt8 := [3, 62, 3, 54, 4, 21, 4, 6, 162, 0, 32, 42, 27, 28, 21, 4, 96, 6, 96, 7, 112, 182, 0, 229]
abbrev dktX1_felt_0 : List UInt8 := dkwX1_felt_0 ++ dktX1_felt_1
theorem dksX1_felt_0 : cX1_felt.data.toList.drop 0 = dktX1_felt_0 := by decide +kernel
theorem dksX1_felt_1 : cX1_felt.data.toList.drop 24 = dktX1_felt_1 := dk_seg dksX1_felt_0 24 rfl rfl
theorem dX1_felt_0 : decode cX1_felt 0 = .ok (.iconst 0, 1) := dk_3 (dk_at dksX1_felt_0 0 rfl rfl)
theorem dX1_felt_1 : decode cX1_felt 1 = .ok (.istore_n 3, 1) := dk_62 (dk_at dksX1_felt_0 1 rfl rfl)
theorem dX1_felt_2 : decode cX1_felt 2 = .ok (.iconst 0, 1) := dk_3 (dk_at dksX1_felt_0 2 rfl rfl)
theorem dX1_felt_3 : decode cX1_felt 3 = .ok (.istore 4, 2) := dk_54 4 (dk_at dksX1_felt_0 3 rfl rfl)
theorem dX1_felt_5 : decode cX1_felt 5 = .ok (.iload 4, 2) := dk_21 4 (dk_at dksX1_felt_0 5 rfl rfl)
theorem dX1_felt_7 : decode cX1_felt 7 = .ok (.iconst 3, 1) := dk_6 (dk_at dksX1_felt_0 7 rfl rfl)
theorem dX1_felt_8 : decode cX1_felt 8 = .ok (.if_icmp .ge 32, 3) := dk_162 0 32 (dk_at dksX1_felt_0 8 rfl rfl)
theorem dX1_felt_11 : decode cX1_felt 11 = .ok (.aload_n 0, 1) := dk_42 (dk_at dksX1_felt_0 11 rfl rfl)
theorem dX1_felt_12 : decode cX1_felt 12 = .ok (.iload_n 1, 1) := dk_27 (dk_at dksX1_felt_0 12 rfl rfl)
theorem dX1_felt_13 : decode cX1_felt 13 = .ok (.iload_n 2, 1) := dk_28 (dk_at dksX1_felt_0 13 rfl rfl)
theorem dX1_felt_14 : decode cX1_felt 14 = .ok (.iload 4, 2) := dk_21 4 (dk_at dksX1_felt_0 14 rfl rfl)
theorem dX1_felt_16 : decode cX1_felt 16 = .ok (.iadd, 1) := dk_96 (dk_at dksX1_felt_0 16 rfl rfl)
theorem dX1_felt_17 : decode cX1_felt 17 = .ok (.iconst 3, 1) := dk_6 (dk_at dksX1_felt_0 17 rfl rfl)
theorem dX1_felt_18 : decode cX1_felt 18 = .ok (.iadd, 1) := dk_96 (dk_at dksX1_felt_0 18 rfl rfl)
theorem dX1_felt_19 : decode cX1_felt 19 = .ok (.iconst 4, 1) := dk_7 (dk_at dksX1_felt_0 19 rfl rfl)
theorem dX1_felt_20 : decode cX1_felt 20 = .ok (.irem, 1) := dk_112 (dk_at dksX1_felt_0 20 rfl rfl)
theorem dX1_felt_21 : decode cX1_felt 21 = .ok (.invokevirtual 229, 3) := dk_182 0 229 (dk_at dksX1_felt_0 21 rfl rfl)
theorem dX1_felt_24 : decode cX1_felt 24 = .ok (.ifCond .eq 10, 3) := dk_153 0 10 (dk_at dksX1_felt_1 0 rfl rfl)
theorem dX1_felt_27 : decode cX1_felt 27 = .ok (.iload_n 3, 1) := dk_29 (dk_at dksX1_felt_1 3 rfl rfl)
theorem dX1_felt_28 : decode cX1_felt 28 = .ok (.iconst 1, 1) := dk_4 (dk_at dksX1_felt_1 4 rfl rfl)
theorem dX1_felt_29 : decode cX1_felt 29 = .ok (.iload 4, 2) := dk_21 4 (dk_at dksX1_felt_1 5 rfl rfl)
theorem dX1_felt_31 : decode cX1_felt 31 = .ok (.ishl, 1) := dk_120 (dk_at dksX1_felt_1 7 rfl rfl)
theorem dX1_felt_32 : decode cX1_felt 32 = .ok (.ior, 1) := dk_128 (dk_at dksX1_felt_1 8 rfl rfl)
theorem dX1_felt_33 : decode cX1_felt 33 = .ok (.istore_n 3, 1) := dk_62 (dk_at dksX1_felt_1 9 rfl rfl)
theorem dX1_felt_34 : decode cX1_felt 34 = .ok (.iinc 4 1, 3) := dk_132 4 1 (dk_at dksX1_felt_1 10 rfl rfl)
theorem dX1_felt_37 : decode cX1_felt 37 = .ok (.goto (-32), 3) := dk_167 255 224 (dk_at dksX1_felt_1 13 rfl rfl)
theorem dX1_felt_40 : decode cX1_felt 40 = .ok (.iload_n 3, 1) := dk_29 (dk_at dksX1_felt_1 16 rfl rfl)
theorem dX1_felt_41 : decode cX1_felt 41 = .ok (.ireturn, 1) := dk_172 (dk_at dksX1_felt_1 17 rfl rfl)
abbrev cX1_listen : ByteArray := prog_1_method_30_code
def yX1_listen : MethodName := ⟨RX1, "listen", "(IZ)I"⟩
def dkwX1_listen_3 : List UInt8 := [167, 0, 4, 3, 184, 0, 3, 96, 54, 4, 167, 255, 199, 42, 45, 182, 1, 5, 21, 4, 172]
abbrev dktX1_listen_3 : List UInt8 := dkwX1_listen_3 ++ []
def dkwX1_listen_2 : List UInt8 := [25, 6, 45, 165, 0, 23, 25, 6, 182, 0, 224, 45, 182, 0, 224, 184, 1, 39, 5, 163, 0, 7, 4]
abbrev dktX1_listen_2 : List UInt8 := dkwX1_listen_2 ++ dktX1_listen_3
def dkwX1_listen_1 : List UInt8 := [25, 5, 185, 1, 31, 1, 0, 153, 0, 53, 25, 5, 185, 1, 36, 1, 0, 192, 0, 90, 58, 6, 21, 4]
abbrev dktX1_listen_1 : List UInt8 := dkwX1_listen_1 ++ dktX1_listen_2
def dkwX1_listen_0 : List UInt8 := [42, 27, 182, 0, 210, 78, 42, 45, 28, 182, 0, 214, 3, 54, 4, 42, 180, 0, 42, 182, 1, 27, 58, 5]
abbrev dktX1_listen_0 : List UInt8 := dkwX1_listen_0 ++ dktX1_listen_1
theorem dksX1_listen_0 : cX1_listen.data.toList.drop 0 = dktX1_listen_0 := by decide +kernel
theorem dksX1_listen_1 : cX1_listen.data.toList.drop 24 = dktX1_listen_1 := dk_seg dksX1_listen_0 24 rfl rfl
theorem dksX1_listen_2 : cX1_listen.data.toList.drop 48 = dktX1_listen_2 := dk_seg dksX1_listen_1 24 rfl rfl
theorem dksX1_listen_3 : cX1_listen.data.toList.drop 71 = dktX1_listen_3 := dk_seg dksX1_listen_2 23 rfl rfl
theorem dX1_listen_0 : decode cX1_listen 0 = .ok (.aload_n 0, 1) := dk_42 (dk_at dksX1_listen_0 0 rfl rfl)
theorem dX1_listen_1 : decode cX1_listen 1 = .ok (.iload_n 1, 1) := dk_27 (dk_at dksX1_listen_0 1 rfl rfl)
theorem dX1_listen_2 : decode cX1_listen 2 = .ok (.invokevirtual 210, 3) := dk_182 0 210 (dk_at dksX1_listen_0 2 rfl rfl)
theorem dX1_listen_5 : decode cX1_listen 5 = .ok (.astore_n 3, 1) := dk_78 (dk_at dksX1_listen_0 5 rfl rfl)
theorem dX1_listen_6 : decode cX1_listen 6 = .ok (.aload_n 0, 1) := dk_42 (dk_at dksX1_listen_0 6 rfl rfl)
theorem dX1_listen_7 : decode cX1_listen 7 = .ok (.aload_n 3, 1) := dk_45 (dk_at dksX1_listen_0 7 rfl rfl)
theorem dX1_listen_8 : decode cX1_listen 8 = .ok (.iload_n 2, 1) := dk_28 (dk_at dksX1_listen_0 8 rfl rfl)
theorem dX1_listen_9 : decode cX1_listen 9 = .ok (.invokevirtual 214, 3) := dk_182 0 214 (dk_at dksX1_listen_0 9 rfl rfl)
theorem dX1_listen_12 : decode cX1_listen 12 = .ok (.iconst 0, 1) := dk_3 (dk_at dksX1_listen_0 12 rfl rfl)
theorem dX1_listen_13 : decode cX1_listen 13 = .ok (.istore 4, 2) := dk_54 4 (dk_at dksX1_listen_0 13 rfl rfl)
theorem dX1_listen_15 : decode cX1_listen 15 = .ok (.aload_n 0, 1) := dk_42 (dk_at dksX1_listen_0 15 rfl rfl)
theorem dX1_listen_16 : decode cX1_listen 16 = .ok (.getfield 42, 3) := dk_180 0 42 (dk_at dksX1_listen_0 16 rfl rfl)
theorem dX1_listen_19 : decode cX1_listen 19 = .ok (.invokevirtual 283, 3) := dk_182 1 27 (dk_at dksX1_listen_0 19 rfl rfl)
theorem dX1_listen_22 : decode cX1_listen 22 = .ok (.astore 5, 2) := dk_58 5 (dk_at dksX1_listen_0 22 rfl rfl)
theorem dX1_listen_24 : decode cX1_listen 24 = .ok (.aload 5, 2) := dk_25 5 (dk_at dksX1_listen_1 0 rfl rfl)
theorem dX1_listen_26 : decode cX1_listen 26 = .ok (.invokeinterface 287 1, 5) := by decide +kernel
theorem dX1_listen_31 : decode cX1_listen 31 = .ok (.ifCond .eq 53, 3) := dk_153 0 53 (dk_at dksX1_listen_1 7 rfl rfl)
theorem dX1_listen_34 : decode cX1_listen 34 = .ok (.aload 5, 2) := dk_25 5 (dk_at dksX1_listen_1 10 rfl rfl)
theorem dX1_listen_36 : decode cX1_listen 36 = .ok (.invokeinterface 292 1, 5) := by decide +kernel
theorem dX1_listen_41 : decode cX1_listen 41 = .ok (.checkcast 90, 3) := dk_192 0 90 (dk_at dksX1_listen_1 17 rfl rfl)
theorem dX1_listen_44 : decode cX1_listen 44 = .ok (.astore 6, 2) := dk_58 6 (dk_at dksX1_listen_1 20 rfl rfl)
theorem dX1_listen_46 : decode cX1_listen 46 = .ok (.iload 4, 2) := dk_21 4 (dk_at dksX1_listen_1 22 rfl rfl)
theorem dX1_listen_48 : decode cX1_listen 48 = .ok (.aload 6, 2) := dk_25 6 (dk_at dksX1_listen_2 0 rfl rfl)
theorem dX1_listen_50 : decode cX1_listen 50 = .ok (.aload_n 3, 1) := dk_45 (dk_at dksX1_listen_2 2 rfl rfl)
theorem dX1_listen_51 : decode cX1_listen 51 = .ok (.if_acmp .eq 23, 3) := dk_165 0 23 (dk_at dksX1_listen_2 3 rfl rfl)
theorem dX1_listen_54 : decode cX1_listen 54 = .ok (.aload 6, 2) := dk_25 6 (dk_at dksX1_listen_2 6 rfl rfl)
theorem dX1_listen_56 : decode cX1_listen 56 = .ok (.invokevirtual 224, 3) := dk_182 0 224 (dk_at dksX1_listen_2 8 rfl rfl)
theorem dX1_listen_59 : decode cX1_listen 59 = .ok (.aload_n 3, 1) := dk_45 (dk_at dksX1_listen_2 11 rfl rfl)
theorem dX1_listen_60 : decode cX1_listen 60 = .ok (.invokevirtual 224, 3) := dk_182 0 224 (dk_at dksX1_listen_2 12 rfl rfl)
theorem dX1_listen_63 : decode cX1_listen 63 = .ok (.invokestatic 295, 3) := dk_184 1 39 (dk_at dksX1_listen_2 15 rfl rfl)
theorem dX1_listen_66 : decode cX1_listen 66 = .ok (.iconst 2, 1) := dk_5 (dk_at dksX1_listen_2 18 rfl rfl)
theorem dX1_listen_67 : decode cX1_listen 67 = .ok (.if_icmp .gt 7, 3) := dk_163 0 7 (dk_at dksX1_listen_2 19 rfl rfl)
theorem dX1_listen_70 : decode cX1_listen 70 = .ok (.iconst 1, 1) := dk_4 (dk_at dksX1_listen_2 22 rfl rfl)
theorem dX1_listen_71 : decode cX1_listen 71 = .ok (.goto 4, 3) := dk_167 0 4 (dk_at dksX1_listen_3 0 rfl rfl)
theorem dX1_listen_74 : decode cX1_listen 74 = .ok (.iconst 0, 1) := dk_3 (dk_at dksX1_listen_3 3 rfl rfl)
theorem dX1_listen_75 : decode cX1_listen 75 = .ok (.invokestatic 3, 3) := dk_184 0 3 (dk_at dksX1_listen_3 4 rfl rfl)
theorem dX1_listen_78 : decode cX1_listen 78 = .ok (.iadd, 1) := dk_96 (dk_at dksX1_listen_3 7 rfl rfl)
theorem dX1_listen_79 : decode cX1_listen 79 = .ok (.istore 4, 2) := dk_54 4 (dk_at dksX1_listen_3 8 rfl rfl)
theorem dX1_listen_81 : decode cX1_listen 81 = .ok (.goto (-57), 3) := dk_167 255 199 (dk_at dksX1_listen_3 10 rfl rfl)
theorem dX1_listen_84 : decode cX1_listen 84 = .ok (.aload_n 0, 1) := dk_42 (dk_at dksX1_listen_3 13 rfl rfl)
theorem dX1_listen_85 : decode cX1_listen 85 = .ok (.aload_n 3, 1) := dk_45 (dk_at dksX1_listen_3 14 rfl rfl)
theorem dX1_listen_86 : decode cX1_listen 86 = .ok (.invokevirtual 261, 3) := dk_182 1 5 (dk_at dksX1_listen_3 15 rfl rfl)
theorem dX1_listen_89 : decode cX1_listen 89 = .ok (.iload 4, 2) := dk_21 4 (dk_at dksX1_listen_3 18 rfl rfl)
theorem dX1_listen_91 : decode cX1_listen 91 = .ok (.ireturn, 1) := dk_172 (dk_at dksX1_listen_3 20 rfl rfl)
abbrev cX1_apart : ByteArray := prog_1_method_29_code
def yX1_apart : MethodName := ⟨RX1, "apart", "(II)I"⟩
def dkwX1_apart_1 : List UInt8 := [96, 172]
abbrev dktX1_apart_1 : List UInt8 := dkwX1_apart_1 ++ []
def dkwX1_apart_0 : List UInt8 := [26, 16, 6, 108, 27, 16, 6, 108, 100, 184, 1, 24, 26, 16, 6, 112, 27, 16, 6, 112, 100, 184, 1, 24]
abbrev dktX1_apart_0 : List UInt8 := dkwX1_apart_0 ++ dktX1_apart_1
theorem dksX1_apart_0 : cX1_apart.data.toList.drop 0 = dktX1_apart_0 := by decide +kernel
theorem dksX1_apart_1 : cX1_apart.data.toList.drop 24 = dktX1_apart_1 := dk_seg dksX1_apart_0 24 rfl rfl
theorem dX1_apart_0 : decode cX1_apart 0 = .ok (.iload_n 0, 1) := dk_26 (dk_at dksX1_apart_0 0 rfl rfl)
theorem dX1_apart_1 : decode cX1_apart 1 = .ok (.bipush 6, 2) := dk_16 6 (dk_at dksX1_apart_0 1 rfl rfl)
theorem dX1_apart_3 : decode cX1_apart 3 = .ok (.idiv, 1) := dk_108 (dk_at dksX1_apart_0 3 rfl rfl)
theorem dX1_apart_4 : decode cX1_apart 4 = .ok (.iload_n 1, 1) := dk_27 (dk_at dksX1_apart_0 4 rfl rfl)
theorem dX1_apart_5 : decode cX1_apart 5 = .ok (.bipush 6, 2) := dk_16 6 (dk_at dksX1_apart_0 5 rfl rfl)
theorem dX1_apart_7 : decode cX1_apart 7 = .ok (.idiv, 1) := dk_108 (dk_at dksX1_apart_0 7 rfl rfl)
theorem dX1_apart_8 : decode cX1_apart 8 = .ok (.isub, 1) := dk_100 (dk_at dksX1_apart_0 8 rfl rfl)
theorem dX1_apart_9 : decode cX1_apart 9 = .ok (.invokestatic 280, 3) := dk_184 1 24 (dk_at dksX1_apart_0 9 rfl rfl)
theorem dX1_apart_12 : decode cX1_apart 12 = .ok (.iload_n 0, 1) := dk_26 (dk_at dksX1_apart_0 12 rfl rfl)
theorem dX1_apart_13 : decode cX1_apart 13 = .ok (.bipush 6, 2) := dk_16 6 (dk_at dksX1_apart_0 13 rfl rfl)
theorem dX1_apart_15 : decode cX1_apart 15 = .ok (.irem, 1) := dk_112 (dk_at dksX1_apart_0 15 rfl rfl)
theorem dX1_apart_16 : decode cX1_apart 16 = .ok (.iload_n 1, 1) := dk_27 (dk_at dksX1_apart_0 16 rfl rfl)
theorem dX1_apart_17 : decode cX1_apart 17 = .ok (.bipush 6, 2) := dk_16 6 (dk_at dksX1_apart_0 17 rfl rfl)
theorem dX1_apart_19 : decode cX1_apart 19 = .ok (.irem, 1) := dk_112 (dk_at dksX1_apart_0 19 rfl rfl)
theorem dX1_apart_20 : decode cX1_apart 20 = .ok (.isub, 1) := dk_100 (dk_at dksX1_apart_0 20 rfl rfl)
theorem dX1_apart_21 : decode cX1_apart 21 = .ok (.invokestatic 280, 3) := dk_184 1 24 (dk_at dksX1_apart_0 21 rfl rfl)
theorem dX1_apart_24 : decode cX1_apart 24 = .ok (.iadd, 1) := dk_96 (dk_at dksX1_apart_1 0 rfl rfl)
theorem dX1_apart_25 : decode cX1_apart 25 = .ok (.ireturn, 1) := dk_172 (dk_at dksX1_apart_1 1 rfl rfl)
abbrev cX1_charge : ByteArray := prog_1_method_31_code
def yX1_charge : MethodName := ⟨RX1, "charge", "(II)I"⟩
def dkwX1_charge_2 : List UInt8 := [45, 28, 181, 0, 184, 21, 4, 172]
abbrev dktX1_charge_2 : List UInt8 := dkwX1_charge_2 ++ []
def dkwX1_charge_1 : List UInt8 := [45, 180, 1, 43, 160, 0, 7, 4, 167, 0, 4, 3, 19, 1, 46, 184, 0, 174, 45, 180, 0, 184, 54, 4]
abbrev dktX1_charge_1 : List UInt8 := dkwX1_charge_1 ++ dktX1_charge_2
def dkwX1_charge_0 : List UInt8 := [42, 27, 182, 0, 210, 78, 28, 4, 17, 1, 244, 184, 0, 7, 19, 1, 42, 184, 0, 139, 45, 182, 0, 224]
abbrev dktX1_charge_0 : List UInt8 := dkwX1_charge_0 ++ dktX1_charge_1
theorem dksX1_charge_0 : cX1_charge.data.toList.drop 0 = dktX1_charge_0 := by decide +kernel
theorem dksX1_charge_1 : cX1_charge.data.toList.drop 24 = dktX1_charge_1 := dk_seg dksX1_charge_0 24 rfl rfl
theorem dksX1_charge_2 : cX1_charge.data.toList.drop 48 = dktX1_charge_2 := dk_seg dksX1_charge_1 24 rfl rfl
theorem dX1_charge_0 : decode cX1_charge 0 = .ok (.aload_n 0, 1) := dk_42 (dk_at dksX1_charge_0 0 rfl rfl)
theorem dX1_charge_1 : decode cX1_charge 1 = .ok (.iload_n 1, 1) := dk_27 (dk_at dksX1_charge_0 1 rfl rfl)
theorem dX1_charge_2 : decode cX1_charge 2 = .ok (.invokevirtual 210, 3) := dk_182 0 210 (dk_at dksX1_charge_0 2 rfl rfl)
theorem dX1_charge_5 : decode cX1_charge 5 = .ok (.astore_n 3, 1) := dk_78 (dk_at dksX1_charge_0 5 rfl rfl)
theorem dX1_charge_6 : decode cX1_charge 6 = .ok (.iload_n 2, 1) := dk_28 (dk_at dksX1_charge_0 6 rfl rfl)
theorem dX1_charge_7 : decode cX1_charge 7 = .ok (.iconst 1, 1) := dk_4 (dk_at dksX1_charge_0 7 rfl rfl)
theorem dX1_charge_8 : decode cX1_charge 8 = .ok (.sipush 500, 3) := dk_17 1 244 (dk_at dksX1_charge_0 8 rfl rfl)
theorem dX1_charge_11 : decode cX1_charge 11 = .ok (.invokestatic 7, 3) := dk_184 0 7 (dk_at dksX1_charge_0 11 rfl rfl)
theorem dX1_charge_14 : decode cX1_charge 14 = .ok (.ldc_w 298, 3) := dk_19 1 42 (dk_at dksX1_charge_0 14 rfl rfl)
theorem dX1_charge_17 : decode cX1_charge 17 = .ok (.invokestatic 139, 3) := dk_184 0 139 (dk_at dksX1_charge_0 17 rfl rfl)
theorem dX1_charge_20 : decode cX1_charge 20 = .ok (.aload_n 3, 1) := dk_45 (dk_at dksX1_charge_0 20 rfl rfl)
theorem dX1_charge_21 : decode cX1_charge 21 = .ok (.invokevirtual 224, 3) := dk_182 0 224 (dk_at dksX1_charge_0 21 rfl rfl)
theorem dX1_charge_24 : decode cX1_charge 24 = .ok (.aload_n 3, 1) := dk_45 (dk_at dksX1_charge_1 0 rfl rfl)
theorem dX1_charge_25 : decode cX1_charge 25 = .ok (.getfield 299, 3) := dk_180 1 43 (dk_at dksX1_charge_1 1 rfl rfl)
theorem dX1_charge_28 : decode cX1_charge 28 = .ok (.if_icmp .ne 7, 3) := dk_160 0 7 (dk_at dksX1_charge_1 4 rfl rfl)
theorem dX1_charge_31 : decode cX1_charge 31 = .ok (.iconst 1, 1) := dk_4 (dk_at dksX1_charge_1 7 rfl rfl)
theorem dX1_charge_32 : decode cX1_charge 32 = .ok (.goto 4, 3) := dk_167 0 4 (dk_at dksX1_charge_1 8 rfl rfl)
theorem dX1_charge_35 : decode cX1_charge 35 = .ok (.iconst 0, 1) := dk_3 (dk_at dksX1_charge_1 11 rfl rfl)
theorem dX1_charge_36 : decode cX1_charge 36 = .ok (.ldc_w 302, 3) := dk_19 1 46 (dk_at dksX1_charge_1 12 rfl rfl)
theorem dX1_charge_39 : decode cX1_charge 39 = .ok (.invokestatic 174, 3) := dk_184 0 174 (dk_at dksX1_charge_1 15 rfl rfl)
theorem dX1_charge_42 : decode cX1_charge 42 = .ok (.aload_n 3, 1) := dk_45 (dk_at dksX1_charge_1 18 rfl rfl)
theorem dX1_charge_43 : decode cX1_charge 43 = .ok (.getfield 184, 3) := dk_180 0 184 (dk_at dksX1_charge_1 19 rfl rfl)
theorem dX1_charge_46 : decode cX1_charge 46 = .ok (.istore 4, 2) := dk_54 4 (dk_at dksX1_charge_1 22 rfl rfl)
theorem dX1_charge_48 : decode cX1_charge 48 = .ok (.aload_n 3, 1) := dk_45 (dk_at dksX1_charge_2 0 rfl rfl)
theorem dX1_charge_49 : decode cX1_charge 49 = .ok (.iload_n 2, 1) := dk_28 (dk_at dksX1_charge_2 1 rfl rfl)
theorem dX1_charge_50 : decode cX1_charge 50 = .ok (.putfield 184, 3) := dk_181 0 184 (dk_at dksX1_charge_2 2 rfl rfl)
theorem dX1_charge_53 : decode cX1_charge 53 = .ok (.iload 4, 2) := dk_21 4 (dk_at dksX1_charge_2 5 rfl rfl)
theorem dX1_charge_55 : decode cX1_charge 55 = .ok (.ireturn, 1) := dk_172 (dk_at dksX1_charge_2 7 rfl rfl)
abbrev cX1_tellPose : ByteArray := prog_1_method_32_code
def yX1_tellPose : MethodName := ⟨RX1, "tellPose", "(I)I"⟩
def dkwX1_tellPose_1 : List UInt8 := [181, 0, 201, 29, 172]
abbrev dktX1_tellPose_1 : List UInt8 := dkwX1_tellPose_1 ++ []
def dkwX1_tellPose_0 : List UInt8 := [42, 27, 182, 0, 210, 77, 44, 180, 0, 201, 182, 1, 17, 62, 44, 44, 180, 1, 2, 184, 1, 48]
abbrev dktX1_tellPose_0 : List UInt8 := dkwX1_tellPose_0 ++ dktX1_tellPose_1
theorem dksX1_tellPose_0 : cX1_tellPose.data.toList.drop 0 = dktX1_tellPose_0 := by decide +kernel
theorem dksX1_tellPose_1 : cX1_tellPose.data.toList.drop 22 = dktX1_tellPose_1 := dk_seg dksX1_tellPose_0 22 rfl rfl
theorem dX1_tellPose_0 : decode cX1_tellPose 0 = .ok (.aload_n 0, 1) := dk_42 (dk_at dksX1_tellPose_0 0 rfl rfl)
theorem dX1_tellPose_1 : decode cX1_tellPose 1 = .ok (.iload_n 1, 1) := dk_27 (dk_at dksX1_tellPose_0 1 rfl rfl)
theorem dX1_tellPose_2 : decode cX1_tellPose 2 = .ok (.invokevirtual 210, 3) := dk_182 0 210 (dk_at dksX1_tellPose_0 2 rfl rfl)
theorem dX1_tellPose_5 : decode cX1_tellPose 5 = .ok (.astore_n 2, 1) := dk_77 (dk_at dksX1_tellPose_0 5 rfl rfl)
theorem dX1_tellPose_6 : decode cX1_tellPose 6 = .ok (.aload_n 2, 1) := dk_44 (dk_at dksX1_tellPose_0 6 rfl rfl)
theorem dX1_tellPose_7 : decode cX1_tellPose 7 = .ok (.getfield 201, 3) := dk_180 0 201 (dk_at dksX1_tellPose_0 7 rfl rfl)
theorem dX1_tellPose_10 : decode cX1_tellPose 10 = .ok (.invokevirtual 273, 3) := dk_182 1 17 (dk_at dksX1_tellPose_0 10 rfl rfl)
theorem dX1_tellPose_13 : decode cX1_tellPose 13 = .ok (.istore_n 3, 1) := dk_62 (dk_at dksX1_tellPose_0 13 rfl rfl)
theorem dX1_tellPose_14 : decode cX1_tellPose 14 = .ok (.aload_n 2, 1) := dk_44 (dk_at dksX1_tellPose_0 14 rfl rfl)
theorem dX1_tellPose_15 : decode cX1_tellPose 15 = .ok (.aload_n 2, 1) := dk_44 (dk_at dksX1_tellPose_0 15 rfl rfl)
theorem dX1_tellPose_16 : decode cX1_tellPose 16 = .ok (.getfield 258, 3) := dk_180 1 2 (dk_at dksX1_tellPose_0 16 rfl rfl)
theorem dX1_tellPose_19 : decode cX1_tellPose 19 = .ok (.invokestatic 304, 3) := dk_184 1 48 (dk_at dksX1_tellPose_0 19 rfl rfl)
theorem dX1_tellPose_22 : decode cX1_tellPose 22 = .ok (.putfield 201, 3) := dk_181 0 201 (dk_at dksX1_tellPose_1 0 rfl rfl)
theorem dX1_tellPose_25 : decode cX1_tellPose 25 = .ok (.iload_n 3, 1) := dk_29 (dk_at dksX1_tellPose_1 3 rfl rfl)
theorem dX1_tellPose_26 : decode cX1_tellPose 26 = .ok (.ireturn, 1) := dk_172 (dk_at dksX1_tellPose_1 4 rfl rfl)
abbrev cX1_meet : ByteArray := prog_1_method_33_code
def yX1_meet : MethodName := ⟨RX1, "meet", "(II)I"⟩
def dkwX1_meet_5 : List UInt8 := [25, 4, 180, 0, 232, 45, 180, 0, 232, 182, 1, 63, 96, 172]
abbrev dktX1_meet_5 : List UInt8 := dkwX1_meet_5 ++ []
def dkwX1_meet_4 : List UInt8 := [182, 1, 60, 96, 181, 1, 57, 45, 180, 0, 232, 25, 4, 180, 0, 232, 182, 1, 63, 54, 5, 21, 5]
abbrev dktX1_meet_4 : List UInt8 := dkwX1_meet_4 ++ dktX1_meet_5
def dkwX1_meet_3 : List UInt8 := [180, 1, 54, 4, 96, 181, 1, 54, 42, 89, 180, 1, 57, 45, 180, 0, 232, 25, 4, 180, 0, 232]
abbrev dktX1_meet_3 : List UInt8 := dkwX1_meet_3 ++ dktX1_meet_4
def dkwX1_meet_2 : List UInt8 := [182, 0, 224, 25, 4, 182, 0, 224, 160, 0, 7, 4, 167, 0, 4, 3, 19, 1, 52, 184, 0, 174, 42, 89]
abbrev dktX1_meet_2 : List UInt8 := dkwX1_meet_2 ++ dktX1_meet_3
def dkwX1_meet_1 : List UInt8 := [19, 1, 51, 184, 0, 139, 45, 182, 0, 195, 153, 0, 27, 25, 4, 182, 0, 195, 153, 0, 19, 45]
abbrev dktX1_meet_1 : List UInt8 := dkwX1_meet_1 ++ dktX1_meet_2
def dkwX1_meet_0 : List UInt8 := [42, 27, 182, 0, 210, 78, 42, 28, 182, 0, 210, 58, 4, 27, 28, 159, 0, 7, 4, 167, 0, 4, 3]
abbrev dktX1_meet_0 : List UInt8 := dkwX1_meet_0 ++ dktX1_meet_1
theorem dksX1_meet_0 : cX1_meet.data.toList.drop 0 = dktX1_meet_0 := by decide +kernel
theorem dksX1_meet_1 : cX1_meet.data.toList.drop 23 = dktX1_meet_1 := dk_seg dksX1_meet_0 23 rfl rfl
theorem dksX1_meet_2 : cX1_meet.data.toList.drop 45 = dktX1_meet_2 := dk_seg dksX1_meet_1 22 rfl rfl
theorem dksX1_meet_3 : cX1_meet.data.toList.drop 69 = dktX1_meet_3 := dk_seg dksX1_meet_2 24 rfl rfl
theorem dksX1_meet_4 : cX1_meet.data.toList.drop 91 = dktX1_meet_4 := dk_seg dksX1_meet_3 22 rfl rfl
theorem dksX1_meet_5 : cX1_meet.data.toList.drop 114 = dktX1_meet_5 := dk_seg dksX1_meet_4 23 rfl rfl
theorem dX1_meet_0 : decode cX1_meet 0 = .ok (.aload_n 0, 1) := dk_42 (dk_at dksX1_meet_0 0 rfl rfl)
theorem dX1_meet_1 : decode cX1_meet 1 = .ok (.iload_n 1, 1) := dk_27 (dk_at dksX1_meet_0 1 rfl rfl)
theorem dX1_meet_2 : decode cX1_meet 2 = .ok (.invokevirtual 210, 3) := dk_182 0 210 (dk_at dksX1_meet_0 2 rfl rfl)
theorem dX1_meet_5 : decode cX1_meet 5 = .ok (.astore_n 3, 1) := dk_78 (dk_at dksX1_meet_0 5 rfl rfl)
theorem dX1_meet_6 : decode cX1_meet 6 = .ok (.aload_n 0, 1) := dk_42 (dk_at dksX1_meet_0 6 rfl rfl)
theorem dX1_meet_7 : decode cX1_meet 7 = .ok (.iload_n 2, 1) := dk_28 (dk_at dksX1_meet_0 7 rfl rfl)
theorem dX1_meet_8 : decode cX1_meet 8 = .ok (.invokevirtual 210, 3) := dk_182 0 210 (dk_at dksX1_meet_0 8 rfl rfl)
theorem dX1_meet_11 : decode cX1_meet 11 = .ok (.astore 4, 2) := dk_58 4 (dk_at dksX1_meet_0 11 rfl rfl)
theorem dX1_meet_13 : decode cX1_meet 13 = .ok (.iload_n 1, 1) := dk_27 (dk_at dksX1_meet_0 13 rfl rfl)
theorem dX1_meet_14 : decode cX1_meet 14 = .ok (.iload_n 2, 1) := dk_28 (dk_at dksX1_meet_0 14 rfl rfl)
theorem dX1_meet_15 : decode cX1_meet 15 = .ok (.if_icmp .eq 7, 3) := dk_159 0 7 (dk_at dksX1_meet_0 15 rfl rfl)
theorem dX1_meet_18 : decode cX1_meet 18 = .ok (.iconst 1, 1) := dk_4 (dk_at dksX1_meet_0 18 rfl rfl)
theorem dX1_meet_19 : decode cX1_meet 19 = .ok (.goto 4, 3) := dk_167 0 4 (dk_at dksX1_meet_0 19 rfl rfl)
theorem dX1_meet_22 : decode cX1_meet 22 = .ok (.iconst 0, 1) := dk_3 (dk_at dksX1_meet_0 22 rfl rfl)
theorem dX1_meet_23 : decode cX1_meet 23 = .ok (.ldc_w 307, 3) := dk_19 1 51 (dk_at dksX1_meet_1 0 rfl rfl)
theorem dX1_meet_26 : decode cX1_meet 26 = .ok (.invokestatic 139, 3) := dk_184 0 139 (dk_at dksX1_meet_1 3 rfl rfl)
theorem dX1_meet_29 : decode cX1_meet 29 = .ok (.aload_n 3, 1) := dk_45 (dk_at dksX1_meet_1 6 rfl rfl)
theorem dX1_meet_30 : decode cX1_meet 30 = .ok (.invokevirtual 195, 3) := dk_182 0 195 (dk_at dksX1_meet_1 7 rfl rfl)
theorem dX1_meet_33 : decode cX1_meet 33 = .ok (.ifCond .eq 27, 3) := dk_153 0 27 (dk_at dksX1_meet_1 10 rfl rfl)
theorem dX1_meet_36 : decode cX1_meet 36 = .ok (.aload 4, 2) := dk_25 4 (dk_at dksX1_meet_1 13 rfl rfl)
theorem dX1_meet_38 : decode cX1_meet 38 = .ok (.invokevirtual 195, 3) := dk_182 0 195 (dk_at dksX1_meet_1 15 rfl rfl)
theorem dX1_meet_41 : decode cX1_meet 41 = .ok (.ifCond .eq 19, 3) := dk_153 0 19 (dk_at dksX1_meet_1 18 rfl rfl)
theorem dX1_meet_44 : decode cX1_meet 44 = .ok (.aload_n 3, 1) := dk_45 (dk_at dksX1_meet_1 21 rfl rfl)
theorem dX1_meet_45 : decode cX1_meet 45 = .ok (.invokevirtual 224, 3) := dk_182 0 224 (dk_at dksX1_meet_2 0 rfl rfl)
theorem dX1_meet_48 : decode cX1_meet 48 = .ok (.aload 4, 2) := dk_25 4 (dk_at dksX1_meet_2 3 rfl rfl)
theorem dX1_meet_50 : decode cX1_meet 50 = .ok (.invokevirtual 224, 3) := dk_182 0 224 (dk_at dksX1_meet_2 5 rfl rfl)
theorem dX1_meet_53 : decode cX1_meet 53 = .ok (.if_icmp .ne 7, 3) := dk_160 0 7 (dk_at dksX1_meet_2 8 rfl rfl)
theorem dX1_meet_56 : decode cX1_meet 56 = .ok (.iconst 1, 1) := dk_4 (dk_at dksX1_meet_2 11 rfl rfl)
theorem dX1_meet_57 : decode cX1_meet 57 = .ok (.goto 4, 3) := dk_167 0 4 (dk_at dksX1_meet_2 12 rfl rfl)
theorem dX1_meet_60 : decode cX1_meet 60 = .ok (.iconst 0, 1) := dk_3 (dk_at dksX1_meet_2 15 rfl rfl)
theorem dX1_meet_61 : decode cX1_meet 61 = .ok (.ldc_w 308, 3) := dk_19 1 52 (dk_at dksX1_meet_2 16 rfl rfl)
theorem dX1_meet_64 : decode cX1_meet 64 = .ok (.invokestatic 174, 3) := dk_184 0 174 (dk_at dksX1_meet_2 19 rfl rfl)
theorem dX1_meet_67 : decode cX1_meet 67 = .ok (.aload_n 0, 1) := dk_42 (dk_at dksX1_meet_2 22 rfl rfl)
theorem dX1_meet_68 : decode cX1_meet 68 = .ok (.dup, 1) := dk_89 (dk_at dksX1_meet_2 23 rfl rfl)
theorem dX1_meet_69 : decode cX1_meet 69 = .ok (.getfield 310, 3) := dk_180 1 54 (dk_at dksX1_meet_3 0 rfl rfl)
theorem dX1_meet_72 : decode cX1_meet 72 = .ok (.iconst 1, 1) := dk_4 (dk_at dksX1_meet_3 3 rfl rfl)
theorem dX1_meet_73 : decode cX1_meet 73 = .ok (.iadd, 1) := dk_96 (dk_at dksX1_meet_3 4 rfl rfl)
theorem dX1_meet_74 : decode cX1_meet 74 = .ok (.putfield 310, 3) := dk_181 1 54 (dk_at dksX1_meet_3 5 rfl rfl)
theorem dX1_meet_77 : decode cX1_meet 77 = .ok (.aload_n 0, 1) := dk_42 (dk_at dksX1_meet_3 8 rfl rfl)
theorem dX1_meet_78 : decode cX1_meet 78 = .ok (.dup, 1) := dk_89 (dk_at dksX1_meet_3 9 rfl rfl)
theorem dX1_meet_79 : decode cX1_meet 79 = .ok (.getfield 313, 3) := dk_180 1 57 (dk_at dksX1_meet_3 10 rfl rfl)
theorem dX1_meet_82 : decode cX1_meet 82 = .ok (.aload_n 3, 1) := dk_45 (dk_at dksX1_meet_3 13 rfl rfl)
theorem dX1_meet_83 : decode cX1_meet 83 = .ok (.getfield 232, 3) := dk_180 0 232 (dk_at dksX1_meet_3 14 rfl rfl)
theorem dX1_meet_86 : decode cX1_meet 86 = .ok (.aload 4, 2) := dk_25 4 (dk_at dksX1_meet_3 17 rfl rfl)
theorem dX1_meet_88 : decode cX1_meet 88 = .ok (.getfield 232, 3) := dk_180 0 232 (dk_at dksX1_meet_3 19 rfl rfl)
theorem dX1_meet_91 : decode cX1_meet 91 = .ok (.invokevirtual 316, 3) := dk_182 1 60 (dk_at dksX1_meet_4 0 rfl rfl)
theorem dX1_meet_94 : decode cX1_meet 94 = .ok (.iadd, 1) := dk_96 (dk_at dksX1_meet_4 3 rfl rfl)
theorem dX1_meet_95 : decode cX1_meet 95 = .ok (.putfield 313, 3) := dk_181 1 57 (dk_at dksX1_meet_4 4 rfl rfl)
theorem dX1_meet_98 : decode cX1_meet 98 = .ok (.aload_n 3, 1) := dk_45 (dk_at dksX1_meet_4 7 rfl rfl)
theorem dX1_meet_99 : decode cX1_meet 99 = .ok (.getfield 232, 3) := dk_180 0 232 (dk_at dksX1_meet_4 8 rfl rfl)
theorem dX1_meet_102 : decode cX1_meet 102 = .ok (.aload 4, 2) := dk_25 4 (dk_at dksX1_meet_4 11 rfl rfl)
theorem dX1_meet_104 : decode cX1_meet 104 = .ok (.getfield 232, 3) := dk_180 0 232 (dk_at dksX1_meet_4 13 rfl rfl)
theorem dX1_meet_107 : decode cX1_meet 107 = .ok (.invokevirtual 319, 3) := dk_182 1 63 (dk_at dksX1_meet_4 16 rfl rfl)
theorem dX1_meet_110 : decode cX1_meet 110 = .ok (.istore 5, 2) := dk_54 5 (dk_at dksX1_meet_4 19 rfl rfl)
theorem dX1_meet_112 : decode cX1_meet 112 = .ok (.iload 5, 2) := dk_21 5 (dk_at dksX1_meet_4 21 rfl rfl)
theorem dX1_meet_114 : decode cX1_meet 114 = .ok (.aload 4, 2) := dk_25 4 (dk_at dksX1_meet_5 0 rfl rfl)
theorem dX1_meet_116 : decode cX1_meet 116 = .ok (.getfield 232, 3) := dk_180 0 232 (dk_at dksX1_meet_5 2 rfl rfl)
theorem dX1_meet_119 : decode cX1_meet 119 = .ok (.aload_n 3, 1) := dk_45 (dk_at dksX1_meet_5 5 rfl rfl)
theorem dX1_meet_120 : decode cX1_meet 120 = .ok (.getfield 232, 3) := dk_180 0 232 (dk_at dksX1_meet_5 6 rfl rfl)
theorem dX1_meet_123 : decode cX1_meet 123 = .ok (.invokevirtual 319, 3) := dk_182 1 63 (dk_at dksX1_meet_5 9 rfl rfl)
theorem dX1_meet_126 : decode cX1_meet 126 = .ok (.iadd, 1) := dk_96 (dk_at dksX1_meet_5 12 rfl rfl)
theorem dX1_meet_127 : decode cX1_meet 127 = .ok (.ireturn, 1) := dk_172 (dk_at dksX1_meet_5 13 rfl rfl)
abbrev cX1_pass : ByteArray := prog_1_method_34_code
def yX1_pass : MethodName := ⟨RX1, "pass", "(I)I"⟩
def dkwX1_pass_2 : List UInt8 := [42, 180, 0, 92, 172]
abbrev dktX1_pass_2 : List UInt8 := dkwX1_pass_2 ++ []
def dkwX1_pass_1 : List UInt8 := [163, 0, 7, 4, 167, 0, 4, 3, 19, 1, 68, 184, 0, 174, 42, 89, 180, 0, 92, 27, 96, 181, 0, 92]
abbrev dktX1_pass_1 : List UInt8 := dkwX1_pass_1 ++ dktX1_pass_2
def dkwX1_pass_0 : List UInt8 := [27, 4, 17, 2, 88, 184, 0, 7, 19, 1, 66, 184, 0, 139, 42, 180, 0, 92, 27, 96, 17, 11, 184]
abbrev dktX1_pass_0 : List UInt8 := dkwX1_pass_0 ++ dktX1_pass_1
theorem dksX1_pass_0 : cX1_pass.data.toList.drop 0 = dktX1_pass_0 := by decide +kernel
theorem dksX1_pass_1 : cX1_pass.data.toList.drop 23 = dktX1_pass_1 := dk_seg dksX1_pass_0 23 rfl rfl
theorem dksX1_pass_2 : cX1_pass.data.toList.drop 47 = dktX1_pass_2 := dk_seg dksX1_pass_1 24 rfl rfl
theorem dX1_pass_0 : decode cX1_pass 0 = .ok (.iload_n 1, 1) := dk_27 (dk_at dksX1_pass_0 0 rfl rfl)
theorem dX1_pass_1 : decode cX1_pass 1 = .ok (.iconst 1, 1) := dk_4 (dk_at dksX1_pass_0 1 rfl rfl)
theorem dX1_pass_2 : decode cX1_pass 2 = .ok (.sipush 600, 3) := dk_17 2 88 (dk_at dksX1_pass_0 2 rfl rfl)
theorem dX1_pass_5 : decode cX1_pass 5 = .ok (.invokestatic 7, 3) := dk_184 0 7 (dk_at dksX1_pass_0 5 rfl rfl)
theorem dX1_pass_8 : decode cX1_pass 8 = .ok (.ldc_w 322, 3) := dk_19 1 66 (dk_at dksX1_pass_0 8 rfl rfl)
theorem dX1_pass_11 : decode cX1_pass 11 = .ok (.invokestatic 139, 3) := dk_184 0 139 (dk_at dksX1_pass_0 11 rfl rfl)
theorem dX1_pass_14 : decode cX1_pass 14 = .ok (.aload_n 0, 1) := dk_42 (dk_at dksX1_pass_0 14 rfl rfl)
theorem dX1_pass_15 : decode cX1_pass 15 = .ok (.getfield 92, 3) := dk_180 0 92 (dk_at dksX1_pass_0 15 rfl rfl)
theorem dX1_pass_18 : decode cX1_pass 18 = .ok (.iload_n 1, 1) := dk_27 (dk_at dksX1_pass_0 18 rfl rfl)
theorem dX1_pass_19 : decode cX1_pass 19 = .ok (.iadd, 1) := dk_96 (dk_at dksX1_pass_0 19 rfl rfl)
theorem dX1_pass_20 : decode cX1_pass 20 = .ok (.sipush 3000, 3) := dk_17 11 184 (dk_at dksX1_pass_0 20 rfl rfl)
theorem dX1_pass_23 : decode cX1_pass 23 = .ok (.if_icmp .gt 7, 3) := dk_163 0 7 (dk_at dksX1_pass_1 0 rfl rfl)
theorem dX1_pass_26 : decode cX1_pass 26 = .ok (.iconst 1, 1) := dk_4 (dk_at dksX1_pass_1 3 rfl rfl)
theorem dX1_pass_27 : decode cX1_pass 27 = .ok (.goto 4, 3) := dk_167 0 4 (dk_at dksX1_pass_1 4 rfl rfl)
theorem dX1_pass_30 : decode cX1_pass 30 = .ok (.iconst 0, 1) := dk_3 (dk_at dksX1_pass_1 7 rfl rfl)
theorem dX1_pass_31 : decode cX1_pass 31 = .ok (.ldc_w 324, 3) := dk_19 1 68 (dk_at dksX1_pass_1 8 rfl rfl)
theorem dX1_pass_34 : decode cX1_pass 34 = .ok (.invokestatic 174, 3) := dk_184 0 174 (dk_at dksX1_pass_1 11 rfl rfl)
theorem dX1_pass_37 : decode cX1_pass 37 = .ok (.aload_n 0, 1) := dk_42 (dk_at dksX1_pass_1 14 rfl rfl)
theorem dX1_pass_38 : decode cX1_pass 38 = .ok (.dup, 1) := dk_89 (dk_at dksX1_pass_1 15 rfl rfl)
theorem dX1_pass_39 : decode cX1_pass 39 = .ok (.getfield 92, 3) := dk_180 0 92 (dk_at dksX1_pass_1 16 rfl rfl)
theorem dX1_pass_42 : decode cX1_pass 42 = .ok (.iload_n 1, 1) := dk_27 (dk_at dksX1_pass_1 19 rfl rfl)
theorem dX1_pass_43 : decode cX1_pass 43 = .ok (.iadd, 1) := dk_96 (dk_at dksX1_pass_1 20 rfl rfl)
theorem dX1_pass_44 : decode cX1_pass 44 = .ok (.putfield 92, 3) := dk_181 0 92 (dk_at dksX1_pass_1 21 rfl rfl)
theorem dX1_pass_47 : decode cX1_pass 47 = .ok (.aload_n 0, 1) := dk_42 (dk_at dksX1_pass_2 0 rfl rfl)
theorem dX1_pass_48 : decode cX1_pass 48 = .ok (.getfield 92, 3) := dk_180 0 92 (dk_at dksX1_pass_2 1 rfl rfl)
theorem dX1_pass_51 : decode cX1_pass 51 = .ok (.ireturn, 1) := dk_172 (dk_at dksX1_pass_2 4 rfl rfl)
abbrev cX1_ofEdge : ByteArray := prog_1_method_37_code
def yX1_ofEdge : MethodName := ⟨RX1, "ofEdge", "(III)I"⟩
def dkwX1_ofEdge_1 : List UInt8 := [28, 29, 182, 1, 81, 172]
abbrev dktX1_ofEdge_1 : List UInt8 := dkwX1_ofEdge_1 ++ []
def dkwX1_ofEdge_0 : List UInt8 := [27, 184, 0, 127, 87, 28, 184, 0, 131, 87, 29, 3, 5, 184, 0, 7, 19, 1, 79, 184, 0, 139, 42, 27]
abbrev dktX1_ofEdge_0 : List UInt8 := dkwX1_ofEdge_0 ++ dktX1_ofEdge_1
theorem dksX1_ofEdge_0 : cX1_ofEdge.data.toList.drop 0 = dktX1_ofEdge_0 := by decide +kernel
theorem dksX1_ofEdge_1 : cX1_ofEdge.data.toList.drop 24 = dktX1_ofEdge_1 := dk_seg dksX1_ofEdge_0 24 rfl rfl
theorem dX1_ofEdge_0 : decode cX1_ofEdge 0 = .ok (.iload_n 1, 1) := dk_27 (dk_at dksX1_ofEdge_0 0 rfl rfl)
theorem dX1_ofEdge_1 : decode cX1_ofEdge 1 = .ok (.invokestatic 127, 3) := dk_184 0 127 (dk_at dksX1_ofEdge_0 1 rfl rfl)
theorem dX1_ofEdge_4 : decode cX1_ofEdge 4 = .ok (.pop, 1) := dk_87 (dk_at dksX1_ofEdge_0 4 rfl rfl)
theorem dX1_ofEdge_5 : decode cX1_ofEdge 5 = .ok (.iload_n 2, 1) := dk_28 (dk_at dksX1_ofEdge_0 5 rfl rfl)
theorem dX1_ofEdge_6 : decode cX1_ofEdge 6 = .ok (.invokestatic 131, 3) := dk_184 0 131 (dk_at dksX1_ofEdge_0 6 rfl rfl)
theorem dX1_ofEdge_9 : decode cX1_ofEdge 9 = .ok (.pop, 1) := dk_87 (dk_at dksX1_ofEdge_0 9 rfl rfl)
theorem dX1_ofEdge_10 : decode cX1_ofEdge 10 = .ok (.iload_n 3, 1) := dk_29 (dk_at dksX1_ofEdge_0 10 rfl rfl)
theorem dX1_ofEdge_11 : decode cX1_ofEdge 11 = .ok (.iconst 0, 1) := dk_3 (dk_at dksX1_ofEdge_0 11 rfl rfl)
theorem dX1_ofEdge_12 : decode cX1_ofEdge 12 = .ok (.iconst 2, 1) := dk_5 (dk_at dksX1_ofEdge_0 12 rfl rfl)
theorem dX1_ofEdge_13 : decode cX1_ofEdge 13 = .ok (.invokestatic 7, 3) := dk_184 0 7 (dk_at dksX1_ofEdge_0 13 rfl rfl)
theorem dX1_ofEdge_16 : decode cX1_ofEdge 16 = .ok (.ldc_w 335, 3) := dk_19 1 79 (dk_at dksX1_ofEdge_0 16 rfl rfl)
theorem dX1_ofEdge_19 : decode cX1_ofEdge 19 = .ok (.invokestatic 139, 3) := dk_184 0 139 (dk_at dksX1_ofEdge_0 19 rfl rfl)
theorem dX1_ofEdge_22 : decode cX1_ofEdge 22 = .ok (.aload_n 0, 1) := dk_42 (dk_at dksX1_ofEdge_0 22 rfl rfl)
theorem dX1_ofEdge_23 : decode cX1_ofEdge 23 = .ok (.iload_n 1, 1) := dk_27 (dk_at dksX1_ofEdge_0 23 rfl rfl)
theorem dX1_ofEdge_24 : decode cX1_ofEdge 24 = .ok (.iload_n 2, 1) := dk_28 (dk_at dksX1_ofEdge_1 0 rfl rfl)
theorem dX1_ofEdge_25 : decode cX1_ofEdge 25 = .ok (.iload_n 3, 1) := dk_29 (dk_at dksX1_ofEdge_1 1 rfl rfl)
theorem dX1_ofEdge_26 : decode cX1_ofEdge 26 = .ok (.invokevirtual 337, 3) := dk_182 1 81 (dk_at dksX1_ofEdge_1 2 rfl rfl)
theorem dX1_ofEdge_29 : decode cX1_ofEdge 29 = .ok (.ireturn, 1) := dk_172 (dk_at dksX1_ofEdge_1 5 rfl rfl)
abbrev cX1_ofWalker : ByteArray := prog_1_method_40_code
def yX1_ofWalker : MethodName := ⟨RX1, "ofWalker", "(II)I"⟩
def dkwX1_ofWalker_1 : List UInt8 := [182, 1, 96, 172]
abbrev dktX1_ofWalker_1 : List UInt8 := dkwX1_ofWalker_1 ++ []
def dkwX1_ofWalker_0 : List UInt8 := [42, 27, 182, 0, 210, 78, 28, 3, 16, 12, 184, 0, 7, 19, 1, 79, 184, 0, 139, 42, 45, 28]
abbrev dktX1_ofWalker_0 : List UInt8 := dkwX1_ofWalker_0 ++ dktX1_ofWalker_1
theorem dksX1_ofWalker_0 : cX1_ofWalker.data.toList.drop 0 = dktX1_ofWalker_0 := by decide +kernel
theorem dksX1_ofWalker_1 : cX1_ofWalker.data.toList.drop 22 = dktX1_ofWalker_1 := dk_seg dksX1_ofWalker_0 22 rfl rfl
theorem dX1_ofWalker_0 : decode cX1_ofWalker 0 = .ok (.aload_n 0, 1) := dk_42 (dk_at dksX1_ofWalker_0 0 rfl rfl)
theorem dX1_ofWalker_1 : decode cX1_ofWalker 1 = .ok (.iload_n 1, 1) := dk_27 (dk_at dksX1_ofWalker_0 1 rfl rfl)
theorem dX1_ofWalker_2 : decode cX1_ofWalker 2 = .ok (.invokevirtual 210, 3) := dk_182 0 210 (dk_at dksX1_ofWalker_0 2 rfl rfl)
theorem dX1_ofWalker_5 : decode cX1_ofWalker 5 = .ok (.astore_n 3, 1) := dk_78 (dk_at dksX1_ofWalker_0 5 rfl rfl)
theorem dX1_ofWalker_6 : decode cX1_ofWalker 6 = .ok (.iload_n 2, 1) := dk_28 (dk_at dksX1_ofWalker_0 6 rfl rfl)
theorem dX1_ofWalker_7 : decode cX1_ofWalker 7 = .ok (.iconst 0, 1) := dk_3 (dk_at dksX1_ofWalker_0 7 rfl rfl)
theorem dX1_ofWalker_8 : decode cX1_ofWalker 8 = .ok (.bipush 12, 2) := dk_16 12 (dk_at dksX1_ofWalker_0 8 rfl rfl)
theorem dX1_ofWalker_10 : decode cX1_ofWalker 10 = .ok (.invokestatic 7, 3) := dk_184 0 7 (dk_at dksX1_ofWalker_0 10 rfl rfl)
theorem dX1_ofWalker_13 : decode cX1_ofWalker 13 = .ok (.ldc_w 335, 3) := dk_19 1 79 (dk_at dksX1_ofWalker_0 13 rfl rfl)
theorem dX1_ofWalker_16 : decode cX1_ofWalker 16 = .ok (.invokestatic 139, 3) := dk_184 0 139 (dk_at dksX1_ofWalker_0 16 rfl rfl)
theorem dX1_ofWalker_19 : decode cX1_ofWalker 19 = .ok (.aload_n 0, 1) := dk_42 (dk_at dksX1_ofWalker_0 19 rfl rfl)
theorem dX1_ofWalker_20 : decode cX1_ofWalker 20 = .ok (.aload_n 3, 1) := dk_45 (dk_at dksX1_ofWalker_0 20 rfl rfl)
theorem dX1_ofWalker_21 : decode cX1_ofWalker 21 = .ok (.iload_n 2, 1) := dk_28 (dk_at dksX1_ofWalker_0 21 rfl rfl)
theorem dX1_ofWalker_22 : decode cX1_ofWalker 22 = .ok (.invokevirtual 352, 3) := dk_182 1 96 (dk_at dksX1_ofWalker_1 0 rfl rfl)
theorem dX1_ofWalker_25 : decode cX1_ofWalker 25 = .ok (.ireturn, 1) := dk_172 (dk_at dksX1_ofWalker_1 3 rfl rfl)
abbrev cX1_house : ByteArray := prog_1_method_43_code
def yX1_house : MethodName := ⟨RX1, "house", "(I)I"⟩
def dkwX1_house_0 : List UInt8 := [27, 3, 16, 11, 184, 0, 7, 19, 1, 79, 184, 0, 139, 42, 27, 182, 1, 111, 172]
abbrev dktX1_house_0 : List UInt8 := dkwX1_house_0 ++ []
theorem dksX1_house_0 : cX1_house.data.toList.drop 0 = dktX1_house_0 := by decide +kernel
theorem dX1_house_0 : decode cX1_house 0 = .ok (.iload_n 1, 1) := dk_27 (dk_at dksX1_house_0 0 rfl rfl)
theorem dX1_house_1 : decode cX1_house 1 = .ok (.iconst 0, 1) := dk_3 (dk_at dksX1_house_0 1 rfl rfl)
theorem dX1_house_2 : decode cX1_house 2 = .ok (.bipush 11, 2) := dk_16 11 (dk_at dksX1_house_0 2 rfl rfl)
theorem dX1_house_4 : decode cX1_house 4 = .ok (.invokestatic 7, 3) := dk_184 0 7 (dk_at dksX1_house_0 4 rfl rfl)
theorem dX1_house_7 : decode cX1_house 7 = .ok (.ldc_w 335, 3) := dk_19 1 79 (dk_at dksX1_house_0 7 rfl rfl)
theorem dX1_house_10 : decode cX1_house 10 = .ok (.invokestatic 139, 3) := dk_184 0 139 (dk_at dksX1_house_0 10 rfl rfl)
theorem dX1_house_13 : decode cX1_house 13 = .ok (.aload_n 0, 1) := dk_42 (dk_at dksX1_house_0 13 rfl rfl)
theorem dX1_house_14 : decode cX1_house 14 = .ok (.iload_n 1, 1) := dk_27 (dk_at dksX1_house_0 14 rfl rfl)
theorem dX1_house_15 : decode cX1_house 15 = .ok (.invokevirtual 367, 3) := dk_182 1 111 (dk_at dksX1_house_0 15 rfl rfl)
theorem dX1_house_18 : decode cX1_house 18 = .ok (.ireturn, 1) := dk_172 (dk_at dksX1_house_0 18 rfl rfl)
abbrev cX1_row : ByteArray := prog_1_method_45_code
def yX1_row : MethodName := ⟨RX1, "row", "(I)Ljava/lang/String;"⟩
def dkwX1_row_3 : List UInt8 := [180, 0, 153, 180, 1, 130, 182, 1, 126, 87, 132, 3, 1, 167, 255, 198, 44, 182, 1, 133, 176]
abbrev dktX1_row_3 : List UInt8 := dkwX1_row_3 ++ []
def dkwX1_row_2 : List UInt8 := [182, 0, 109, 58, 4, 25, 4, 182, 0, 134, 153, 0, 22, 44, 25, 4, 182, 0, 117, 192, 0, 26]
abbrev dktX1_row_2 : List UInt8 := dkwX1_row_2 ++ dktX1_row_3
def dkwX1_row_1 : List UInt8 := [27, 4, 96, 16, 6, 104, 162, 0, 54, 44, 42, 29, 182, 1, 122, 182, 1, 126, 87, 42, 29, 4]
abbrev dktX1_row_1 : List UInt8 := dkwX1_row_1 ++ dktX1_row_2
def dkwX1_row_0 : List UInt8 := [27, 16, 6, 19, 1, 117, 184, 0, 74, 87, 187, 1, 119, 89, 183, 1, 121, 77, 27, 16, 6, 104, 62, 29]
abbrev dktX1_row_0 : List UInt8 := dkwX1_row_0 ++ dktX1_row_1
theorem dksX1_row_0 : cX1_row.data.toList.drop 0 = dktX1_row_0 := by decide +kernel
theorem dksX1_row_1 : cX1_row.data.toList.drop 24 = dktX1_row_1 := dk_seg dksX1_row_0 24 rfl rfl
theorem dksX1_row_2 : cX1_row.data.toList.drop 46 = dktX1_row_2 := dk_seg dksX1_row_1 22 rfl rfl
theorem dksX1_row_3 : cX1_row.data.toList.drop 68 = dktX1_row_3 := dk_seg dksX1_row_2 22 rfl rfl
theorem dX1_row_0 : decode cX1_row 0 = .ok (.iload_n 1, 1) := dk_27 (dk_at dksX1_row_0 0 rfl rfl)
theorem dX1_row_1 : decode cX1_row 1 = .ok (.bipush 6, 2) := dk_16 6 (dk_at dksX1_row_0 1 rfl rfl)
theorem dX1_row_3 : decode cX1_row 3 = .ok (.ldc_w 373, 3) := dk_19 1 117 (dk_at dksX1_row_0 3 rfl rfl)
theorem dX1_row_6 : decode cX1_row 6 = .ok (.invokestatic 74, 3) := dk_184 0 74 (dk_at dksX1_row_0 6 rfl rfl)
theorem dX1_row_9 : decode cX1_row 9 = .ok (.pop, 1) := dk_87 (dk_at dksX1_row_0 9 rfl rfl)
theorem dX1_row_10 : decode cX1_row 10 = .ok (.new 375, 3) := dk_187 1 119 (dk_at dksX1_row_0 10 rfl rfl)
theorem dX1_row_13 : decode cX1_row 13 = .ok (.dup, 1) := dk_89 (dk_at dksX1_row_0 13 rfl rfl)
theorem dX1_row_14 : decode cX1_row 14 = .ok (.invokespecial 377, 3) := dk_183 1 121 (dk_at dksX1_row_0 14 rfl rfl)
theorem dX1_row_17 : decode cX1_row 17 = .ok (.astore_n 2, 1) := dk_77 (dk_at dksX1_row_0 17 rfl rfl)
theorem dX1_row_18 : decode cX1_row 18 = .ok (.iload_n 1, 1) := dk_27 (dk_at dksX1_row_0 18 rfl rfl)
theorem dX1_row_19 : decode cX1_row 19 = .ok (.bipush 6, 2) := dk_16 6 (dk_at dksX1_row_0 19 rfl rfl)
theorem dX1_row_21 : decode cX1_row 21 = .ok (.imul, 1) := dk_104 (dk_at dksX1_row_0 21 rfl rfl)
theorem dX1_row_22 : decode cX1_row 22 = .ok (.istore_n 3, 1) := dk_62 (dk_at dksX1_row_0 22 rfl rfl)
theorem dX1_row_23 : decode cX1_row 23 = .ok (.iload_n 3, 1) := dk_29 (dk_at dksX1_row_0 23 rfl rfl)
theorem dX1_row_24 : decode cX1_row 24 = .ok (.iload_n 1, 1) := dk_27 (dk_at dksX1_row_1 0 rfl rfl)
theorem dX1_row_25 : decode cX1_row 25 = .ok (.iconst 1, 1) := dk_4 (dk_at dksX1_row_1 1 rfl rfl)
theorem dX1_row_26 : decode cX1_row 26 = .ok (.iadd, 1) := dk_96 (dk_at dksX1_row_1 2 rfl rfl)
theorem dX1_row_27 : decode cX1_row 27 = .ok (.bipush 6, 2) := dk_16 6 (dk_at dksX1_row_1 3 rfl rfl)
theorem dX1_row_29 : decode cX1_row 29 = .ok (.imul, 1) := dk_104 (dk_at dksX1_row_1 5 rfl rfl)
theorem dX1_row_30 : decode cX1_row 30 = .ok (.if_icmp .ge 54, 3) := dk_162 0 54 (dk_at dksX1_row_1 6 rfl rfl)
theorem dX1_row_33 : decode cX1_row 33 = .ok (.aload_n 2, 1) := dk_44 (dk_at dksX1_row_1 9 rfl rfl)
theorem dX1_row_34 : decode cX1_row 34 = .ok (.aload_n 0, 1) := dk_42 (dk_at dksX1_row_1 10 rfl rfl)
theorem dX1_row_35 : decode cX1_row 35 = .ok (.iload_n 3, 1) := dk_29 (dk_at dksX1_row_1 11 rfl rfl)
theorem dX1_row_36 : decode cX1_row 36 = .ok (.invokevirtual 378, 3) := dk_182 1 122 (dk_at dksX1_row_1 12 rfl rfl)
theorem dX1_row_39 : decode cX1_row 39 = .ok (.invokevirtual 382, 3) := dk_182 1 126 (dk_at dksX1_row_1 15 rfl rfl)
theorem dX1_row_42 : decode cX1_row 42 = .ok (.pop, 1) := dk_87 (dk_at dksX1_row_1 18 rfl rfl)
theorem dX1_row_43 : decode cX1_row 43 = .ok (.aload_n 0, 1) := dk_42 (dk_at dksX1_row_1 19 rfl rfl)
theorem dX1_row_44 : decode cX1_row 44 = .ok (.iload_n 3, 1) := dk_29 (dk_at dksX1_row_1 20 rfl rfl)
theorem dX1_row_45 : decode cX1_row 45 = .ok (.iconst 1, 1) := dk_4 (dk_at dksX1_row_1 21 rfl rfl)
theorem dX1_row_46 : decode cX1_row 46 = .ok (.invokevirtual 109, 3) := dk_182 0 109 (dk_at dksX1_row_2 0 rfl rfl)
theorem dX1_row_49 : decode cX1_row 49 = .ok (.astore 4, 2) := dk_58 4 (dk_at dksX1_row_2 3 rfl rfl)
theorem dX1_row_51 : decode cX1_row 51 = .ok (.aload 4, 2) := dk_25 4 (dk_at dksX1_row_2 5 rfl rfl)
theorem dX1_row_53 : decode cX1_row 53 = .ok (.invokevirtual 134, 3) := dk_182 0 134 (dk_at dksX1_row_2 7 rfl rfl)
theorem dX1_row_56 : decode cX1_row 56 = .ok (.ifCond .eq 22, 3) := dk_153 0 22 (dk_at dksX1_row_2 10 rfl rfl)
theorem dX1_row_59 : decode cX1_row 59 = .ok (.aload_n 2, 1) := dk_44 (dk_at dksX1_row_2 13 rfl rfl)
theorem dX1_row_60 : decode cX1_row 60 = .ok (.aload 4, 2) := dk_25 4 (dk_at dksX1_row_2 14 rfl rfl)
theorem dX1_row_62 : decode cX1_row 62 = .ok (.invokevirtual 117, 3) := dk_182 0 117 (dk_at dksX1_row_2 16 rfl rfl)
theorem dX1_row_65 : decode cX1_row 65 = .ok (.checkcast 26, 3) := dk_192 0 26 (dk_at dksX1_row_2 19 rfl rfl)
theorem dX1_row_68 : decode cX1_row 68 = .ok (.getfield 153, 3) := dk_180 0 153 (dk_at dksX1_row_3 0 rfl rfl)
theorem dX1_row_71 : decode cX1_row 71 = .ok (.getfield 386, 3) := dk_180 1 130 (dk_at dksX1_row_3 3 rfl rfl)
theorem dX1_row_74 : decode cX1_row 74 = .ok (.invokevirtual 382, 3) := dk_182 1 126 (dk_at dksX1_row_3 6 rfl rfl)
theorem dX1_row_77 : decode cX1_row 77 = .ok (.pop, 1) := dk_87 (dk_at dksX1_row_3 9 rfl rfl)
theorem dX1_row_78 : decode cX1_row 78 = .ok (.iinc 3 1, 3) := dk_132 3 1 (dk_at dksX1_row_3 10 rfl rfl)
theorem dX1_row_81 : decode cX1_row 81 = .ok (.goto (-58), 3) := dk_167 255 198 (dk_at dksX1_row_3 13 rfl rfl)
theorem dX1_row_84 : decode cX1_row 84 = .ok (.aload_n 2, 1) := dk_44 (dk_at dksX1_row_3 16 rfl rfl)
theorem dX1_row_85 : decode cX1_row 85 = .ok (.invokevirtual 389, 3) := dk_182 1 133 (dk_at dksX1_row_3 17 rfl rfl)
theorem dX1_row_88 : decode cX1_row 88 = .ok (.areturn, 1) := dk_176 (dk_at dksX1_row_3 20 rfl rfl)
abbrev cX1_sign : ByteArray := prog_1_method_44_code
def yX1_sign : MethodName := ⟨RX1, "sign", "(I)C"⟩
def dkwX1_sign_3 : List UInt8 := [16, 99, 167, 0, 5, 16, 46, 172]
abbrev dktX1_sign_3 : List UInt8 := dkwX1_sign_3 ++ []
def dkwX1_sign_2 : List UInt8 := [42, 180, 0, 36, 27, 51, 153, 0, 8, 16, 120, 167, 0, 19, 42, 180, 0, 32, 27, 51, 153, 0, 8]
abbrev dktX1_sign_2 : List UInt8 := dkwX1_sign_2 ++ dktX1_sign_3
def dkwX1_sign_1 : List UInt8 := [192, 0, 90, 78, 45, 182, 0, 224, 27, 160, 0, 12, 16, 48, 45, 180, 1, 114, 96, 146, 172, 167, 255, 220]
abbrev dktX1_sign_1 : List UInt8 := dkwX1_sign_1 ++ dktX1_sign_2
def dkwX1_sign_0 : List UInt8 := [42, 180, 0, 42, 182, 1, 27, 77, 44, 185, 1, 31, 1, 0, 153, 0, 33, 44, 185, 1, 36, 1, 0]
abbrev dktX1_sign_0 : List UInt8 := dkwX1_sign_0 ++ dktX1_sign_1
theorem dksX1_sign_0 : cX1_sign.data.toList.drop 0 = dktX1_sign_0 := by decide +kernel
theorem dksX1_sign_1 : cX1_sign.data.toList.drop 23 = dktX1_sign_1 := dk_seg dksX1_sign_0 23 rfl rfl
theorem dksX1_sign_2 : cX1_sign.data.toList.drop 47 = dktX1_sign_2 := dk_seg dksX1_sign_1 24 rfl rfl
theorem dksX1_sign_3 : cX1_sign.data.toList.drop 70 = dktX1_sign_3 := dk_seg dksX1_sign_2 23 rfl rfl
theorem dX1_sign_0 : decode cX1_sign 0 = .ok (.aload_n 0, 1) := dk_42 (dk_at dksX1_sign_0 0 rfl rfl)
theorem dX1_sign_1 : decode cX1_sign 1 = .ok (.getfield 42, 3) := dk_180 0 42 (dk_at dksX1_sign_0 1 rfl rfl)
theorem dX1_sign_4 : decode cX1_sign 4 = .ok (.invokevirtual 283, 3) := dk_182 1 27 (dk_at dksX1_sign_0 4 rfl rfl)
theorem dX1_sign_7 : decode cX1_sign 7 = .ok (.astore_n 2, 1) := dk_77 (dk_at dksX1_sign_0 7 rfl rfl)
theorem dX1_sign_8 : decode cX1_sign 8 = .ok (.aload_n 2, 1) := dk_44 (dk_at dksX1_sign_0 8 rfl rfl)
theorem dX1_sign_9 : decode cX1_sign 9 = .ok (.invokeinterface 287 1, 5) := by decide +kernel
theorem dX1_sign_14 : decode cX1_sign 14 = .ok (.ifCond .eq 33, 3) := dk_153 0 33 (dk_at dksX1_sign_0 14 rfl rfl)
theorem dX1_sign_17 : decode cX1_sign 17 = .ok (.aload_n 2, 1) := dk_44 (dk_at dksX1_sign_0 17 rfl rfl)
theorem dX1_sign_18 : decode cX1_sign 18 = .ok (.invokeinterface 292 1, 5) := by decide +kernel
theorem dX1_sign_23 : decode cX1_sign 23 = .ok (.checkcast 90, 3) := dk_192 0 90 (dk_at dksX1_sign_1 0 rfl rfl)
theorem dX1_sign_26 : decode cX1_sign 26 = .ok (.astore_n 3, 1) := dk_78 (dk_at dksX1_sign_1 3 rfl rfl)
theorem dX1_sign_27 : decode cX1_sign 27 = .ok (.aload_n 3, 1) := dk_45 (dk_at dksX1_sign_1 4 rfl rfl)
theorem dX1_sign_28 : decode cX1_sign 28 = .ok (.invokevirtual 224, 3) := dk_182 0 224 (dk_at dksX1_sign_1 5 rfl rfl)
theorem dX1_sign_31 : decode cX1_sign 31 = .ok (.iload_n 1, 1) := dk_27 (dk_at dksX1_sign_1 8 rfl rfl)
theorem dX1_sign_32 : decode cX1_sign 32 = .ok (.if_icmp .ne 12, 3) := dk_160 0 12 (dk_at dksX1_sign_1 9 rfl rfl)
theorem dX1_sign_35 : decode cX1_sign 35 = .ok (.bipush 48, 2) := dk_16 48 (dk_at dksX1_sign_1 12 rfl rfl)
theorem dX1_sign_37 : decode cX1_sign 37 = .ok (.aload_n 3, 1) := dk_45 (dk_at dksX1_sign_1 14 rfl rfl)
theorem dX1_sign_38 : decode cX1_sign 38 = .ok (.getfield 370, 3) := dk_180 1 114 (dk_at dksX1_sign_1 15 rfl rfl)
theorem dX1_sign_41 : decode cX1_sign 41 = .ok (.iadd, 1) := dk_96 (dk_at dksX1_sign_1 18 rfl rfl)
theorem dX1_sign_42 : decode cX1_sign 42 = .ok (.i2c, 1) := dk_146 (dk_at dksX1_sign_1 19 rfl rfl)
theorem dX1_sign_43 : decode cX1_sign 43 = .ok (.ireturn, 1) := dk_172 (dk_at dksX1_sign_1 20 rfl rfl)
theorem dX1_sign_44 : decode cX1_sign 44 = .ok (.goto (-36), 3) := dk_167 255 220 (dk_at dksX1_sign_1 21 rfl rfl)
theorem dX1_sign_47 : decode cX1_sign 47 = .ok (.aload_n 0, 1) := dk_42 (dk_at dksX1_sign_2 0 rfl rfl)
theorem dX1_sign_48 : decode cX1_sign 48 = .ok (.getfield 36, 3) := dk_180 0 36 (dk_at dksX1_sign_2 1 rfl rfl)
theorem dX1_sign_51 : decode cX1_sign 51 = .ok (.iload_n 1, 1) := dk_27 (dk_at dksX1_sign_2 4 rfl rfl)
theorem dX1_sign_52 : decode cX1_sign 52 = .ok (.baload, 1) := dk_51 (dk_at dksX1_sign_2 5 rfl rfl)
theorem dX1_sign_53 : decode cX1_sign 53 = .ok (.ifCond .eq 8, 3) := dk_153 0 8 (dk_at dksX1_sign_2 6 rfl rfl)
theorem dX1_sign_56 : decode cX1_sign 56 = .ok (.bipush 120, 2) := dk_16 120 (dk_at dksX1_sign_2 9 rfl rfl)
theorem dX1_sign_58 : decode cX1_sign 58 = .ok (.goto 19, 3) := dk_167 0 19 (dk_at dksX1_sign_2 11 rfl rfl)
theorem dX1_sign_61 : decode cX1_sign 61 = .ok (.aload_n 0, 1) := dk_42 (dk_at dksX1_sign_2 14 rfl rfl)
theorem dX1_sign_62 : decode cX1_sign 62 = .ok (.getfield 32, 3) := dk_180 0 32 (dk_at dksX1_sign_2 15 rfl rfl)
theorem dX1_sign_65 : decode cX1_sign 65 = .ok (.iload_n 1, 1) := dk_27 (dk_at dksX1_sign_2 18 rfl rfl)
theorem dX1_sign_66 : decode cX1_sign 66 = .ok (.baload, 1) := dk_51 (dk_at dksX1_sign_2 19 rfl rfl)
theorem dX1_sign_67 : decode cX1_sign 67 = .ok (.ifCond .eq 8, 3) := dk_153 0 8 (dk_at dksX1_sign_2 20 rfl rfl)
theorem dX1_sign_70 : decode cX1_sign 70 = .ok (.bipush 99, 2) := dk_16 99 (dk_at dksX1_sign_3 0 rfl rfl)
theorem dX1_sign_72 : decode cX1_sign 72 = .ok (.goto 5, 3) := dk_167 0 5 (dk_at dksX1_sign_3 2 rfl rfl)
theorem dX1_sign_75 : decode cX1_sign 75 = .ok (.bipush 46, 2) := dk_16 46 (dk_at dksX1_sign_3 5 rfl rfl)
theorem dX1_sign_77 : decode cX1_sign 77 = .ok (.ireturn, 1) := dk_172 (dk_at dksX1_sign_3 7 rfl rfl)
abbrev cX1_map : ByteArray := prog_1_method_46_code
def yX1_map : MethodName := ⟨RX1, "map", "(III)I"⟩
def dkwX1_map_1 : List UInt8 := [182, 1, 137, 172]
abbrev dktX1_map_1 : List UInt8 := dkwX1_map_1 ++ []
def dkwX1_map_0 : List UInt8 := [42, 27, 182, 0, 210, 58, 4, 28, 184, 0, 127, 87, 25, 4, 180, 0, 232, 28, 29, 184, 0, 131]
abbrev dktX1_map_0 : List UInt8 := dkwX1_map_0 ++ dktX1_map_1
theorem dksX1_map_0 : cX1_map.data.toList.drop 0 = dktX1_map_0 := by decide +kernel
theorem dksX1_map_1 : cX1_map.data.toList.drop 22 = dktX1_map_1 := dk_seg dksX1_map_0 22 rfl rfl
theorem dX1_map_0 : decode cX1_map 0 = .ok (.aload_n 0, 1) := dk_42 (dk_at dksX1_map_0 0 rfl rfl)
theorem dX1_map_1 : decode cX1_map 1 = .ok (.iload_n 1, 1) := dk_27 (dk_at dksX1_map_0 1 rfl rfl)
theorem dX1_map_2 : decode cX1_map 2 = .ok (.invokevirtual 210, 3) := dk_182 0 210 (dk_at dksX1_map_0 2 rfl rfl)
theorem dX1_map_5 : decode cX1_map 5 = .ok (.astore 4, 2) := dk_58 4 (dk_at dksX1_map_0 5 rfl rfl)
theorem dX1_map_7 : decode cX1_map 7 = .ok (.iload_n 2, 1) := dk_28 (dk_at dksX1_map_0 7 rfl rfl)
theorem dX1_map_8 : decode cX1_map 8 = .ok (.invokestatic 127, 3) := dk_184 0 127 (dk_at dksX1_map_0 8 rfl rfl)
theorem dX1_map_11 : decode cX1_map 11 = .ok (.pop, 1) := dk_87 (dk_at dksX1_map_0 11 rfl rfl)
theorem dX1_map_12 : decode cX1_map 12 = .ok (.aload 4, 2) := dk_25 4 (dk_at dksX1_map_0 12 rfl rfl)
theorem dX1_map_14 : decode cX1_map 14 = .ok (.getfield 232, 3) := dk_180 0 232 (dk_at dksX1_map_0 14 rfl rfl)
theorem dX1_map_17 : decode cX1_map 17 = .ok (.iload_n 2, 1) := dk_28 (dk_at dksX1_map_0 17 rfl rfl)
theorem dX1_map_18 : decode cX1_map 18 = .ok (.iload_n 3, 1) := dk_29 (dk_at dksX1_map_0 18 rfl rfl)
theorem dX1_map_19 : decode cX1_map 19 = .ok (.invokestatic 131, 3) := dk_184 0 131 (dk_at dksX1_map_0 19 rfl rfl)
theorem dX1_map_22 : decode cX1_map 22 = .ok (.invokevirtual 393, 3) := dk_182 1 137 (dk_at dksX1_map_1 0 rfl rfl)
theorem dX1_map_25 : decode cX1_map 25 = .ok (.ireturn, 1) := dk_172 (dk_at dksX1_map_1 3 rfl rfl)
abbrev cX1_may : ByteArray := prog_1_method_47_code
def yX1_may : MethodName := ⟨RX1, "may", "(II)Z"⟩
def dkwX1_may_0 : List UInt8 := [42, 27, 182, 0, 210, 78, 45, 180, 0, 201, 28, 17, 0, 144, 19, 1, 140, 184, 0, 74, 182, 1, 141, 172]
abbrev dktX1_may_0 : List UInt8 := dkwX1_may_0 ++ []
theorem dksX1_may_0 : cX1_may.data.toList.drop 0 = dktX1_may_0 := by decide +kernel
theorem dX1_may_0 : decode cX1_may 0 = .ok (.aload_n 0, 1) := dk_42 (dk_at dksX1_may_0 0 rfl rfl)
theorem dX1_may_1 : decode cX1_may 1 = .ok (.iload_n 1, 1) := dk_27 (dk_at dksX1_may_0 1 rfl rfl)
theorem dX1_may_2 : decode cX1_may 2 = .ok (.invokevirtual 210, 3) := dk_182 0 210 (dk_at dksX1_may_0 2 rfl rfl)
theorem dX1_may_5 : decode cX1_may 5 = .ok (.astore_n 3, 1) := dk_78 (dk_at dksX1_may_0 5 rfl rfl)
theorem dX1_may_6 : decode cX1_may 6 = .ok (.aload_n 3, 1) := dk_45 (dk_at dksX1_may_0 6 rfl rfl)
theorem dX1_may_7 : decode cX1_may 7 = .ok (.getfield 201, 3) := dk_180 0 201 (dk_at dksX1_may_0 7 rfl rfl)
theorem dX1_may_10 : decode cX1_may 10 = .ok (.iload_n 2, 1) := dk_28 (dk_at dksX1_may_0 10 rfl rfl)
theorem dX1_may_11 : decode cX1_may 11 = .ok (.sipush 144, 3) := dk_17 0 144 (dk_at dksX1_may_0 11 rfl rfl)
theorem dX1_may_14 : decode cX1_may 14 = .ok (.ldc_w 396, 3) := dk_19 1 140 (dk_at dksX1_may_0 14 rfl rfl)
theorem dX1_may_17 : decode cX1_may 17 = .ok (.invokestatic 74, 3) := dk_184 0 74 (dk_at dksX1_may_0 17 rfl rfl)
theorem dX1_may_20 : decode cX1_may 20 = .ok (.invokevirtual 397, 3) := dk_182 1 141 (dk_at dksX1_may_0 20 rfl rfl)
theorem dX1_may_23 : decode cX1_may 23 = .ok (.ireturn, 1) := dk_172 (dk_at dksX1_may_0 23 rfl rfl)
abbrev cX1_where : ByteArray := prog_1_method_48_code
def yX1_where : MethodName := ⟨RX1, "where", "(II)J"⟩
def dkwX1_where_1 : List UInt8 := [182, 1, 145, 173]
abbrev dktX1_where_1 : List UInt8 := dkwX1_where_1 ++ []
def dkwX1_where_0 : List UInt8 := [42, 27, 182, 0, 210, 78, 28, 3, 6, 184, 0, 7, 19, 1, 144, 184, 0, 139, 45, 180, 0, 201, 28]
abbrev dktX1_where_0 : List UInt8 := dkwX1_where_0 ++ dktX1_where_1
theorem dksX1_where_0 : cX1_where.data.toList.drop 0 = dktX1_where_0 := by decide +kernel
theorem dksX1_where_1 : cX1_where.data.toList.drop 23 = dktX1_where_1 := dk_seg dksX1_where_0 23 rfl rfl
theorem dX1_where_0 : decode cX1_where 0 = .ok (.aload_n 0, 1) := dk_42 (dk_at dksX1_where_0 0 rfl rfl)
theorem dX1_where_1 : decode cX1_where 1 = .ok (.iload_n 1, 1) := dk_27 (dk_at dksX1_where_0 1 rfl rfl)
theorem dX1_where_2 : decode cX1_where 2 = .ok (.invokevirtual 210, 3) := dk_182 0 210 (dk_at dksX1_where_0 2 rfl rfl)
theorem dX1_where_5 : decode cX1_where 5 = .ok (.astore_n 3, 1) := dk_78 (dk_at dksX1_where_0 5 rfl rfl)
theorem dX1_where_6 : decode cX1_where 6 = .ok (.iload_n 2, 1) := dk_28 (dk_at dksX1_where_0 6 rfl rfl)
theorem dX1_where_7 : decode cX1_where 7 = .ok (.iconst 0, 1) := dk_3 (dk_at dksX1_where_0 7 rfl rfl)
theorem dX1_where_8 : decode cX1_where 8 = .ok (.iconst 3, 1) := dk_6 (dk_at dksX1_where_0 8 rfl rfl)
theorem dX1_where_9 : decode cX1_where 9 = .ok (.invokestatic 7, 3) := dk_184 0 7 (dk_at dksX1_where_0 9 rfl rfl)
theorem dX1_where_12 : decode cX1_where 12 = .ok (.ldc_w 400, 3) := dk_19 1 144 (dk_at dksX1_where_0 12 rfl rfl)
theorem dX1_where_15 : decode cX1_where 15 = .ok (.invokestatic 139, 3) := dk_184 0 139 (dk_at dksX1_where_0 15 rfl rfl)
theorem dX1_where_18 : decode cX1_where 18 = .ok (.aload_n 3, 1) := dk_45 (dk_at dksX1_where_0 18 rfl rfl)
theorem dX1_where_19 : decode cX1_where 19 = .ok (.getfield 201, 3) := dk_180 0 201 (dk_at dksX1_where_0 19 rfl rfl)
theorem dX1_where_22 : decode cX1_where 22 = .ok (.iload_n 2, 1) := dk_28 (dk_at dksX1_where_0 22 rfl rfl)
theorem dX1_where_23 : decode cX1_where 23 = .ok (.invokevirtual 401, 3) := dk_182 1 145 (dk_at dksX1_where_1 0 rfl rfl)
theorem dX1_where_26 : decode cX1_where 26 = .ok (.lreturn, 1) := dk_173 (dk_at dksX1_where_1 3 rfl rfl)
abbrev cX1_way : ByteArray := prog_1_method_49_code
def yX1_way : MethodName := ⟨RX1, "way", "(III)I"⟩
def dkwX1_way_1 : List UInt8 := [184, 0, 127, 46, 172]
abbrev dktX1_way_1 : List UInt8 := dkwX1_way_1 ++ []
def dkwX1_way_0 : List UInt8 := [42, 27, 182, 0, 210, 58, 4, 28, 184, 0, 127, 87, 25, 4, 180, 0, 232, 28, 182, 1, 149, 29]
abbrev dktX1_way_0 : List UInt8 := dkwX1_way_0 ++ dktX1_way_1
theorem dksX1_way_0 : cX1_way.data.toList.drop 0 = dktX1_way_0 := by decide +kernel
theorem dksX1_way_1 : cX1_way.data.toList.drop 22 = dktX1_way_1 := dk_seg dksX1_way_0 22 rfl rfl
theorem dX1_way_0 : decode cX1_way 0 = .ok (.aload_n 0, 1) := dk_42 (dk_at dksX1_way_0 0 rfl rfl)
theorem dX1_way_1 : decode cX1_way 1 = .ok (.iload_n 1, 1) := dk_27 (dk_at dksX1_way_0 1 rfl rfl)
theorem dX1_way_2 : decode cX1_way 2 = .ok (.invokevirtual 210, 3) := dk_182 0 210 (dk_at dksX1_way_0 2 rfl rfl)
theorem dX1_way_5 : decode cX1_way 5 = .ok (.astore 4, 2) := dk_58 4 (dk_at dksX1_way_0 5 rfl rfl)
theorem dX1_way_7 : decode cX1_way 7 = .ok (.iload_n 2, 1) := dk_28 (dk_at dksX1_way_0 7 rfl rfl)
theorem dX1_way_8 : decode cX1_way 8 = .ok (.invokestatic 127, 3) := dk_184 0 127 (dk_at dksX1_way_0 8 rfl rfl)
theorem dX1_way_11 : decode cX1_way 11 = .ok (.pop, 1) := dk_87 (dk_at dksX1_way_0 11 rfl rfl)
theorem dX1_way_12 : decode cX1_way 12 = .ok (.aload 4, 2) := dk_25 4 (dk_at dksX1_way_0 12 rfl rfl)
theorem dX1_way_14 : decode cX1_way 14 = .ok (.getfield 232, 3) := dk_180 0 232 (dk_at dksX1_way_0 14 rfl rfl)
theorem dX1_way_17 : decode cX1_way 17 = .ok (.iload_n 2, 1) := dk_28 (dk_at dksX1_way_0 17 rfl rfl)
theorem dX1_way_18 : decode cX1_way 18 = .ok (.invokevirtual 405, 3) := dk_182 1 149 (dk_at dksX1_way_0 18 rfl rfl)
theorem dX1_way_21 : decode cX1_way 21 = .ok (.iload_n 3, 1) := dk_29 (dk_at dksX1_way_0 21 rfl rfl)
theorem dX1_way_22 : decode cX1_way 22 = .ok (.invokestatic 127, 3) := dk_184 0 127 (dk_at dksX1_way_1 0 rfl rfl)
theorem dX1_way_25 : decode cX1_way 25 = .ok (.iaload, 1) := dk_46 (dk_at dksX1_way_1 3 rfl rfl)
theorem dX1_way_26 : decode cX1_way 26 = .ok (.ireturn, 1) := dk_172 (dk_at dksX1_way_1 4 rfl rfl)
abbrev cX1_safety : ByteArray := prog_1_method_51_code
def yX1_safety : MethodName := ⟨RX1, "safety", "(II)I"⟩
def dkwX1_safety_0 : List UInt8 := [42, 27, 182, 0, 210, 78, 28, 3, 6, 184, 0, 7, 19, 1, 79, 184, 0, 139, 45, 28, 184, 1, 162, 172]
abbrev dktX1_safety_0 : List UInt8 := dkwX1_safety_0 ++ []
theorem dksX1_safety_0 : cX1_safety.data.toList.drop 0 = dktX1_safety_0 := by decide +kernel
theorem dX1_safety_0 : decode cX1_safety 0 = .ok (.aload_n 0, 1) := dk_42 (dk_at dksX1_safety_0 0 rfl rfl)
theorem dX1_safety_1 : decode cX1_safety 1 = .ok (.iload_n 1, 1) := dk_27 (dk_at dksX1_safety_0 1 rfl rfl)
theorem dX1_safety_2 : decode cX1_safety 2 = .ok (.invokevirtual 210, 3) := dk_182 0 210 (dk_at dksX1_safety_0 2 rfl rfl)
theorem dX1_safety_5 : decode cX1_safety 5 = .ok (.astore_n 3, 1) := dk_78 (dk_at dksX1_safety_0 5 rfl rfl)
theorem dX1_safety_6 : decode cX1_safety 6 = .ok (.iload_n 2, 1) := dk_28 (dk_at dksX1_safety_0 6 rfl rfl)
theorem dX1_safety_7 : decode cX1_safety 7 = .ok (.iconst 0, 1) := dk_3 (dk_at dksX1_safety_0 7 rfl rfl)
theorem dX1_safety_8 : decode cX1_safety 8 = .ok (.iconst 3, 1) := dk_6 (dk_at dksX1_safety_0 8 rfl rfl)
theorem dX1_safety_9 : decode cX1_safety 9 = .ok (.invokestatic 7, 3) := dk_184 0 7 (dk_at dksX1_safety_0 9 rfl rfl)
theorem dX1_safety_12 : decode cX1_safety 12 = .ok (.ldc_w 335, 3) := dk_19 1 79 (dk_at dksX1_safety_0 12 rfl rfl)
theorem dX1_safety_15 : decode cX1_safety 15 = .ok (.invokestatic 139, 3) := dk_184 0 139 (dk_at dksX1_safety_0 15 rfl rfl)
theorem dX1_safety_18 : decode cX1_safety 18 = .ok (.aload_n 3, 1) := dk_45 (dk_at dksX1_safety_0 18 rfl rfl)
theorem dX1_safety_19 : decode cX1_safety 19 = .ok (.iload_n 2, 1) := dk_28 (dk_at dksX1_safety_0 19 rfl rfl)
theorem dX1_safety_20 : decode cX1_safety 20 = .ok (.invokestatic 418, 3) := dk_184 1 162 (dk_at dksX1_safety_0 20 rfl rfl)
theorem dX1_safety_23 : decode cX1_safety 23 = .ok (.ireturn, 1) := dk_172 (dk_at dksX1_safety_0 23 rfl rfl)
abbrev cX1_doubt_2 : ByteArray := prog_1_method_53_code
def yX1_doubt_2 : MethodName := ⟨RX1, "doubt", "(I)D"⟩
def dkwX1_doubt_2_0 : List UInt8 := [42, 27, 182, 0, 210, 184, 1, 173, 175]
abbrev dktX1_doubt_2_0 : List UInt8 := dkwX1_doubt_2_0 ++ []
theorem dksX1_doubt_2_0 : cX1_doubt_2.data.toList.drop 0 = dktX1_doubt_2_0 := by decide +kernel
theorem dX1_doubt_2_0 : decode cX1_doubt_2 0 = .ok (.aload_n 0, 1) := dk_42 (dk_at dksX1_doubt_2_0 0 rfl rfl)
theorem dX1_doubt_2_1 : decode cX1_doubt_2 1 = .ok (.iload_n 1, 1) := dk_27 (dk_at dksX1_doubt_2_0 1 rfl rfl)
theorem dX1_doubt_2_2 : decode cX1_doubt_2 2 = .ok (.invokevirtual 210, 3) := dk_182 0 210 (dk_at dksX1_doubt_2_0 2 rfl rfl)
theorem dX1_doubt_2_5 : decode cX1_doubt_2 5 = .ok (.invokestatic 429, 3) := dk_184 1 173 (dk_at dksX1_doubt_2_0 5 rfl rfl)
theorem dX1_doubt_2_8 : decode cX1_doubt_2 8 = .ok (.dreturn, 1) := dk_175 (dk_at dksX1_doubt_2_0 8 rfl rfl)
abbrev cX1_worst : ByteArray := prog_1_method_54_code
def yX1_worst : MethodName := ⟨RX1, "worst", "(II)I"⟩
def dkwX1_worst_0 : List UInt8 := [42, 27, 182, 0, 210, 78, 28, 3, 6, 184, 0, 7, 18, 190, 184, 0, 139, 45, 28, 182, 1, 177, 172]
abbrev dktX1_worst_0 : List UInt8 := dkwX1_worst_0 ++ []
theorem dksX1_worst_0 : cX1_worst.data.toList.drop 0 = dktX1_worst_0 := by decide +kernel
theorem dX1_worst_0 : decode cX1_worst 0 = .ok (.aload_n 0, 1) := dk_42 (dk_at dksX1_worst_0 0 rfl rfl)
theorem dX1_worst_1 : decode cX1_worst 1 = .ok (.iload_n 1, 1) := dk_27 (dk_at dksX1_worst_0 1 rfl rfl)
theorem dX1_worst_2 : decode cX1_worst 2 = .ok (.invokevirtual 210, 3) := dk_182 0 210 (dk_at dksX1_worst_0 2 rfl rfl)
theorem dX1_worst_5 : decode cX1_worst 5 = .ok (.astore_n 3, 1) := dk_78 (dk_at dksX1_worst_0 5 rfl rfl)
theorem dX1_worst_6 : decode cX1_worst 6 = .ok (.iload_n 2, 1) := dk_28 (dk_at dksX1_worst_0 6 rfl rfl)
theorem dX1_worst_7 : decode cX1_worst 7 = .ok (.iconst 0, 1) := dk_3 (dk_at dksX1_worst_0 7 rfl rfl)
theorem dX1_worst_8 : decode cX1_worst 8 = .ok (.iconst 3, 1) := dk_6 (dk_at dksX1_worst_0 8 rfl rfl)
theorem dX1_worst_9 : decode cX1_worst 9 = .ok (.invokestatic 7, 3) := dk_184 0 7 (dk_at dksX1_worst_0 9 rfl rfl)
theorem dX1_worst_12 : decode cX1_worst 12 = .ok (.ldc 190, 2) := dk_18 190 (dk_at dksX1_worst_0 12 rfl rfl)
theorem dX1_worst_14 : decode cX1_worst 14 = .ok (.invokestatic 139, 3) := dk_184 0 139 (dk_at dksX1_worst_0 14 rfl rfl)
theorem dX1_worst_17 : decode cX1_worst 17 = .ok (.aload_n 3, 1) := dk_45 (dk_at dksX1_worst_0 17 rfl rfl)
theorem dX1_worst_18 : decode cX1_worst 18 = .ok (.iload_n 2, 1) := dk_28 (dk_at dksX1_worst_0 18 rfl rfl)
theorem dX1_worst_19 : decode cX1_worst 19 = .ok (.invokevirtual 433, 3) := dk_182 1 177 (dk_at dksX1_worst_0 19 rfl rfl)
theorem dX1_worst_22 : decode cX1_worst 22 = .ok (.ireturn, 1) := dk_172 (dk_at dksX1_worst_0 22 rfl rfl)
abbrev cX1_best : ByteArray := prog_1_method_55_code
def yX1_best : MethodName := ⟨RX1, "best", "(I)I"⟩
def dkwX1_best_0 : List UInt8 := [42, 27, 182, 0, 210, 182, 1, 180, 172]
abbrev dktX1_best_0 : List UInt8 := dkwX1_best_0 ++ []
theorem dksX1_best_0 : cX1_best.data.toList.drop 0 = dktX1_best_0 := by decide +kernel
theorem dX1_best_0 : decode cX1_best 0 = .ok (.aload_n 0, 1) := dk_42 (dk_at dksX1_best_0 0 rfl rfl)
theorem dX1_best_1 : decode cX1_best 1 = .ok (.iload_n 1, 1) := dk_27 (dk_at dksX1_best_0 1 rfl rfl)
theorem dX1_best_2 : decode cX1_best 2 = .ok (.invokevirtual 210, 3) := dk_182 0 210 (dk_at dksX1_best_0 2 rfl rfl)
theorem dX1_best_5 : decode cX1_best 5 = .ok (.invokevirtual 436, 3) := dk_182 1 180 (dk_at dksX1_best_0 5 rfl rfl)
theorem dX1_best_8 : decode cX1_best 8 = .ok (.ireturn, 1) := dk_172 (dk_at dksX1_best_0 8 rfl rfl)
abbrev cX1_wouldFeel : ByteArray := prog_1_method_56_code
def yX1_wouldFeel : MethodName := ⟨RX1, "wouldFeel", "(II)I"⟩
def dkwX1_wouldFeel_1 : List UInt8 := [180, 0, 232, 28, 182, 1, 21, 182, 1, 17, 172]
abbrev dktX1_wouldFeel_1 : List UInt8 := dkwX1_wouldFeel_1 ++ []
def dkwX1_wouldFeel_0 : List UInt8 := [42, 27, 182, 0, 210, 78, 28, 3, 16, 7, 184, 0, 7, 19, 1, 183, 184, 0, 139, 45, 180, 0, 201, 45]
abbrev dktX1_wouldFeel_0 : List UInt8 := dkwX1_wouldFeel_0 ++ dktX1_wouldFeel_1
theorem dksX1_wouldFeel_0 : cX1_wouldFeel.data.toList.drop 0 = dktX1_wouldFeel_0 := by decide +kernel
theorem dksX1_wouldFeel_1 : cX1_wouldFeel.data.toList.drop 24 = dktX1_wouldFeel_1 := dk_seg dksX1_wouldFeel_0 24 rfl rfl
theorem dX1_wouldFeel_0 : decode cX1_wouldFeel 0 = .ok (.aload_n 0, 1) := dk_42 (dk_at dksX1_wouldFeel_0 0 rfl rfl)
theorem dX1_wouldFeel_1 : decode cX1_wouldFeel 1 = .ok (.iload_n 1, 1) := dk_27 (dk_at dksX1_wouldFeel_0 1 rfl rfl)
theorem dX1_wouldFeel_2 : decode cX1_wouldFeel 2 = .ok (.invokevirtual 210, 3) := dk_182 0 210 (dk_at dksX1_wouldFeel_0 2 rfl rfl)
theorem dX1_wouldFeel_5 : decode cX1_wouldFeel 5 = .ok (.astore_n 3, 1) := dk_78 (dk_at dksX1_wouldFeel_0 5 rfl rfl)
theorem dX1_wouldFeel_6 : decode cX1_wouldFeel 6 = .ok (.iload_n 2, 1) := dk_28 (dk_at dksX1_wouldFeel_0 6 rfl rfl)
theorem dX1_wouldFeel_7 : decode cX1_wouldFeel 7 = .ok (.iconst 0, 1) := dk_3 (dk_at dksX1_wouldFeel_0 7 rfl rfl)
theorem dX1_wouldFeel_8 : decode cX1_wouldFeel 8 = .ok (.bipush 7, 2) := dk_16 7 (dk_at dksX1_wouldFeel_0 8 rfl rfl)
theorem dX1_wouldFeel_10 : decode cX1_wouldFeel 10 = .ok (.invokestatic 7, 3) := dk_184 0 7 (dk_at dksX1_wouldFeel_0 10 rfl rfl)
theorem dX1_wouldFeel_13 : decode cX1_wouldFeel 13 = .ok (.ldc_w 439, 3) := dk_19 1 183 (dk_at dksX1_wouldFeel_0 13 rfl rfl)
theorem dX1_wouldFeel_16 : decode cX1_wouldFeel 16 = .ok (.invokestatic 139, 3) := dk_184 0 139 (dk_at dksX1_wouldFeel_0 16 rfl rfl)
theorem dX1_wouldFeel_19 : decode cX1_wouldFeel 19 = .ok (.aload_n 3, 1) := dk_45 (dk_at dksX1_wouldFeel_0 19 rfl rfl)
theorem dX1_wouldFeel_20 : decode cX1_wouldFeel 20 = .ok (.getfield 201, 3) := dk_180 0 201 (dk_at dksX1_wouldFeel_0 20 rfl rfl)
theorem dX1_wouldFeel_23 : decode cX1_wouldFeel 23 = .ok (.aload_n 3, 1) := dk_45 (dk_at dksX1_wouldFeel_0 23 rfl rfl)
theorem dX1_wouldFeel_24 : decode cX1_wouldFeel 24 = .ok (.getfield 232, 3) := dk_180 0 232 (dk_at dksX1_wouldFeel_1 0 rfl rfl)
theorem dX1_wouldFeel_27 : decode cX1_wouldFeel 27 = .ok (.iload_n 2, 1) := dk_28 (dk_at dksX1_wouldFeel_1 3 rfl rfl)
theorem dX1_wouldFeel_28 : decode cX1_wouldFeel 28 = .ok (.invokevirtual 277, 3) := dk_182 1 21 (dk_at dksX1_wouldFeel_1 4 rfl rfl)
theorem dX1_wouldFeel_31 : decode cX1_wouldFeel 31 = .ok (.invokevirtual 273, 3) := dk_182 1 17 (dk_at dksX1_wouldFeel_1 7 rfl rfl)
theorem dX1_wouldFeel_34 : decode cX1_wouldFeel 34 = .ok (.ireturn, 1) := dk_172 (dk_at dksX1_wouldFeel_1 10 rfl rfl)
abbrev cX1_wouldBe : ByteArray := prog_1_method_57_code
def yX1_wouldBe : MethodName := ⟨RX1, "wouldBe", "(II)I"⟩
def dkwX1_wouldBe_0 : List UInt8 := [27, 184, 0, 127, 87, 28, 3, 6, 184, 0, 7, 19, 1, 144, 184, 0, 139, 42, 27, 28, 182, 1, 18, 172]
abbrev dktX1_wouldBe_0 : List UInt8 := dkwX1_wouldBe_0 ++ []
theorem dksX1_wouldBe_0 : cX1_wouldBe.data.toList.drop 0 = dktX1_wouldBe_0 := by decide +kernel
theorem dX1_wouldBe_0 : decode cX1_wouldBe 0 = .ok (.iload_n 1, 1) := dk_27 (dk_at dksX1_wouldBe_0 0 rfl rfl)
theorem dX1_wouldBe_1 : decode cX1_wouldBe 1 = .ok (.invokestatic 127, 3) := dk_184 0 127 (dk_at dksX1_wouldBe_0 1 rfl rfl)
theorem dX1_wouldBe_4 : decode cX1_wouldBe 4 = .ok (.pop, 1) := dk_87 (dk_at dksX1_wouldBe_0 4 rfl rfl)
theorem dX1_wouldBe_5 : decode cX1_wouldBe 5 = .ok (.iload_n 2, 1) := dk_28 (dk_at dksX1_wouldBe_0 5 rfl rfl)
theorem dX1_wouldBe_6 : decode cX1_wouldBe 6 = .ok (.iconst 0, 1) := dk_3 (dk_at dksX1_wouldBe_0 6 rfl rfl)
theorem dX1_wouldBe_7 : decode cX1_wouldBe 7 = .ok (.iconst 3, 1) := dk_6 (dk_at dksX1_wouldBe_0 7 rfl rfl)
theorem dX1_wouldBe_8 : decode cX1_wouldBe 8 = .ok (.invokestatic 7, 3) := dk_184 0 7 (dk_at dksX1_wouldBe_0 8 rfl rfl)
theorem dX1_wouldBe_11 : decode cX1_wouldBe 11 = .ok (.ldc_w 400, 3) := dk_19 1 144 (dk_at dksX1_wouldBe_0 11 rfl rfl)
theorem dX1_wouldBe_14 : decode cX1_wouldBe 14 = .ok (.invokestatic 139, 3) := dk_184 0 139 (dk_at dksX1_wouldBe_0 14 rfl rfl)
theorem dX1_wouldBe_17 : decode cX1_wouldBe 17 = .ok (.aload_n 0, 1) := dk_42 (dk_at dksX1_wouldBe_0 17 rfl rfl)
theorem dX1_wouldBe_18 : decode cX1_wouldBe 18 = .ok (.iload_n 1, 1) := dk_27 (dk_at dksX1_wouldBe_0 18 rfl rfl)
theorem dX1_wouldBe_19 : decode cX1_wouldBe 19 = .ok (.iload_n 2, 1) := dk_28 (dk_at dksX1_wouldBe_0 19 rfl rfl)
theorem dX1_wouldBe_20 : decode cX1_wouldBe 20 = .ok (.invokevirtual 274, 3) := dk_182 1 18 (dk_at dksX1_wouldBe_0 20 rfl rfl)
theorem dX1_wouldBe_23 : decode cX1_wouldBe 23 = .ok (.ireturn, 1) := dk_172 (dk_at dksX1_wouldBe_0 23 rfl rfl)
theorem q49 : (Jvm.Cond.initialized "Bumpward") ∈ lw_all := lw_g (lw_at lw_m1 1 rfl) rfl
theorem q88 : (Jvm.Cond.instantiable "Bumpward" (10 : Nat)) ∈ lw_all := lw_g (lw_at lw_m1 40 rfl) rfl
theorem q90 : (Jvm.Cond.instanceMethod ({ cls := "Bumpward", name := "<init>", desc := "()V" } : Jvm.MethodName)) ∈ lw_all := lw_g (lw_at lw_m1 42 rfl) rfl
theorem q91 : (Jvm.Cond.code ({ cls := "Bumpward", name := "<init>", desc := "()V" } : Jvm.MethodName) prog_1_method_6_code (2 : Nat) (Option.none : Option Jvm.ClassFile.FieldType)) ∈ lw_all := lw_g (lw_at lw_m1 43 rfl) rfl
theorem q92 : (Jvm.Cond.methodLink "Bumpward" (20 : Nat) ({ cls := "java/lang/Object", name := "<init>", desc := "()V" } : Jvm.MethodName)) ∈ lw_all := lw_g (lw_at lw_m1 44 rfl) rfl
theorem q95 : (Jvm.Cond.classLink "Bumpward" (26 : Nat) "Bumpward$Edge") ∈ lw_all := lw_g (lw_at lw_m1 47 rfl) rfl
theorem q97 : (Jvm.Cond.classLink "Bumpward" (39 : Nat) "java/util/ArrayList") ∈ lw_all := lw_g (lw_at lw_m1 49 rfl) rfl
theorem q99 : (Jvm.Cond.methodLink "Bumpward" (41 : Nat) ({ cls := "java/util/ArrayList", name := "<init>", desc := "()V" } : Jvm.MethodName)) ∈ lw_all := lw_g (lw_at lw_m1 51 rfl) rfl
theorem q127 : (Jvm.Cond.classLink "Bumpward" (46 : Nat) "Bumpward$Draws") ∈ lw_all := lw_g (lw_at lw_m1 79 rfl) rfl
theorem q129 : (Jvm.Cond.methodLinkNest "Bumpward" (48 : Nat) ({ cls := "Bumpward$Draws", name := "<init>", desc := "()V" } : Jvm.MethodName) "Bumpward") ∈ lw_tbl := lw_at lw_m1 81 rfl
theorem q140 : (Jvm.Cond.classLink "Bumpward" (53 : Nat) "Bumpward$Porter") ∈ lw_all := lw_g (lw_at lw_m1 92 rfl) rfl
theorem q142 : (Jvm.Cond.methodLinkNest "Bumpward" (55 : Nat) ({ cls := "Bumpward$Porter", name := "<init>", desc := "()V" } : Jvm.MethodName) "Bumpward") ∈ lw_tbl := lw_at lw_m1 94 rfl
theorem q151 : (Jvm.Cond.methodLinkNest "Bumpward" (60 : Nat) ({ cls := "Bumpward$Edge", name := "<init>", desc := "()V" } : Jvm.MethodName) "Bumpward") ∈ lw_tbl := lw_at lw_m1 103 rfl
theorem q158 : (Jvm.Cond.fieldLink "Bumpward" (153 : Nat) "Bumpward$Edge" "kind" "LBumpward$Kind;") ∈ lw_all := lw_g (lw_at lw_m1 110 rfl) rfl
theorem q160 : (Jvm.Cond.fieldLink "Bumpward" (332 : Nat) "Bumpward$Edge" "hours" "I") ∈ lw_all := lw_g (lw_at lw_m1 112 rfl) rfl
theorem q166 : (Jvm.Cond.fieldLink "Bumpward" (28 : Nat) "Bumpward" "edges" "[LBumpward$Edge;") ∈ lw_all := lw_g (lw_at lw_m1 118 rfl) rfl
theorem q167 : (Jvm.Cond.fieldLink "Bumpward" (32 : Nat) "Bumpward" "areCarpet" "[Z") ∈ lw_all := lw_g (lw_at lw_m1 119 rfl) rfl
theorem q168 : (Jvm.Cond.fieldLink "Bumpward" (36 : Nat) "Bumpward" "areBarred" "[Z") ∈ lw_all := lw_g (lw_at lw_m1 120 rfl) rfl
theorem q169 : (Jvm.Cond.fieldLink "Bumpward" (42 : Nat) "Bumpward" "walkers" "Ljava/util/ArrayList;") ∈ lw_all := lw_g (lw_at lw_m1 121 rfl) rfl
theorem q170 : (Jvm.Cond.fieldLink "Bumpward" (49 : Nat) "Bumpward" "draws" "LBumpward$Draws;") ∈ lw_all := lw_g (lw_at lw_m1 122 rfl) rfl
theorem q171 : (Jvm.Cond.fieldLink "Bumpward" (56 : Nat) "Bumpward" "porter" "LBumpward$Porter;") ∈ lw_all := lw_g (lw_at lw_m1 123 rfl) rfl
theorem q172 : (Jvm.Cond.fieldLink "Bumpward" (92 : Nat) "Bumpward" "minute" "I") ∈ lw_all := lw_g (lw_at lw_m1 124 rfl) rfl
theorem q173 : (Jvm.Cond.fieldLink "Bumpward" (310 : Nat) "Bumpward" "meetings" "I") ∈ lw_all := lw_g (lw_at lw_m1 125 rfl) rfl
theorem q174 : (Jvm.Cond.fieldLink "Bumpward" (313 : Nat) "Bumpward" "disputes" "I") ∈ lw_all := lw_g (lw_at lw_m1 126 rfl) rfl
theorem q175 : (Jvm.Cond.fieldLink "Bumpward" (446 : Nat) "Bumpward" "d" "J") ∈ lw_all := lw_g (lw_at lw_m1 127 rfl) rfl
theorem q176 : (Jvm.Cond.laysFinal "Bumpward" "Bumpward" "edges" "[LBumpward$Edge;") ∈ lw_all := lw_g (lw_at lw_m1 128 rfl) rfl
theorem q177 : (Jvm.Cond.soleField "Bumpward" "edges") ∈ lw_all := lw_g (lw_at lw_m1 129 rfl) rfl
theorem q178 : (Jvm.Cond.laysFinal "Bumpward" "Bumpward" "areCarpet" "[Z") ∈ lw_all := lw_g (lw_at lw_m1 130 rfl) rfl
theorem q179 : (Jvm.Cond.soleField "Bumpward" "areCarpet") ∈ lw_all := lw_g (lw_at lw_m1 131 rfl) rfl
theorem q180 : (Jvm.Cond.laysFinal "Bumpward" "Bumpward" "areBarred" "[Z") ∈ lw_all := lw_g (lw_at lw_m1 132 rfl) rfl
theorem q181 : (Jvm.Cond.soleField "Bumpward" "areBarred") ∈ lw_all := lw_g (lw_at lw_m1 133 rfl) rfl
theorem q182 : (Jvm.Cond.laysFinal "Bumpward" "Bumpward" "walkers" "Ljava/util/ArrayList;") ∈ lw_all := lw_g (lw_at lw_m1 134 rfl) rfl
theorem q183 : (Jvm.Cond.soleField "Bumpward" "walkers") ∈ lw_all := lw_g (lw_at lw_m1 135 rfl) rfl
theorem q184 : (Jvm.Cond.laysFinal "Bumpward" "Bumpward" "draws" "LBumpward$Draws;") ∈ lw_all := lw_g (lw_at lw_m1 136 rfl) rfl
theorem q185 : (Jvm.Cond.soleField "Bumpward" "draws") ∈ lw_all := lw_g (lw_at lw_m1 137 rfl) rfl
theorem q186 : (Jvm.Cond.laysFinal "Bumpward" "Bumpward" "porter" "LBumpward$Porter;") ∈ lw_all := lw_g (lw_at lw_m1 138 rfl) rfl
theorem q187 : (Jvm.Cond.soleField "Bumpward" "porter") ∈ lw_all := lw_g (lw_at lw_m1 139 rfl) rfl
theorem q188 : (Jvm.Cond.lays "Bumpward" "Bumpward" "minute" "I") ∈ lw_all := lw_g (lw_at lw_m1 140 rfl) rfl
theorem q189 : (Jvm.Cond.soleField "Bumpward" "minute") ∈ lw_all := lw_g (lw_at lw_m1 141 rfl) rfl
theorem q190 : (Jvm.Cond.lays "Bumpward" "Bumpward" "meetings" "I") ∈ lw_all := lw_g (lw_at lw_m1 142 rfl) rfl
theorem q191 : (Jvm.Cond.soleField "Bumpward" "meetings") ∈ lw_all := lw_g (lw_at lw_m1 143 rfl) rfl
theorem q192 : (Jvm.Cond.lays "Bumpward" "Bumpward" "disputes" "I") ∈ lw_all := lw_g (lw_at lw_m1 144 rfl) rfl
theorem q193 : (Jvm.Cond.soleField "Bumpward" "disputes") ∈ lw_all := lw_g (lw_at lw_m1 145 rfl) rfl
theorem q194 : (Jvm.Cond.lays "Bumpward" "Bumpward" "d" "J") ∈ lw_all := lw_g (lw_at lw_m1 146 rfl) rfl
theorem q195 : (Jvm.Cond.soleField "Bumpward" "d") ∈ lw_all := lw_g (lw_at lw_m1 147 rfl) rfl
theorem q196 : (Jvm.Cond.superclass "Bumpward" "java/lang/Object") ∈ lw_all := lw_g (lw_at lw_m1 148 rfl) rfl
theorem q198 : (Jvm.Cond.instanceMethod ({ cls := "Bumpward", name := "call", desc := "()I" } : Jvm.MethodName)) ∈ lw_all := lw_g (lw_at lw_m1 150 rfl) rfl
theorem q199 : (Jvm.Cond.selects "Bumpward" ({ cls := "Bumpward", name := "call", desc := "()I" } : Jvm.MethodName) ({ cls := "Bumpward", name := "call", desc := "()I" } : Jvm.MethodName)) ∈ lw_all := lw_g (lw_at lw_m1 151 rfl) rfl
theorem q200 : (Jvm.Cond.code ({ cls := "Bumpward", name := "call", desc := "()I" } : Jvm.MethodName) prog_1_method_35_code (1 : Nat) (Option.some Jvm.ClassFile.FieldType.int)) ∈ lw_all := lw_g (lw_at lw_m1 152 rfl) rfl
theorem q201 : (Jvm.Cond.methodLink "Bumpward" (326 : Nat) ({ cls := "Bumpward$Porter", name := "call", desc := "()I" } : Jvm.MethodName)) ∈ lw_all := lw_g (lw_at lw_m1 153 rfl) rfl
theorem q206 : (Jvm.Cond.instanceMethod ({ cls := "Bumpward", name := "isSound", desc := "()Z" } : Jvm.MethodName)) ∈ lw_all := lw_g (lw_at lw_m1 158 rfl) rfl
theorem q207 : (Jvm.Cond.selects "Bumpward" ({ cls := "Bumpward", name := "isSound", desc := "()Z" } : Jvm.MethodName) ({ cls := "Bumpward", name := "isSound", desc := "()Z" } : Jvm.MethodName)) ∈ lw_all := lw_g (lw_at lw_m1 159 rfl) rfl
theorem q208 : (Jvm.Cond.code ({ cls := "Bumpward", name := "isSound", desc := "()Z" } : Jvm.MethodName) prog_1_method_60_code (1 : Nat) (Option.some Jvm.ClassFile.FieldType.boolean)) ∈ lw_all := lw_g (lw_at lw_m1 160 rfl) rfl
theorem q209 : (Jvm.Cond.methodLink "Bumpward" (444 : Nat) ({ cls := "Bumpward", name := "isWhole", desc := "()Z" } : Jvm.MethodName)) ∈ lw_all := lw_g (lw_at lw_m1 161 rfl) rfl
theorem q210 : (Jvm.Cond.privateMethod ({ cls := "Bumpward", name := "isWhole", desc := "()Z" } : Jvm.MethodName)) ∈ lw_tbl := lw_at lw_m1 162 rfl
theorem q211 : (Jvm.Cond.instanceMethod ({ cls := "Bumpward", name := "isWhole", desc := "()Z" } : Jvm.MethodName)) ∈ lw_all := lw_g (lw_at lw_m1 163 rfl) rfl
theorem q212 : (Jvm.Cond.code ({ cls := "Bumpward", name := "isWhole", desc := "()Z" } : Jvm.MethodName) prog_1_method_59_code (3 : Nat) (Option.some Jvm.ClassFile.FieldType.boolean)) ∈ lw_all := lw_g (lw_at lw_m1 164 rfl) rfl
theorem q213 : (Jvm.Cond.methodLink "Bumpward" (283 : Nat) ({ cls := "java/util/ArrayList", name := "iterator", desc := "()Ljava/util/Iterator;" } : Jvm.MethodName)) ∈ lw_all := lw_g (lw_at lw_m1 165 rfl) rfl
theorem q236 : (Jvm.Cond.interfaceEntry "Bumpward" (287 : Nat)) ∈ lw_tbl := lw_at lw_m1 188 rfl
theorem q237 : (Jvm.Cond.methodLink "Bumpward" (287 : Nat) ({ cls := "java/util/Iterator", name := "hasNext", desc := "()Z" } : Jvm.MethodName)) ∈ lw_all := lw_g (lw_at lw_m1 189 rfl) rfl
theorem q246 : (Jvm.Cond.interfaceEntry "Bumpward" (292 : Nat)) ∈ lw_tbl := lw_at lw_m1 198 rfl
theorem q247 : (Jvm.Cond.methodLink "Bumpward" (292 : Nat) ({ cls := "java/util/Iterator", name := "next", desc := "()Ljava/lang/Object;" } : Jvm.MethodName)) ∈ lw_all := lw_g (lw_at lw_m1 199 rfl) rfl
theorem q259 : (Jvm.Cond.classLink "Bumpward" (90 : Nat) "Bumpward$Walker") ∈ lw_all := lw_g (lw_at lw_m1 211 rfl) rfl
theorem q260 : (Jvm.Cond.methodLink "Bumpward" (441 : Nat) ({ cls := "Bumpward", name := "isWhole", desc := "(LBumpward$Walker;)Z" } : Jvm.MethodName)) ∈ lw_all := lw_g (lw_at lw_m1 212 rfl) rfl
theorem q261 : (Jvm.Cond.privateMethod ({ cls := "Bumpward", name := "isWhole", desc := "(LBumpward$Walker;)Z" } : Jvm.MethodName)) ∈ lw_tbl := lw_at lw_m1 213 rfl
theorem q262 : (Jvm.Cond.instanceMethod ({ cls := "Bumpward", name := "isWhole", desc := "(LBumpward$Walker;)Z" } : Jvm.MethodName)) ∈ lw_all := lw_g (lw_at lw_m1 214 rfl) rfl
theorem q263 : (Jvm.Cond.code ({ cls := "Bumpward", name := "isWhole", desc := "(LBumpward$Walker;)Z" } : Jvm.MethodName) prog_1_method_58_code (3 : Nat) (Option.some Jvm.ClassFile.FieldType.boolean)) ∈ lw_all := lw_g (lw_at lw_m1 215 rfl) rfl
theorem q264 : (Jvm.Cond.methodLink "Bumpward" (345 : Nat) ({ cls := "Bumpward", name := "known", desc := "(LBumpward$Plan;Z)I" } : Jvm.MethodName)) ∈ lw_all := lw_g (lw_at lw_m1 216 rfl) rfl
theorem q265 : (Jvm.Cond.privateMethod ({ cls := "Bumpward", name := "known", desc := "(LBumpward$Plan;Z)I" } : Jvm.MethodName)) ∈ lw_tbl := lw_at lw_m1 217 rfl
theorem q266 : (Jvm.Cond.instanceMethod ({ cls := "Bumpward", name := "known", desc := "(LBumpward$Plan;Z)I" } : Jvm.MethodName)) ∈ lw_all := lw_g (lw_at lw_m1 218 rfl) rfl
theorem q267 : (Jvm.Cond.code ({ cls := "Bumpward", name := "known", desc := "(LBumpward$Plan;Z)I" } : Jvm.MethodName) prog_1_method_38_code (5 : Nat) (Option.some Jvm.ClassFile.FieldType.int)) ∈ lw_all := lw_g (lw_at lw_m1 219 rfl) rfl
theorem q268 : (Jvm.Cond.methodLink "Bumpward" (341 : Nat) ({ cls := "Bumpward$Plan", name := "of", desc := "(I)I" } : Jvm.MethodName)) ∈ lw_all := lw_g (lw_at lw_m1 220 rfl) rfl
theorem q272 : (Jvm.Cond.methodLink "Bumpward" (120 : Nat) ({ cls := "Bumpward", name := "hour", desc := "()I" } : Jvm.MethodName)) ∈ lw_all := lw_g (lw_at lw_m1 224 rfl) rfl
theorem q273 : (Jvm.Cond.privateMethod ({ cls := "Bumpward", name := "hour", desc := "()I" } : Jvm.MethodName)) ∈ lw_tbl := lw_at lw_m1 225 rfl
theorem q274 : (Jvm.Cond.instanceMethod ({ cls := "Bumpward", name := "hour", desc := "()I" } : Jvm.MethodName)) ∈ lw_all := lw_g (lw_at lw_m1 226 rfl) rfl
theorem q275 : (Jvm.Cond.code ({ cls := "Bumpward", name := "hour", desc := "()I" } : Jvm.MethodName) prog_1_method_13_code (1 : Nat) (Option.some Jvm.ClassFile.FieldType.int)) ∈ lw_all := lw_g (lw_at lw_m1 227 rfl) rfl
theorem q276 : (Jvm.Cond.methodLink "Bumpward" (123 : Nat) ({ cls := "Bumpward$Edge", name := "isShut", desc := "(I)Z" } : Jvm.MethodName)) ∈ lw_all := lw_g (lw_at lw_m1 228 rfl) rfl
theorem q291 : (Jvm.Cond.methodLink "Bumpward" (3 : Nat) ({ cls := "Bumpward", name := "one", desc := "(Z)I" } : Jvm.MethodName)) ∈ lw_all := lw_g (lw_at lw_m2 3 rfl) rfl
theorem q292 : (Jvm.Cond.static ({ cls := "Bumpward", name := "one", desc := "(Z)I" } : Jvm.MethodName)) ∈ lw_all := lw_g (lw_at lw_m2 4 rfl) rfl
theorem q293 : (Jvm.Cond.code ({ cls := "Bumpward", name := "one", desc := "(Z)I" } : Jvm.MethodName) prog_1_method_1_code (1 : Nat) (Option.some Jvm.ClassFile.FieldType.int)) ∈ lw_all := lw_g (lw_at lw_m2 5 rfl) rfl
theorem q294 : (Jvm.Cond.methodLink "Bumpward" (343 : Nat) ({ cls := "Bumpward$Plan", name := "count", desc := "(I)I" } : Jvm.MethodName)) ∈ lw_all := lw_g (lw_at lw_m2 6 rfl) rfl
theorem q299 : (Jvm.Cond.methodLink "Bumpward" (273 : Nat) ({ cls := "Bumpward$Belief", name := "size", desc := "()I" } : Jvm.MethodName)) ∈ lw_all := lw_g (lw_at lw_m2 11 rfl) rfl
theorem q304 : (Jvm.Cond.methodLink "Bumpward" (7 : Nat) ({ cls := "Bumpward", name := "isIn", desc := "(III)Z" } : Jvm.MethodName)) ∈ lw_all := lw_g (lw_at lw_m2 16 rfl) rfl
theorem q305 : (Jvm.Cond.static ({ cls := "Bumpward", name := "isIn", desc := "(III)Z" } : Jvm.MethodName)) ∈ lw_all := lw_g (lw_at lw_m2 17 rfl) rfl
theorem q306 : (Jvm.Cond.code ({ cls := "Bumpward", name := "isIn", desc := "(III)Z" } : Jvm.MethodName) prog_1_method_2_code (3 : Nat) (Option.some Jvm.ClassFile.FieldType.boolean)) ∈ lw_all := lw_g (lw_at lw_m2 18 rfl) rfl
theorem q308 : (Jvm.Cond.instanceMethod ({ cls := "Bumpward", name := "digest", desc := "()J" } : Jvm.MethodName)) ∈ lw_all := lw_g (lw_at lw_m2 20 rfl) rfl
theorem q309 : (Jvm.Cond.selects "Bumpward" ({ cls := "Bumpward", name := "digest", desc := "()J" } : Jvm.MethodName) ({ cls := "Bumpward", name := "digest", desc := "()J" } : Jvm.MethodName)) ∈ lw_all := lw_g (lw_at lw_m2 21 rfl) rfl
theorem q310 : (Jvm.Cond.code ({ cls := "Bumpward", name := "digest", desc := "()J" } : Jvm.MethodName) prog_1_method_63_code (4 : Nat) (Option.some Jvm.ClassFile.FieldType.long)) ∈ lw_all := lw_g (lw_at lw_m2 22 rfl) rfl
theorem q311 : (Jvm.Cond.constantLong "Bumpward" (457 : Nat) (58286 : Int64)) ∈ lw_all := lw_g (lw_at lw_m2 23 rfl) rfl
theorem q312 : (Jvm.Cond.methodLink "Bumpward" (367 : Nat) ({ cls := "Bumpward", name := "houseTold", desc := "(I)I" } : Jvm.MethodName)) ∈ lw_all := lw_g (lw_at lw_m2 24 rfl) rfl
theorem q313 : (Jvm.Cond.privateMethod ({ cls := "Bumpward", name := "houseTold", desc := "(I)I" } : Jvm.MethodName)) ∈ lw_tbl := lw_at lw_m2 25 rfl
theorem q314 : (Jvm.Cond.instanceMethod ({ cls := "Bumpward", name := "houseTold", desc := "(I)I" } : Jvm.MethodName)) ∈ lw_all := lw_g (lw_at lw_m2 26 rfl) rfl
theorem q315 : (Jvm.Cond.code ({ cls := "Bumpward", name := "houseTold", desc := "(I)I" } : Jvm.MethodName) prog_1_method_42_code (2 : Nat) (Option.some Jvm.ClassFile.FieldType.int)) ∈ lw_all := lw_g (lw_at lw_m2 27 rfl) rfl
theorem q316 : (Jvm.Cond.fieldLink "Bumpward" (159 : Nat) "Bumpward$Kind" "WALL" "LBumpward$Kind;") ∈ lw_all := lw_g (lw_at lw_m2 28 rfl) rfl
theorem q318 : (Jvm.Cond.methodLink "Bumpward" (165 : Nat) ({ cls := "Bumpward", name := "count", desc := "(LBumpward$Kind;)I" } : Jvm.MethodName)) ∈ lw_all := lw_g (lw_at lw_m2 30 rfl) rfl
theorem q319 : (Jvm.Cond.privateMethod ({ cls := "Bumpward", name := "count", desc := "(LBumpward$Kind;)I" } : Jvm.MethodName)) ∈ lw_tbl := lw_at lw_m2 31 rfl
theorem q320 : (Jvm.Cond.instanceMethod ({ cls := "Bumpward", name := "count", desc := "(LBumpward$Kind;)I" } : Jvm.MethodName)) ∈ lw_all := lw_g (lw_at lw_m2 32 rfl) rfl
theorem q321 : (Jvm.Cond.code ({ cls := "Bumpward", name := "count", desc := "(LBumpward$Kind;)I" } : Jvm.MethodName) prog_1_method_17_code (7 : Nat) (Option.some Jvm.ClassFile.FieldType.int)) ∈ lw_all := lw_g (lw_at lw_m2 33 rfl) rfl
theorem q322 : (Jvm.Cond.fieldLink "Bumpward" (355 : Nat) "Bumpward$Kind" "DOOR" "LBumpward$Kind;") ∈ lw_all := lw_g (lw_at lw_m2 34 rfl) rfl
theorem q324 : (Jvm.Cond.methodLink "Bumpward" (358 : Nat) ({ cls := "Bumpward", name := "openDoors", desc := "()I" } : Jvm.MethodName)) ∈ lw_all := lw_g (lw_at lw_m2 36 rfl) rfl
theorem q325 : (Jvm.Cond.privateMethod ({ cls := "Bumpward", name := "openDoors", desc := "()I" } : Jvm.MethodName)) ∈ lw_tbl := lw_at lw_m2 37 rfl
theorem q326 : (Jvm.Cond.instanceMethod ({ cls := "Bumpward", name := "openDoors", desc := "()I" } : Jvm.MethodName)) ∈ lw_all := lw_g (lw_at lw_m2 38 rfl) rfl
theorem q327 : (Jvm.Cond.code ({ cls := "Bumpward", name := "openDoors", desc := "()I" } : Jvm.MethodName) prog_1_method_41_code (6 : Nat) (Option.some Jvm.ClassFile.FieldType.int)) ∈ lw_all := lw_g (lw_at lw_m2 39 rfl) rfl
theorem q328 : (Jvm.Cond.methodLink "Bumpward" (169 : Nat) ({ cls := "Bumpward", name := "count", desc := "([Z)I" } : Jvm.MethodName)) ∈ lw_all := lw_g (lw_at lw_m2 40 rfl) rfl
theorem q329 : (Jvm.Cond.static ({ cls := "Bumpward", name := "count", desc := "([Z)I" } : Jvm.MethodName)) ∈ lw_all := lw_g (lw_at lw_m2 41 rfl) rfl
theorem q330 : (Jvm.Cond.code ({ cls := "Bumpward", name := "count", desc := "([Z)I" } : Jvm.MethodName) prog_1_method_19_code (6 : Nat) (Option.some Jvm.ClassFile.FieldType.int)) ∈ lw_all := lw_g (lw_at lw_m2 42 rfl) rfl
theorem q331 : (Jvm.Cond.methodLink "Bumpward" (80 : Nat) ({ cls := "java/util/ArrayList", name := "size", desc := "()I" } : Jvm.MethodName)) ∈ lw_all := lw_g (lw_at lw_m2 43 rfl) rfl
theorem q335 : (Jvm.Cond.methodLink "Bumpward" (361 : Nat) ({ cls := "Bumpward$Draws", name := "many", desc := "()I" } : Jvm.MethodName)) ∈ lw_all := lw_g (lw_at lw_m2 47 rfl) rfl
theorem q339 : (Jvm.Cond.methodLink "Bumpward" (364 : Nat) ({ cls := "Bumpward$Porter", name := "refused", desc := "()I" } : Jvm.MethodName)) ∈ lw_all := lw_g (lw_at lw_m2 51 rfl) rfl
theorem q343 : (Jvm.Cond.methodLink "Bumpward" (452 : Nat) ({ cls := "Bumpward", name := "add", desc := "(J)V" } : Jvm.MethodName)) ∈ lw_all := lw_g (lw_at lw_m2 55 rfl) rfl
theorem q344 : (Jvm.Cond.privateMethod ({ cls := "Bumpward", name := "add", desc := "(J)V" } : Jvm.MethodName)) ∈ lw_tbl := lw_at lw_m2 56 rfl
theorem q345 : (Jvm.Cond.instanceMethod ({ cls := "Bumpward", name := "add", desc := "(J)V" } : Jvm.MethodName)) ∈ lw_all := lw_g (lw_at lw_m2 57 rfl) rfl
theorem q346 : (Jvm.Cond.code ({ cls := "Bumpward", name := "add", desc := "(J)V" } : Jvm.MethodName) prog_1_method_61_code (3 : Nat) (Option.none : Option Jvm.ClassFile.FieldType)) ∈ lw_all := lw_g (lw_at lw_m2 58 rfl) rfl
theorem q347 : (Jvm.Cond.constantLong "Bumpward" (450 : Nat) (31 : Int64)) ∈ lw_all := lw_g (lw_at lw_m2 59 rfl) rfl
theorem q348 : (Jvm.Cond.methodLink "Bumpward" (337 : Nat) ({ cls := "Bumpward", name := "told", desc := "(III)I" } : Jvm.MethodName)) ∈ lw_all := lw_g (lw_at lw_m2 60 rfl) rfl
theorem q349 : (Jvm.Cond.privateMethod ({ cls := "Bumpward", name := "told", desc := "(III)I" } : Jvm.MethodName)) ∈ lw_tbl := lw_at lw_m2 61 rfl
theorem q350 : (Jvm.Cond.instanceMethod ({ cls := "Bumpward", name := "told", desc := "(III)I" } : Jvm.MethodName)) ∈ lw_all := lw_g (lw_at lw_m2 62 rfl) rfl
theorem q351 : (Jvm.Cond.code ({ cls := "Bumpward", name := "told", desc := "(III)I" } : Jvm.MethodName) prog_1_method_36_code (5 : Nat) (Option.some Jvm.ClassFile.FieldType.int)) ∈ lw_all := lw_g (lw_at lw_m2 63 rfl) rfl
theorem q352 : (Jvm.Cond.methodLink "Bumpward" (109 : Nat) ({ cls := "Bumpward", name := "edge", desc := "(II)Ljava/util/Optional;" } : Jvm.MethodName)) ∈ lw_all := lw_g (lw_at lw_m2 64 rfl) rfl
theorem q353 : (Jvm.Cond.privateMethod ({ cls := "Bumpward", name := "edge", desc := "(II)Ljava/util/Optional;" } : Jvm.MethodName)) ∈ lw_tbl := lw_at lw_m2 65 rfl
theorem q354 : (Jvm.Cond.instanceMethod ({ cls := "Bumpward", name := "edge", desc := "(II)Ljava/util/Optional;" } : Jvm.MethodName)) ∈ lw_all := lw_g (lw_at lw_m2 66 rfl) rfl
theorem q355 : (Jvm.Cond.code ({ cls := "Bumpward", name := "edge", desc := "(II)Ljava/util/Optional;" } : Jvm.MethodName) prog_1_method_14_code (3 : Nat) (Option.some (Jvm.ClassFile.FieldType.object "java/util/Optional"))) ∈ lw_all := lw_g (lw_at lw_m2 67 rfl) rfl
theorem q356 : (Jvm.Cond.methodLink "Bumpward" (96 : Nat) ({ cls := "Bumpward", name := "edgeAt", desc := "(II)I" } : Jvm.MethodName)) ∈ lw_all := lw_g (lw_at lw_m2 68 rfl) rfl
theorem q357 : (Jvm.Cond.static ({ cls := "Bumpward", name := "edgeAt", desc := "(II)I" } : Jvm.MethodName)) ∈ lw_all := lw_g (lw_at lw_m2 69 rfl) rfl
theorem q358 : (Jvm.Cond.code ({ cls := "Bumpward", name := "edgeAt", desc := "(II)I" } : Jvm.MethodName) prog_1_method_4_code (6 : Nat) (Option.some Jvm.ClassFile.FieldType.int)) ∈ lw_all := lw_g (lw_at lw_m2 70 rfl) rfl
theorem q359 : (Jvm.Cond.methodLink "Bumpward" (11 : Nat) ({ cls := "Bumpward", name := "beside", desc := "(II)I" } : Jvm.MethodName)) ∈ lw_all := lw_g (lw_at lw_m2 71 rfl) rfl
theorem q360 : (Jvm.Cond.static ({ cls := "Bumpward", name := "beside", desc := "(II)I" } : Jvm.MethodName)) ∈ lw_all := lw_g (lw_at lw_m2 72 rfl) rfl
theorem q361 : (Jvm.Cond.code ({ cls := "Bumpward", name := "beside", desc := "(II)I" } : Jvm.MethodName) prog_1_method_3_code (4 : Nat) (Option.some Jvm.ClassFile.FieldType.int)) ∈ lw_all := lw_g (lw_at lw_m2 73 rfl) rfl
theorem q362 : (Jvm.Cond.methodLink "Bumpward" (15 : Nat) ({ cls := "java/lang/Math", name := "min", desc := "(II)I" } : Jvm.MethodName)) ∈ lw_all := lw_g (lw_at lw_m2 74 rfl) rfl
theorem q365 : (Jvm.Cond.methodLink "Bumpward" (99 : Nat) ({ cls := "java/util/Optional", name := "empty", desc := "()Ljava/util/Optional;" } : Jvm.MethodName)) ∈ lw_all := lw_g (lw_at lw_m2 77 rfl) rfl
theorem q370 : (Jvm.Cond.methodLink "Bumpward" (105 : Nat) ({ cls := "java/util/Optional", name := "of", desc := "(Ljava/lang/Object;)Ljava/util/Optional;" } : Jvm.MethodName)) ∈ lw_all := lw_g (lw_at lw_m2 82 rfl) rfl
theorem q386 : (Jvm.Cond.methodLink "Bumpward" (229 : Nat) ({ cls := "Bumpward", name := "isShut", desc := "(II)Z" } : Jvm.MethodName)) ∈ lw_all := lw_g (lw_at lw_m2 98 rfl) rfl
theorem q387 : (Jvm.Cond.privateMethod ({ cls := "Bumpward", name := "isShut", desc := "(II)Z" } : Jvm.MethodName)) ∈ lw_tbl := lw_at lw_m2 99 rfl
theorem q388 : (Jvm.Cond.instanceMethod ({ cls := "Bumpward", name := "isShut", desc := "(II)Z" } : Jvm.MethodName)) ∈ lw_all := lw_g (lw_at lw_m2 100 rfl) rfl
theorem q389 : (Jvm.Cond.code ({ cls := "Bumpward", name := "isShut", desc := "(II)Z" } : Jvm.MethodName) prog_1_method_15_code (4 : Nat) (Option.some Jvm.ClassFile.FieldType.boolean)) ∈ lw_all := lw_g (lw_at lw_m2 101 rfl) rfl
theorem q390 : (Jvm.Cond.methodLink "Bumpward" (113 : Nat) ({ cls := "java/util/Optional", name := "isEmpty", desc := "()Z" } : Jvm.MethodName)) ∈ lw_all := lw_g (lw_at lw_m2 102 rfl) rfl
theorem q394 : (Jvm.Cond.methodLink "Bumpward" (117 : Nat) ({ cls := "java/util/Optional", name := "get", desc := "()Ljava/lang/Object;" } : Jvm.MethodName)) ∈ lw_all := lw_g (lw_at lw_m2 106 rfl) rfl
theorem q398 : (Jvm.Cond.methodLink "Bumpward" (329 : Nat) ({ cls := "Bumpward$Kind", name := "ordinal", desc := "()I" } : Jvm.MethodName)) ∈ lw_all := lw_g (lw_at lw_m2 110 rfl) rfl
theorem q406 : (Jvm.Cond.methodLink "Bumpward" (459 : Nat) ({ cls := "Bumpward", name := "addWalker", desc := "(LBumpward$Walker;)V" } : Jvm.MethodName)) ∈ lw_all := lw_g (lw_at lw_m2 118 rfl) rfl
theorem q407 : (Jvm.Cond.privateMethod ({ cls := "Bumpward", name := "addWalker", desc := "(LBumpward$Walker;)V" } : Jvm.MethodName)) ∈ lw_tbl := lw_at lw_m2 119 rfl
theorem q408 : (Jvm.Cond.instanceMethod ({ cls := "Bumpward", name := "addWalker", desc := "(LBumpward$Walker;)V" } : Jvm.MethodName)) ∈ lw_all := lw_g (lw_at lw_m2 120 rfl) rfl
theorem q409 : (Jvm.Cond.code ({ cls := "Bumpward", name := "addWalker", desc := "(LBumpward$Walker;)V" } : Jvm.MethodName) prog_1_method_62_code (6 : Nat) (Option.none : Option Jvm.ClassFile.FieldType)) ∈ lw_all := lw_g (lw_at lw_m2 121 rfl) rfl
theorem q410 : (Jvm.Cond.methodLink "Bumpward" (352 : Nat) ({ cls := "Bumpward", name := "told", desc := "(LBumpward$Walker;I)I" } : Jvm.MethodName)) ∈ lw_all := lw_g (lw_at lw_m2 122 rfl) rfl
theorem q411 : (Jvm.Cond.privateMethod ({ cls := "Bumpward", name := "told", desc := "(LBumpward$Walker;I)I" } : Jvm.MethodName)) ∈ lw_tbl := lw_at lw_m2 123 rfl
theorem q412 : (Jvm.Cond.instanceMethod ({ cls := "Bumpward", name := "told", desc := "(LBumpward$Walker;I)I" } : Jvm.MethodName)) ∈ lw_all := lw_g (lw_at lw_m2 124 rfl) rfl
theorem q413 : (Jvm.Cond.code ({ cls := "Bumpward", name := "told", desc := "(LBumpward$Walker;I)I" } : Jvm.MethodName) prog_1_method_39_code (3 : Nat) (Option.some Jvm.ClassFile.FieldType.int)) ∈ lw_all := lw_g (lw_at lw_m2 125 rfl) rfl
theorem q414 : (Jvm.Cond.methodLink "Bumpward" (195 : Nat) ({ cls := "Bumpward$Walker", name := "isSure", desc := "()Z" } : Jvm.MethodName)) ∈ lw_all := lw_g (lw_at lw_m2 126 rfl) rfl
theorem q423 : (Jvm.Cond.methodLink "Bumpward" (401 : Nat) ({ cls := "Bumpward$Belief", name := "cells", desc := "(I)J" } : Jvm.MethodName)) ∈ lw_all := lw_g (lw_at lw_m2 135 rfl) rfl
theorem q427 : (Jvm.Cond.methodLink "Bumpward" (418 : Nat) ({ cls := "Bumpward", name := "safetyTold", desc := "(LBumpward$Walker;I)I" } : Jvm.MethodName)) ∈ lw_all := lw_g (lw_at lw_m2 139 rfl) rfl
theorem q428 : (Jvm.Cond.static ({ cls := "Bumpward", name := "safetyTold", desc := "(LBumpward$Walker;I)I" } : Jvm.MethodName)) ∈ lw_all := lw_g (lw_at lw_m2 140 rfl) rfl
theorem q429 : (Jvm.Cond.code ({ cls := "Bumpward", name := "safetyTold", desc := "(LBumpward$Walker;I)I" } : Jvm.MethodName) prog_1_method_50_code (2 : Nat) (Option.some Jvm.ClassFile.FieldType.int)) ∈ lw_all := lw_g (lw_at lw_m2 141 rfl) rfl
theorem q430 : (Jvm.Cond.methodLink "Bumpward" (409 : Nat) ({ cls := "Bumpward$Walker", name := "comingHome", desc := "()I" } : Jvm.MethodName)) ∈ lw_all := lw_g (lw_at lw_m2 142 rfl) rfl
theorem q458 : (Jvm.Cond.methodLink "Bumpward" (412 : Nat) ({ cls := "Bumpward$Walker", name := "cost", desc := "()I" } : Jvm.MethodName)) ∈ lw_all := lw_g (lw_at lw_m2 170 rfl) rfl
theorem q463 : (Jvm.Cond.methodLink "Bumpward" (187 : Nat) ({ cls := "Bumpward$Walker", name := "isSafe", desc := "()Z" } : Jvm.MethodName)) ∈ lw_all := lw_g (lw_at lw_m2 175 rfl) rfl
theorem q468 : (Jvm.Cond.methodLink "Bumpward" (415 : Nat) ({ cls := "Bumpward$Walker", name := "goal", desc := "()I" } : Jvm.MethodName)) ∈ lw_all := lw_g (lw_at lw_m2 180 rfl) rfl
theorem q476 : (Jvm.Cond.methodLink "Bumpward" (433 : Nat) ({ cls := "Bumpward$Walker", name := "worst", desc := "(I)I" } : Jvm.MethodName)) ∈ lw_all := lw_g (lw_at lw_m2 188 rfl) rfl
theorem q511 : (Jvm.Cond.methodLink "Bumpward" (436 : Nat) ({ cls := "Bumpward$Walker", name := "best", desc := "()I" } : Jvm.MethodName)) ∈ lw_all := lw_g (lw_at lw_m2 223 rfl) rfl
theorem q516 : (Jvm.Cond.methodLink "Bumpward" (429 : Nat) ({ cls := "Bumpward", name := "doubt", desc := "(LBumpward$Walker;)D" } : Jvm.MethodName)) ∈ lw_all := lw_g (lw_at lw_m2 228 rfl) rfl
theorem q517 : (Jvm.Cond.static ({ cls := "Bumpward", name := "doubt", desc := "(LBumpward$Walker;)D" } : Jvm.MethodName)) ∈ lw_all := lw_g (lw_at lw_m2 229 rfl) rfl
theorem q518 : (Jvm.Cond.code ({ cls := "Bumpward", name := "doubt", desc := "(LBumpward$Walker;)D" } : Jvm.MethodName) prog_1_method_52_code (5 : Nat) (Option.some Jvm.ClassFile.FieldType.double)) ∈ lw_all := lw_g (lw_at lw_m2 230 rfl) rfl
theorem q519 : (Jvm.Cond.methodLink "Bumpward" (421 : Nat) ({ cls := "java/lang/Long", name := "bitCount", desc := "(J)I" } : Jvm.MethodName)) ∈ lw_all := lw_g (lw_at lw_m2 231 rfl) rfl
theorem q525 : (Jvm.Cond.constantDouble "Bumpward" (427 : Nat) (4630263366890291200 : UInt64)) ∈ lw_all := lw_g (lw_at lw_m2 237 rfl) rfl
theorem q526 : (Jvm.Cond.constantDouble "Bumpward" (455 : Nat) (4634204016564240384 : UInt64)) ∈ lw_all := lw_g (lw_at lw_m2 238 rfl) rfl
theorem q527 : (Jvm.Cond.methodLink "Bumpward" (393 : Nat) ({ cls := "Bumpward$Plan", name := "at", desc := "(II)I" } : Jvm.MethodName)) ∈ lw_all := lw_g (lw_at lw_m2 239 rfl) rfl
theorem q626 : (Jvm.Cond.instanceMethod ({ cls := "Bumpward", name := "edge", desc := "(IIII)I" } : Jvm.MethodName)) ∈ lw_all := lw_g (lw_at lw_m3 98 rfl) rfl
theorem q627 : (Jvm.Cond.selects "Bumpward" ({ cls := "Bumpward", name := "edge", desc := "(IIII)I" } : Jvm.MethodName) ({ cls := "Bumpward", name := "edge", desc := "(IIII)I" } : Jvm.MethodName)) ∈ lw_all := lw_g (lw_at lw_m3 99 rfl) rfl
theorem q628 : (Jvm.Cond.code ({ cls := "Bumpward", name := "edge", desc := "(IIII)I" } : Jvm.MethodName) prog_1_method_16_code (6 : Nat) (Option.some Jvm.ClassFile.FieldType.int)) ∈ lw_all := lw_g (lw_at lw_m3 100 rfl) rfl
theorem q629 : (Jvm.Cond.methodLink "Bumpward" (127 : Nat) ({ cls := "Bumpward", name := "cellOf", desc := "(I)I" } : Jvm.MethodName)) ∈ lw_all := lw_g (lw_at lw_m3 101 rfl) rfl
theorem q630 : (Jvm.Cond.static ({ cls := "Bumpward", name := "cellOf", desc := "(I)I" } : Jvm.MethodName)) ∈ lw_all := lw_g (lw_at lw_m3 102 rfl) rfl
theorem q631 : (Jvm.Cond.code ({ cls := "Bumpward", name := "cellOf", desc := "(I)I" } : Jvm.MethodName) prog_1_method_10_code (1 : Nat) (Option.some Jvm.ClassFile.FieldType.int)) ∈ lw_all := lw_g (lw_at lw_m3 103 rfl) rfl
theorem q632 : (Jvm.Cond.stringRef "Bumpward" (72 : Nat) "cell") ∈ lw_tbl := lw_at lw_m3 104 rfl
theorem q633 : (Jvm.Cond.methodLink "Bumpward" (74 : Nat) ({ cls := "Bumpward", name := "index", desc := "(IILjava/lang/String;)I" } : Jvm.MethodName)) ∈ lw_all := lw_g (lw_at lw_m3 105 rfl) rfl
theorem q634 : (Jvm.Cond.static ({ cls := "Bumpward", name := "index", desc := "(IILjava/lang/String;)I" } : Jvm.MethodName)) ∈ lw_all := lw_g (lw_at lw_m3 106 rfl) rfl
theorem q635 : (Jvm.Cond.code ({ cls := "Bumpward", name := "index", desc := "(IILjava/lang/String;)I" } : Jvm.MethodName) prog_1_method_9_code (3 : Nat) (Option.some Jvm.ClassFile.FieldType.int)) ∈ lw_all := lw_g (lw_at lw_m3 107 rfl) rfl
theorem q636 : (Jvm.Cond.classLink "Bumpward" (69 : Nat) "java/lang/IndexOutOfBoundsException") ∈ lw_all := lw_g (lw_at lw_m3 108 rfl) rfl
theorem q645 : (Jvm.Cond.methodLink "Bumpward" (71 : Nat) ({ cls := "java/lang/IndexOutOfBoundsException", name := "<init>", desc := "(Ljava/lang/String;)V" } : Jvm.MethodName)) ∈ lw_all := lw_g (lw_at lw_m3 117 rfl) rfl
theorem q648 : (Jvm.Cond.methodLink "Bumpward" (131 : Nat) ({ cls := "Bumpward", name := "sideOf", desc := "(I)I" } : Jvm.MethodName)) ∈ lw_all := lw_g (lw_at lw_m3 120 rfl) rfl
theorem q649 : (Jvm.Cond.static ({ cls := "Bumpward", name := "sideOf", desc := "(I)I" } : Jvm.MethodName)) ∈ lw_all := lw_g (lw_at lw_m3 121 rfl) rfl
theorem q650 : (Jvm.Cond.code ({ cls := "Bumpward", name := "sideOf", desc := "(I)I" } : Jvm.MethodName) prog_1_method_11_code (1 : Nat) (Option.some Jvm.ClassFile.FieldType.int)) ∈ lw_all := lw_g (lw_at lw_m3 122 rfl) rfl
theorem q651 : (Jvm.Cond.stringRef "Bumpward" (78 : Nat) "side") ∈ lw_tbl := lw_at lw_m3 123 rfl
theorem q652 : (Jvm.Cond.methodLink "Bumpward" (134 : Nat) ({ cls := "java/util/Optional", name := "isPresent", desc := "()Z" } : Jvm.MethodName)) ∈ lw_all := lw_g (lw_at lw_m3 124 rfl) rfl
theorem q656 : (Jvm.Cond.constant "Bumpward" (137 : Nat) (16777215 : Int32)) ∈ lw_all := lw_g (lw_at lw_m3 128 rfl) rfl
theorem q657 : (Jvm.Cond.stringRef "Bumpward" (138 : Nat) "edge") ∈ lw_tbl := lw_at lw_m3 129 rfl
theorem q658 : (Jvm.Cond.methodLink "Bumpward" (139 : Nat) ({ cls := "Bumpward", name := "check", desc := "(ZLjava/lang/String;)V" } : Jvm.MethodName)) ∈ lw_all := lw_g (lw_at lw_m3 130 rfl) rfl
theorem q659 : (Jvm.Cond.static ({ cls := "Bumpward", name := "check", desc := "(ZLjava/lang/String;)V" } : Jvm.MethodName)) ∈ lw_all := lw_g (lw_at lw_m3 131 rfl) rfl
theorem q660 : (Jvm.Cond.code ({ cls := "Bumpward", name := "check", desc := "(ZLjava/lang/String;)V" } : Jvm.MethodName) prog_1_method_7_code (2 : Nat) (Option.none : Option Jvm.ClassFile.FieldType)) ∈ lw_all := lw_g (lw_at lw_m3 132 rfl) rfl
theorem q661 : (Jvm.Cond.classLink "Bumpward" (61 : Nat) "java/lang/IllegalArgumentException") ∈ lw_all := lw_g (lw_at lw_m3 133 rfl) rfl
theorem q670 : (Jvm.Cond.methodLink "Bumpward" (63 : Nat) ({ cls := "java/lang/IllegalArgumentException", name := "<init>", desc := "(Ljava/lang/String;)V" } : Jvm.MethodName)) ∈ lw_all := lw_g (lw_at lw_m3 142 rfl) rfl
theorem q676 : (Jvm.Cond.methodLink "Bumpward" (143 : Nat) ({ cls := "Bumpward$Kind", name := "values", desc := "()[LBumpward$Kind;" } : Jvm.MethodName)) ∈ lw_all := lw_g (lw_at lw_m3 148 rfl) rfl
theorem q689 : (Jvm.Cond.methodLink "Bumpward" (149 : Nat) ({ cls := "Bumpward$Edge", name := "tell", desc := "(LBumpward$Kind;I)I" } : Jvm.MethodName)) ∈ lw_all := lw_g (lw_at lw_m3 161 rfl) rfl
theorem q699 : (Jvm.Cond.instanceMethod ({ cls := "Bumpward", name := "lay", desc := "(I)I" } : Jvm.MethodName)) ∈ lw_all := lw_g (lw_at lw_m3 171 rfl) rfl
theorem q700 : (Jvm.Cond.selects "Bumpward" ({ cls := "Bumpward", name := "lay", desc := "(I)I" } : Jvm.MethodName) ({ cls := "Bumpward", name := "lay", desc := "(I)I" } : Jvm.MethodName)) ∈ lw_all := lw_g (lw_at lw_m3 172 rfl) rfl
theorem q701 : (Jvm.Cond.code ({ cls := "Bumpward", name := "lay", desc := "(I)I" } : Jvm.MethodName) prog_1_method_18_code (6 : Nat) (Option.some Jvm.ClassFile.FieldType.int)) ∈ lw_all := lw_g (lw_at lw_m3 173 rfl) rfl
theorem q702 : (Jvm.Cond.stringRef "Bumpward" (157 : Nat) "seed") ∈ lw_tbl := lw_at lw_m3 174 rfl
theorem q703 : (Jvm.Cond.fieldLink "Bumpward" (162 : Nat) "Bumpward$Kind" "FREE" "LBumpward$Kind;") ∈ lw_all := lw_g (lw_at lw_m3 175 rfl) rfl
theorem q708 : (Jvm.Cond.instanceMethod ({ cls := "Bumpward", name := "cell", desc := "(IZZ)I" } : Jvm.MethodName)) ∈ lw_all := lw_g (lw_at lw_m3 180 rfl) rfl
theorem q709 : (Jvm.Cond.selects "Bumpward" ({ cls := "Bumpward", name := "cell", desc := "(IZZ)I" } : Jvm.MethodName) ({ cls := "Bumpward", name := "cell", desc := "(IZZ)I" } : Jvm.MethodName)) ∈ lw_all := lw_g (lw_at lw_m3 181 rfl) rfl
theorem q710 : (Jvm.Cond.code ({ cls := "Bumpward", name := "cell", desc := "(IZZ)I" } : Jvm.MethodName) prog_1_method_20_code (4 : Nat) (Option.some Jvm.ClassFile.FieldType.int)) ∈ lw_all := lw_g (lw_at lw_m3 182 rfl) rfl
theorem q716 : (Jvm.Cond.instanceMethod ({ cls := "Bumpward", name := "walker", desc := "(IIIZ)I" } : Jvm.MethodName)) ∈ lw_all := lw_g (lw_at lw_m3 188 rfl) rfl
theorem q717 : (Jvm.Cond.selects "Bumpward" ({ cls := "Bumpward", name := "walker", desc := "(IIIZ)I" } : Jvm.MethodName) ({ cls := "Bumpward", name := "walker", desc := "(IIIZ)I" } : Jvm.MethodName)) ∈ lw_all := lw_g (lw_at lw_m3 189 rfl) rfl
theorem q718 : (Jvm.Cond.code ({ cls := "Bumpward", name := "walker", desc := "(IIIZ)I" } : Jvm.MethodName) prog_1_method_21_code (5 : Nat) (Option.some Jvm.ClassFile.FieldType.int)) ∈ lw_all := lw_g (lw_at lw_m3 190 rfl) rfl
theorem q719 : (Jvm.Cond.stringRef "Bumpward" (84 : Nat) "walker") ∈ lw_tbl := lw_at lw_m3 191 rfl
theorem q720 : (Jvm.Cond.stringRef "Bumpward" (172 : Nat) "full") ∈ lw_tbl := lw_at lw_m3 192 rfl
theorem q721 : (Jvm.Cond.methodLink "Bumpward" (174 : Nat) ({ cls := "Bumpward", name := "state", desc := "(ZLjava/lang/String;)V" } : Jvm.MethodName)) ∈ lw_all := lw_g (lw_at lw_m3 193 rfl) rfl
theorem q722 : (Jvm.Cond.static ({ cls := "Bumpward", name := "state", desc := "(ZLjava/lang/String;)V" } : Jvm.MethodName)) ∈ lw_all := lw_g (lw_at lw_m3 194 rfl) rfl
theorem q723 : (Jvm.Cond.code ({ cls := "Bumpward", name := "state", desc := "(ZLjava/lang/String;)V" } : Jvm.MethodName) prog_1_method_8_code (2 : Nat) (Option.none : Option Jvm.ClassFile.FieldType)) ∈ lw_all := lw_g (lw_at lw_m3 195 rfl) rfl
theorem q724 : (Jvm.Cond.classLink "Bumpward" (66 : Nat) "java/lang/IllegalStateException") ∈ lw_all := lw_g (lw_at lw_m3 196 rfl) rfl
theorem q733 : (Jvm.Cond.methodLink "Bumpward" (68 : Nat) ({ cls := "java/lang/IllegalStateException", name := "<init>", desc := "(Ljava/lang/String;)V" } : Jvm.MethodName)) ∈ lw_all := lw_g (lw_at lw_m3 205 rfl) rfl
theorem q740 : (Jvm.Cond.methodLink "Bumpward" (177 : Nat) ({ cls := "Bumpward$Walker", name := "<init>", desc := "(IIIZ)V" } : Jvm.MethodName)) ∈ lw_all := lw_g (lw_at lw_m3 212 rfl) rfl
theorem q760 : (Jvm.Cond.fieldLink "Bumpward" (370 : Nat) "Bumpward$Walker" "number" "I") ∈ lw_all := lw_g (lw_at lw_m3 232 rfl) rfl
theorem q762 : (Jvm.Cond.fieldLink "Bumpward" (299 : Nat) "Bumpward$Walker" "home" "I") ∈ lw_all := lw_g (lw_at lw_m3 234 rfl) rfl
theorem q764 : (Jvm.Cond.fieldLink "Bumpward" (232 : Nat) "Bumpward$Walker" "plan" "LBumpward$Plan;") ∈ lw_all := lw_g (lw_at lw_m3 236 rfl) rfl
theorem q766 : (Jvm.Cond.fieldLink "Bumpward" (258 : Nat) "Bumpward$Walker" "pose" "I") ∈ lw_all := lw_g (lw_at lw_m3 238 rfl) rfl
theorem q768 : (Jvm.Cond.fieldLink "Bumpward" (184 : Nat) "Bumpward$Walker" "charge" "I") ∈ lw_all := lw_g (lw_at lw_m4 0 rfl) rfl
theorem q770 : (Jvm.Cond.fieldLink "Bumpward" (201 : Nat) "Bumpward$Walker" "belief" "LBumpward$Belief;") ∈ lw_all := lw_g (lw_at lw_m4 2 rfl) rfl
theorem q772 : (Jvm.Cond.fieldLink "Bumpward" (349 : Nat) "Bumpward$Walker" "lost" "I") ∈ lw_all := lw_g (lw_at lw_m4 4 rfl) rfl
theorem q773 : (Jvm.Cond.fieldLink "Bumpward" (192 : Nat) "Bumpward$Walker" "acts" "I") ∈ lw_all := lw_g (lw_at lw_m4 5 rfl) rfl
theorem q774 : (Jvm.Cond.fieldLink "Bumpward" (249 : Nat) "Bumpward$Walker" "bumps" "I") ∈ lw_all := lw_g (lw_at lw_m4 6 rfl) rfl
theorem q775 : (Jvm.Cond.fieldLink "Bumpward" (255 : Nat) "Bumpward$Walker" "slips" "I") ∈ lw_all := lw_g (lw_at lw_m4 7 rfl) rfl
theorem q797 : (Jvm.Cond.methodLink "Bumpward" (180 : Nat) ({ cls := "java/util/ArrayList", name := "add", desc := "(Ljava/lang/Object;)Z" } : Jvm.MethodName)) ∈ lw_all := lw_g (lw_at lw_m4 29 rfl) rfl
theorem q827 : (Jvm.Cond.selects "Bumpward" ({ cls := "java/lang/Object", name := "getClass", desc := "()Ljava/lang/Class;" } : Jvm.MethodName) ({ cls := "java/lang/Object", name := "getClass", desc := "()Ljava/lang/Class;" } : Jvm.MethodName)) ∈ lw_all := lw_g (lw_at lw_m4 59 rfl) rfl
theorem q866 : (Jvm.Cond.instanceMethod ({ cls := "Bumpward", name := "forward", desc := "(IZ)Z" } : Jvm.MethodName)) ∈ lw_all := lw_g (lw_at lw_m4 98 rfl) rfl
theorem q867 : (Jvm.Cond.selects "Bumpward" ({ cls := "Bumpward", name := "forward", desc := "(IZ)Z" } : Jvm.MethodName) ({ cls := "Bumpward", name := "forward", desc := "(IZ)Z" } : Jvm.MethodName)) ∈ lw_all := lw_g (lw_at lw_m4 99 rfl) rfl
theorem q868 : (Jvm.Cond.code ({ cls := "Bumpward", name := "forward", desc := "(IZ)Z" } : Jvm.MethodName) prog_1_method_25_code (5 : Nat) (Option.some Jvm.ClassFile.FieldType.boolean)) ∈ lw_all := lw_g (lw_at lw_m4 100 rfl) rfl
theorem q869 : (Jvm.Cond.methodLink "Bumpward" (210 : Nat) ({ cls := "Bumpward", name := "walkerOf", desc := "(I)LBumpward$Walker;" } : Jvm.MethodName)) ∈ lw_all := lw_g (lw_at lw_m4 101 rfl) rfl
theorem q870 : (Jvm.Cond.privateMethod ({ cls := "Bumpward", name := "walkerOf", desc := "(I)LBumpward$Walker;" } : Jvm.MethodName)) ∈ lw_tbl := lw_at lw_m4 102 rfl
theorem q871 : (Jvm.Cond.instanceMethod ({ cls := "Bumpward", name := "walkerOf", desc := "(I)LBumpward$Walker;" } : Jvm.MethodName)) ∈ lw_all := lw_g (lw_at lw_m4 103 rfl) rfl
theorem q872 : (Jvm.Cond.code ({ cls := "Bumpward", name := "walkerOf", desc := "(I)LBumpward$Walker;" } : Jvm.MethodName) prog_1_method_12_code (2 : Nat) (Option.some (Jvm.ClassFile.FieldType.object "Bumpward$Walker"))) ∈ lw_all := lw_g (lw_at lw_m4 104 rfl) rfl
theorem q873 : (Jvm.Cond.methodLink "Bumpward" (86 : Nat) ({ cls := "java/util/ArrayList", name := "get", desc := "(I)Ljava/lang/Object;" } : Jvm.MethodName)) ∈ lw_all := lw_g (lw_at lw_m4 105 rfl) rfl
theorem q887 : (Jvm.Cond.methodLink "Bumpward" (214 : Nat) ({ cls := "Bumpward", name := "checkAct", desc := "(LBumpward$Walker;Z)V" } : Jvm.MethodName)) ∈ lw_all := lw_g (lw_at lw_m4 119 rfl) rfl
theorem q888 : (Jvm.Cond.privateMethod ({ cls := "Bumpward", name := "checkAct", desc := "(LBumpward$Walker;Z)V" } : Jvm.MethodName)) ∈ lw_tbl := lw_at lw_m4 120 rfl
theorem q889 : (Jvm.Cond.instanceMethod ({ cls := "Bumpward", name := "checkAct", desc := "(LBumpward$Walker;Z)V" } : Jvm.MethodName)) ∈ lw_all := lw_g (lw_at lw_m4 121 rfl) rfl
theorem q890 : (Jvm.Cond.code ({ cls := "Bumpward", name := "checkAct", desc := "(LBumpward$Walker;Z)V" } : Jvm.MethodName) prog_1_method_22_code (3 : Nat) (Option.none : Option Jvm.ClassFile.FieldType)) ∈ lw_all := lw_g (lw_at lw_m4 122 rfl) rfl
theorem q891 : (Jvm.Cond.stringRef "Bumpward" (190 : Nat) "act") ∈ lw_tbl := lw_at lw_m4 123 rfl
theorem q892 : (Jvm.Cond.methodLink "Bumpward" (218 : Nat) ({ cls := "Bumpward", name := "isBarredAhead", desc := "(LBumpward$Walker;)Z" } : Jvm.MethodName)) ∈ lw_all := lw_g (lw_at lw_m4 124 rfl) rfl
theorem q893 : (Jvm.Cond.privateMethod ({ cls := "Bumpward", name := "isBarredAhead", desc := "(LBumpward$Walker;)Z" } : Jvm.MethodName)) ∈ lw_tbl := lw_at lw_m4 125 rfl
theorem q894 : (Jvm.Cond.instanceMethod ({ cls := "Bumpward", name := "isBarredAhead", desc := "(LBumpward$Walker;)Z" } : Jvm.MethodName)) ∈ lw_all := lw_g (lw_at lw_m4 126 rfl) rfl
theorem q895 : (Jvm.Cond.code ({ cls := "Bumpward", name := "isBarredAhead", desc := "(LBumpward$Walker;)Z" } : Jvm.MethodName) prog_1_method_24_code (3 : Nat) (Option.some Jvm.ClassFile.FieldType.boolean)) ∈ lw_all := lw_g (lw_at lw_m4 127 rfl) rfl
theorem q896 : (Jvm.Cond.methodLink "Bumpward" (198 : Nat) ({ cls := "Bumpward$Walker", name := "sureCell", desc := "()I" } : Jvm.MethodName)) ∈ lw_all := lw_g (lw_at lw_m4 128 rfl) rfl
theorem q897 : (Jvm.Cond.methodLink "Bumpward" (205 : Nat) ({ cls := "Bumpward$Belief", name := "first", desc := "()I" } : Jvm.MethodName)) ∈ lw_all := lw_g (lw_at lw_m4 129 rfl) rfl
theorem q898 : (Jvm.Cond.stringRef "Bumpward" (222 : Nat) "barred") ∈ lw_tbl := lw_at lw_m4 130 rfl
theorem q899 : (Jvm.Cond.methodLink "Bumpward" (224 : Nat) ({ cls := "Bumpward$Walker", name := "cell", desc := "()I" } : Jvm.MethodName)) ∈ lw_all := lw_g (lw_at lw_m4 131 rfl) rfl
theorem q903 : (Jvm.Cond.methodLink "Bumpward" (226 : Nat) ({ cls := "Bumpward$Walker", name := "facing", desc := "()I" } : Jvm.MethodName)) ∈ lw_all := lw_g (lw_at lw_m4 135 rfl) rfl
theorem q907 : (Jvm.Cond.methodLink "Bumpward" (236 : Nat) ({ cls := "Bumpward$Plan", name := "tell", desc := "(IIZ)V" } : Jvm.MethodName)) ∈ lw_all := lw_g (lw_at lw_m4 139 rfl) rfl
theorem q911 : (Jvm.Cond.methodLink "Bumpward" (241 : Nat) ({ cls := "Bumpward$Belief", name := "forward", desc := "(LBumpward$Plan;Z)LBumpward$Belief;" } : Jvm.MethodName)) ∈ lw_all := lw_g (lw_at lw_m4 143 rfl) rfl
theorem q912 : (Jvm.Cond.methodLink "Bumpward" (245 : Nat) ({ cls := "Bumpward$Walker", name := "believe", desc := "(LBumpward$Belief;)V" } : Jvm.MethodName)) ∈ lw_all := lw_g (lw_at lw_m4 144 rfl) rfl
theorem q916 : (Jvm.Cond.methodLink "Bumpward" (252 : Nat) ({ cls := "Bumpward$Draws", name := "draw", desc := "()I" } : Jvm.MethodName)) ∈ lw_all := lw_g (lw_at lw_m4 148 rfl) rfl
theorem q920 : (Jvm.Cond.methodLink "Bumpward" (261 : Nat) ({ cls := "Bumpward", name := "end", desc := "(LBumpward$Walker;)V" } : Jvm.MethodName)) ∈ lw_all := lw_g (lw_at lw_m4 152 rfl) rfl
theorem q921 : (Jvm.Cond.privateMethod ({ cls := "Bumpward", name := "end", desc := "(LBumpward$Walker;)V" } : Jvm.MethodName)) ∈ lw_tbl := lw_at lw_m4 153 rfl
theorem q922 : (Jvm.Cond.instanceMethod ({ cls := "Bumpward", name := "end", desc := "(LBumpward$Walker;)V" } : Jvm.MethodName)) ∈ lw_all := lw_g (lw_at lw_m4 154 rfl) rfl
theorem q923 : (Jvm.Cond.code ({ cls := "Bumpward", name := "end", desc := "(LBumpward$Walker;)V" } : Jvm.MethodName) prog_1_method_23_code (2 : Nat) (Option.none : Option Jvm.ClassFile.FieldType)) ∈ lw_all := lw_g (lw_at lw_m4 155 rfl) rfl
theorem q928 : (Jvm.Cond.instanceMethod ({ cls := "Bumpward", name := "turn", desc := "(IZZ)I" } : Jvm.MethodName)) ∈ lw_all := lw_g (lw_at lw_m4 160 rfl) rfl
theorem q929 : (Jvm.Cond.selects "Bumpward" ({ cls := "Bumpward", name := "turn", desc := "(IZZ)I" } : Jvm.MethodName) ({ cls := "Bumpward", name := "turn", desc := "(IZZ)I" } : Jvm.MethodName)) ∈ lw_all := lw_g (lw_at lw_m4 161 rfl) rfl
theorem q930 : (Jvm.Cond.code ({ cls := "Bumpward", name := "turn", desc := "(IZZ)I" } : Jvm.MethodName) prog_1_method_26_code (5 : Nat) (Option.some Jvm.ClassFile.FieldType.int)) ∈ lw_all := lw_g (lw_at lw_m4 162 rfl) rfl
theorem q931 : (Jvm.Cond.methodLink "Bumpward" (265 : Nat) ({ cls := "Bumpward", name := "turn", desc := "(IZ)I" } : Jvm.MethodName)) ∈ lw_all := lw_g (lw_at lw_m4 163 rfl) rfl
theorem q932 : (Jvm.Cond.static ({ cls := "Bumpward", name := "turn", desc := "(IZ)I" } : Jvm.MethodName)) ∈ lw_all := lw_g (lw_at lw_m4 164 rfl) rfl
theorem q933 : (Jvm.Cond.code ({ cls := "Bumpward", name := "turn", desc := "(IZ)I" } : Jvm.MethodName) prog_1_method_5_code (2 : Nat) (Option.some Jvm.ClassFile.FieldType.int)) ∈ lw_all := lw_g (lw_at lw_m4 165 rfl) rfl
theorem q934 : (Jvm.Cond.methodLink "Bumpward" (269 : Nat) ({ cls := "Bumpward$Belief", name := "turned", desc := "(Z)LBumpward$Belief;" } : Jvm.MethodName)) ∈ lw_all := lw_g (lw_at lw_m4 166 rfl) rfl
theorem q943 : (Jvm.Cond.instanceMethod ({ cls := "Bumpward", name := "feel", desc := "(IZ)I" } : Jvm.MethodName)) ∈ lw_all := lw_g (lw_at lw_m4 175 rfl) rfl
theorem q944 : (Jvm.Cond.selects "Bumpward" ({ cls := "Bumpward", name := "feel", desc := "(IZ)I" } : Jvm.MethodName) ({ cls := "Bumpward", name := "feel", desc := "(IZ)I" } : Jvm.MethodName)) ∈ lw_all := lw_g (lw_at lw_m4 176 rfl) rfl
theorem q945 : (Jvm.Cond.code ({ cls := "Bumpward", name := "feel", desc := "(IZ)I" } : Jvm.MethodName) prog_1_method_28_code (6 : Nat) (Option.some Jvm.ClassFile.FieldType.int)) ∈ lw_all := lw_g (lw_at lw_m4 177 rfl) rfl
theorem q946 : (Jvm.Cond.methodLink "Bumpward" (274 : Nat) ({ cls := "Bumpward", name := "felt", desc := "(II)I" } : Jvm.MethodName)) ∈ lw_all := lw_g (lw_at lw_m4 178 rfl) rfl
theorem q947 : (Jvm.Cond.privateMethod ({ cls := "Bumpward", name := "felt", desc := "(II)I" } : Jvm.MethodName)) ∈ lw_tbl := lw_at lw_m4 179 rfl
theorem q948 : (Jvm.Cond.instanceMethod ({ cls := "Bumpward", name := "felt", desc := "(II)I" } : Jvm.MethodName)) ∈ lw_all := lw_g (lw_at lw_m4 180 rfl) rfl
theorem q949 : (Jvm.Cond.code ({ cls := "Bumpward", name := "felt", desc := "(II)I" } : Jvm.MethodName) prog_1_method_27_code (5 : Nat) (Option.some Jvm.ClassFile.FieldType.int)) ∈ lw_all := lw_g (lw_at lw_m4 181 rfl) rfl
theorem q950 : (Jvm.Cond.methodLink "Bumpward" (277 : Nat) ({ cls := "Bumpward$Belief", name := "felt", desc := "(LBumpward$Plan;I)LBumpward$Belief;" } : Jvm.MethodName)) ∈ lw_all := lw_g (lw_at lw_m4 182 rfl) rfl
theorem q955 : (Jvm.Cond.instanceMethod ({ cls := "Bumpward", name := "listen", desc := "(IZ)I" } : Jvm.MethodName)) ∈ lw_all := lw_g (lw_at lw_m4 187 rfl) rfl
theorem q956 : (Jvm.Cond.selects "Bumpward" ({ cls := "Bumpward", name := "listen", desc := "(IZ)I" } : Jvm.MethodName) ({ cls := "Bumpward", name := "listen", desc := "(IZ)I" } : Jvm.MethodName)) ∈ lw_all := lw_g (lw_at lw_m4 188 rfl) rfl
theorem q957 : (Jvm.Cond.code ({ cls := "Bumpward", name := "listen", desc := "(IZ)I" } : Jvm.MethodName) prog_1_method_30_code (7 : Nat) (Option.some Jvm.ClassFile.FieldType.int)) ∈ lw_all := lw_g (lw_at lw_m4 189 rfl) rfl
theorem q958 : (Jvm.Cond.methodLink "Bumpward" (295 : Nat) ({ cls := "Bumpward", name := "apart", desc := "(II)I" } : Jvm.MethodName)) ∈ lw_all := lw_g (lw_at lw_m4 190 rfl) rfl
theorem q959 : (Jvm.Cond.static ({ cls := "Bumpward", name := "apart", desc := "(II)I" } : Jvm.MethodName)) ∈ lw_all := lw_g (lw_at lw_m4 191 rfl) rfl
theorem q960 : (Jvm.Cond.code ({ cls := "Bumpward", name := "apart", desc := "(II)I" } : Jvm.MethodName) prog_1_method_29_code (2 : Nat) (Option.some Jvm.ClassFile.FieldType.int)) ∈ lw_all := lw_g (lw_at lw_m4 192 rfl) rfl
theorem q961 : (Jvm.Cond.methodLink "Bumpward" (280 : Nat) ({ cls := "java/lang/Math", name := "abs", desc := "(I)I" } : Jvm.MethodName)) ∈ lw_all := lw_g (lw_at lw_m4 193 rfl) rfl
theorem q968 : (Jvm.Cond.instanceMethod ({ cls := "Bumpward", name := "charge", desc := "(II)I" } : Jvm.MethodName)) ∈ lw_all := lw_g (lw_at lw_m4 200 rfl) rfl
theorem q969 : (Jvm.Cond.selects "Bumpward" ({ cls := "Bumpward", name := "charge", desc := "(II)I" } : Jvm.MethodName) ({ cls := "Bumpward", name := "charge", desc := "(II)I" } : Jvm.MethodName)) ∈ lw_all := lw_g (lw_at lw_m4 201 rfl) rfl
theorem q970 : (Jvm.Cond.code ({ cls := "Bumpward", name := "charge", desc := "(II)I" } : Jvm.MethodName) prog_1_method_31_code (5 : Nat) (Option.some Jvm.ClassFile.FieldType.int)) ∈ lw_all := lw_g (lw_at lw_m4 202 rfl) rfl
theorem q971 : (Jvm.Cond.stringRef "Bumpward" (298 : Nat) "charge") ∈ lw_tbl := lw_at lw_m4 203 rfl
theorem q972 : (Jvm.Cond.stringRef "Bumpward" (302 : Nat) "not at home") ∈ lw_tbl := lw_at lw_m4 204 rfl
theorem q977 : (Jvm.Cond.instanceMethod ({ cls := "Bumpward", name := "tellPose", desc := "(I)I" } : Jvm.MethodName)) ∈ lw_all := lw_g (lw_at lw_m4 209 rfl) rfl
theorem q978 : (Jvm.Cond.selects "Bumpward" ({ cls := "Bumpward", name := "tellPose", desc := "(I)I" } : Jvm.MethodName) ({ cls := "Bumpward", name := "tellPose", desc := "(I)I" } : Jvm.MethodName)) ∈ lw_all := lw_g (lw_at lw_m4 210 rfl) rfl
theorem q979 : (Jvm.Cond.code ({ cls := "Bumpward", name := "tellPose", desc := "(I)I" } : Jvm.MethodName) prog_1_method_32_code (4 : Nat) (Option.some Jvm.ClassFile.FieldType.int)) ∈ lw_all := lw_g (lw_at lw_m4 211 rfl) rfl
theorem q980 : (Jvm.Cond.methodLink "Bumpward" (304 : Nat) ({ cls := "Bumpward$Belief", name := "of", desc := "(I)LBumpward$Belief;" } : Jvm.MethodName)) ∈ lw_all := lw_g (lw_at lw_m4 212 rfl) rfl
theorem q985 : (Jvm.Cond.instanceMethod ({ cls := "Bumpward", name := "meet", desc := "(II)I" } : Jvm.MethodName)) ∈ lw_all := lw_g (lw_at lw_m4 217 rfl) rfl
theorem q986 : (Jvm.Cond.selects "Bumpward" ({ cls := "Bumpward", name := "meet", desc := "(II)I" } : Jvm.MethodName) ({ cls := "Bumpward", name := "meet", desc := "(II)I" } : Jvm.MethodName)) ∈ lw_all := lw_g (lw_at lw_m4 218 rfl) rfl
theorem q987 : (Jvm.Cond.code ({ cls := "Bumpward", name := "meet", desc := "(II)I" } : Jvm.MethodName) prog_1_method_33_code (6 : Nat) (Option.some Jvm.ClassFile.FieldType.int)) ∈ lw_all := lw_g (lw_at lw_m4 219 rfl) rfl
theorem q988 : (Jvm.Cond.stringRef "Bumpward" (307 : Nat) "walkers") ∈ lw_tbl := lw_at lw_m4 220 rfl
theorem q989 : (Jvm.Cond.stringRef "Bumpward" (308 : Nat) "not met") ∈ lw_tbl := lw_at lw_m4 221 rfl
theorem q990 : (Jvm.Cond.methodLink "Bumpward" (316 : Nat) ({ cls := "Bumpward$Plan", name := "disputes", desc := "(LBumpward$Plan;)I" } : Jvm.MethodName)) ∈ lw_all := lw_g (lw_at lw_m4 222 rfl) rfl
theorem q994 : (Jvm.Cond.methodLink "Bumpward" (319 : Nat) ({ cls := "Bumpward$Plan", name := "learn", desc := "(LBumpward$Plan;)I" } : Jvm.MethodName)) ∈ lw_all := lw_g (lw_at lw_m4 226 rfl) rfl
theorem q1002 : (Jvm.Cond.instanceMethod ({ cls := "Bumpward", name := "pass", desc := "(I)I" } : Jvm.MethodName)) ∈ lw_all := lw_g (lw_at lw_m4 234 rfl) rfl
theorem q1003 : (Jvm.Cond.selects "Bumpward" ({ cls := "Bumpward", name := "pass", desc := "(I)I" } : Jvm.MethodName) ({ cls := "Bumpward", name := "pass", desc := "(I)I" } : Jvm.MethodName)) ∈ lw_all := lw_g (lw_at lw_m4 235 rfl) rfl
theorem q1004 : (Jvm.Cond.code ({ cls := "Bumpward", name := "pass", desc := "(I)I" } : Jvm.MethodName) prog_1_method_34_code (2 : Nat) (Option.some Jvm.ClassFile.FieldType.int)) ∈ lw_all := lw_g (lw_at lw_m4 236 rfl) rfl
theorem q1005 : (Jvm.Cond.stringRef "Bumpward" (322 : Nat) "minutes") ∈ lw_tbl := lw_at lw_m4 237 rfl
theorem q1006 : (Jvm.Cond.stringRef "Bumpward" (324 : Nat) "over") ∈ lw_tbl := lw_at lw_m4 238 rfl
theorem q1011 : (Jvm.Cond.instanceMethod ({ cls := "Bumpward", name := "ofEdge", desc := "(III)I" } : Jvm.MethodName)) ∈ lw_all := lw_g (lw_at lw_m5 3 rfl) rfl
theorem q1012 : (Jvm.Cond.selects "Bumpward" ({ cls := "Bumpward", name := "ofEdge", desc := "(III)I" } : Jvm.MethodName) ({ cls := "Bumpward", name := "ofEdge", desc := "(III)I" } : Jvm.MethodName)) ∈ lw_all := lw_g (lw_at lw_m5 4 rfl) rfl
theorem q1013 : (Jvm.Cond.code ({ cls := "Bumpward", name := "ofEdge", desc := "(III)I" } : Jvm.MethodName) prog_1_method_37_code (4 : Nat) (Option.some Jvm.ClassFile.FieldType.int)) ∈ lw_all := lw_g (lw_at lw_m5 5 rfl) rfl
theorem q1014 : (Jvm.Cond.stringRef "Bumpward" (335 : Nat) "what") ∈ lw_tbl := lw_at lw_m5 6 rfl
theorem q1019 : (Jvm.Cond.instanceMethod ({ cls := "Bumpward", name := "ofWalker", desc := "(II)I" } : Jvm.MethodName)) ∈ lw_all := lw_g (lw_at lw_m5 11 rfl) rfl
theorem q1020 : (Jvm.Cond.selects "Bumpward" ({ cls := "Bumpward", name := "ofWalker", desc := "(II)I" } : Jvm.MethodName) ({ cls := "Bumpward", name := "ofWalker", desc := "(II)I" } : Jvm.MethodName)) ∈ lw_all := lw_g (lw_at lw_m5 12 rfl) rfl
theorem q1021 : (Jvm.Cond.code ({ cls := "Bumpward", name := "ofWalker", desc := "(II)I" } : Jvm.MethodName) prog_1_method_40_code (4 : Nat) (Option.some Jvm.ClassFile.FieldType.int)) ∈ lw_all := lw_g (lw_at lw_m5 13 rfl) rfl
theorem q1026 : (Jvm.Cond.instanceMethod ({ cls := "Bumpward", name := "house", desc := "(I)I" } : Jvm.MethodName)) ∈ lw_all := lw_g (lw_at lw_m5 18 rfl) rfl
theorem q1027 : (Jvm.Cond.selects "Bumpward" ({ cls := "Bumpward", name := "house", desc := "(I)I" } : Jvm.MethodName) ({ cls := "Bumpward", name := "house", desc := "(I)I" } : Jvm.MethodName)) ∈ lw_all := lw_g (lw_at lw_m5 19 rfl) rfl
theorem q1028 : (Jvm.Cond.code ({ cls := "Bumpward", name := "house", desc := "(I)I" } : Jvm.MethodName) prog_1_method_43_code (2 : Nat) (Option.some Jvm.ClassFile.FieldType.int)) ∈ lw_all := lw_g (lw_at lw_m5 20 rfl) rfl
theorem q1033 : (Jvm.Cond.instanceMethod ({ cls := "Bumpward", name := "row", desc := "(I)Ljava/lang/String;" } : Jvm.MethodName)) ∈ lw_all := lw_g (lw_at lw_m5 25 rfl) rfl
theorem q1034 : (Jvm.Cond.selects "Bumpward" ({ cls := "Bumpward", name := "row", desc := "(I)Ljava/lang/String;" } : Jvm.MethodName) ({ cls := "Bumpward", name := "row", desc := "(I)Ljava/lang/String;" } : Jvm.MethodName)) ∈ lw_all := lw_g (lw_at lw_m5 26 rfl) rfl
theorem q1035 : (Jvm.Cond.code ({ cls := "Bumpward", name := "row", desc := "(I)Ljava/lang/String;" } : Jvm.MethodName) prog_1_method_45_code (5 : Nat) (Option.some (Jvm.ClassFile.FieldType.object "java/lang/String"))) ∈ lw_all := lw_g (lw_at lw_m5 27 rfl) rfl
theorem q1036 : (Jvm.Cond.stringRef "Bumpward" (373 : Nat) "row") ∈ lw_tbl := lw_at lw_m5 28 rfl
theorem q1037 : (Jvm.Cond.classLink "Bumpward" (375 : Nat) "java/lang/StringBuilder") ∈ lw_all := lw_g (lw_at lw_m5 29 rfl) rfl
theorem q1039 : (Jvm.Cond.methodLink "Bumpward" (377 : Nat) ({ cls := "java/lang/StringBuilder", name := "<init>", desc := "()V" } : Jvm.MethodName)) ∈ lw_all := lw_g (lw_at lw_m5 31 rfl) rfl
theorem q1068 : (Jvm.Cond.methodLink "Bumpward" (378 : Nat) ({ cls := "Bumpward", name := "sign", desc := "(I)C" } : Jvm.MethodName)) ∈ lw_all := lw_g (lw_at lw_m5 60 rfl) rfl
theorem q1069 : (Jvm.Cond.privateMethod ({ cls := "Bumpward", name := "sign", desc := "(I)C" } : Jvm.MethodName)) ∈ lw_tbl := lw_at lw_m5 61 rfl
theorem q1070 : (Jvm.Cond.instanceMethod ({ cls := "Bumpward", name := "sign", desc := "(I)C" } : Jvm.MethodName)) ∈ lw_all := lw_g (lw_at lw_m5 62 rfl) rfl
theorem q1071 : (Jvm.Cond.code ({ cls := "Bumpward", name := "sign", desc := "(I)C" } : Jvm.MethodName) prog_1_method_44_code (4 : Nat) (Option.some Jvm.ClassFile.FieldType.char)) ∈ lw_all := lw_g (lw_at lw_m5 63 rfl) rfl
theorem q1072 : (Jvm.Cond.methodLink "Bumpward" (382 : Nat) ({ cls := "java/lang/StringBuilder", name := "append", desc := "(C)Ljava/lang/StringBuilder;" } : Jvm.MethodName)) ∈ lw_all := lw_g (lw_at lw_m5 64 rfl) rfl
theorem q1148 : (Jvm.Cond.methodLink "Bumpward" (389 : Nat) ({ cls := "java/lang/StringBuilder", name := "toString", desc := "()Ljava/lang/String;" } : Jvm.MethodName)) ∈ lw_all := lw_g (lw_at lw_m5 140 rfl) rfl
theorem q1285 : (Jvm.Cond.instanceMethod ({ cls := "Bumpward", name := "map", desc := "(III)I" } : Jvm.MethodName)) ∈ lw_all := lw_g (lw_at lw_m6 37 rfl) rfl
theorem q1286 : (Jvm.Cond.selects "Bumpward" ({ cls := "Bumpward", name := "map", desc := "(III)I" } : Jvm.MethodName) ({ cls := "Bumpward", name := "map", desc := "(III)I" } : Jvm.MethodName)) ∈ lw_all := lw_g (lw_at lw_m6 38 rfl) rfl
theorem q1287 : (Jvm.Cond.code ({ cls := "Bumpward", name := "map", desc := "(III)I" } : Jvm.MethodName) prog_1_method_46_code (5 : Nat) (Option.some Jvm.ClassFile.FieldType.int)) ∈ lw_all := lw_g (lw_at lw_m6 39 rfl) rfl
theorem q1292 : (Jvm.Cond.instanceMethod ({ cls := "Bumpward", name := "may", desc := "(II)Z" } : Jvm.MethodName)) ∈ lw_all := lw_g (lw_at lw_m6 44 rfl) rfl
theorem q1293 : (Jvm.Cond.selects "Bumpward" ({ cls := "Bumpward", name := "may", desc := "(II)Z" } : Jvm.MethodName) ({ cls := "Bumpward", name := "may", desc := "(II)Z" } : Jvm.MethodName)) ∈ lw_all := lw_g (lw_at lw_m6 45 rfl) rfl
theorem q1294 : (Jvm.Cond.code ({ cls := "Bumpward", name := "may", desc := "(II)Z" } : Jvm.MethodName) prog_1_method_47_code (4 : Nat) (Option.some Jvm.ClassFile.FieldType.boolean)) ∈ lw_all := lw_g (lw_at lw_m6 46 rfl) rfl
theorem q1295 : (Jvm.Cond.stringRef "Bumpward" (396 : Nat) "pose") ∈ lw_tbl := lw_at lw_m6 47 rfl
theorem q1296 : (Jvm.Cond.methodLink "Bumpward" (397 : Nat) ({ cls := "Bumpward$Belief", name := "has", desc := "(I)Z" } : Jvm.MethodName)) ∈ lw_all := lw_g (lw_at lw_m6 48 rfl) rfl
theorem q1304 : (Jvm.Cond.instanceMethod ({ cls := "Bumpward", name := "where", desc := "(II)J" } : Jvm.MethodName)) ∈ lw_all := lw_g (lw_at lw_m6 56 rfl) rfl
theorem q1305 : (Jvm.Cond.selects "Bumpward" ({ cls := "Bumpward", name := "where", desc := "(II)J" } : Jvm.MethodName) ({ cls := "Bumpward", name := "where", desc := "(II)J" } : Jvm.MethodName)) ∈ lw_all := lw_g (lw_at lw_m6 57 rfl) rfl
theorem q1306 : (Jvm.Cond.code ({ cls := "Bumpward", name := "where", desc := "(II)J" } : Jvm.MethodName) prog_1_method_48_code (4 : Nat) (Option.some Jvm.ClassFile.FieldType.long)) ∈ lw_all := lw_g (lw_at lw_m6 58 rfl) rfl
theorem q1307 : (Jvm.Cond.stringRef "Bumpward" (400 : Nat) "facing") ∈ lw_tbl := lw_at lw_m6 59 rfl
theorem q1312 : (Jvm.Cond.instanceMethod ({ cls := "Bumpward", name := "way", desc := "(III)I" } : Jvm.MethodName)) ∈ lw_all := lw_g (lw_at lw_m6 64 rfl) rfl
theorem q1313 : (Jvm.Cond.selects "Bumpward" ({ cls := "Bumpward", name := "way", desc := "(III)I" } : Jvm.MethodName) ({ cls := "Bumpward", name := "way", desc := "(III)I" } : Jvm.MethodName)) ∈ lw_all := lw_g (lw_at lw_m6 65 rfl) rfl
theorem q1314 : (Jvm.Cond.code ({ cls := "Bumpward", name := "way", desc := "(III)I" } : Jvm.MethodName) prog_1_method_49_code (5 : Nat) (Option.some Jvm.ClassFile.FieldType.int)) ∈ lw_all := lw_g (lw_at lw_m6 66 rfl) rfl
theorem q1315 : (Jvm.Cond.methodLink "Bumpward" (405 : Nat) ({ cls := "Bumpward$Plan", name := "ways", desc := "(I)[I" } : Jvm.MethodName)) ∈ lw_all := lw_g (lw_at lw_m6 67 rfl) rfl
theorem q1320 : (Jvm.Cond.instanceMethod ({ cls := "Bumpward", name := "safety", desc := "(II)I" } : Jvm.MethodName)) ∈ lw_all := lw_g (lw_at lw_m6 72 rfl) rfl
theorem q1321 : (Jvm.Cond.selects "Bumpward" ({ cls := "Bumpward", name := "safety", desc := "(II)I" } : Jvm.MethodName) ({ cls := "Bumpward", name := "safety", desc := "(II)I" } : Jvm.MethodName)) ∈ lw_all := lw_g (lw_at lw_m6 73 rfl) rfl
theorem q1322 : (Jvm.Cond.code ({ cls := "Bumpward", name := "safety", desc := "(II)I" } : Jvm.MethodName) prog_1_method_51_code (4 : Nat) (Option.some Jvm.ClassFile.FieldType.int)) ∈ lw_all := lw_g (lw_at lw_m6 74 rfl) rfl
theorem q1327 : (Jvm.Cond.instanceMethod ({ cls := "Bumpward", name := "doubt", desc := "(I)D" } : Jvm.MethodName)) ∈ lw_all := lw_g (lw_at lw_m6 79 rfl) rfl
theorem q1328 : (Jvm.Cond.selects "Bumpward" ({ cls := "Bumpward", name := "doubt", desc := "(I)D" } : Jvm.MethodName) ({ cls := "Bumpward", name := "doubt", desc := "(I)D" } : Jvm.MethodName)) ∈ lw_all := lw_g (lw_at lw_m6 80 rfl) rfl
theorem q1329 : (Jvm.Cond.code ({ cls := "Bumpward", name := "doubt", desc := "(I)D" } : Jvm.MethodName) prog_1_method_53_code (2 : Nat) (Option.some Jvm.ClassFile.FieldType.double)) ∈ lw_all := lw_g (lw_at lw_m6 81 rfl) rfl
theorem q1334 : (Jvm.Cond.instanceMethod ({ cls := "Bumpward", name := "worst", desc := "(II)I" } : Jvm.MethodName)) ∈ lw_all := lw_g (lw_at lw_m6 86 rfl) rfl
theorem q1335 : (Jvm.Cond.selects "Bumpward" ({ cls := "Bumpward", name := "worst", desc := "(II)I" } : Jvm.MethodName) ({ cls := "Bumpward", name := "worst", desc := "(II)I" } : Jvm.MethodName)) ∈ lw_all := lw_g (lw_at lw_m6 87 rfl) rfl
theorem q1336 : (Jvm.Cond.code ({ cls := "Bumpward", name := "worst", desc := "(II)I" } : Jvm.MethodName) prog_1_method_54_code (4 : Nat) (Option.some Jvm.ClassFile.FieldType.int)) ∈ lw_all := lw_g (lw_at lw_m6 88 rfl) rfl
theorem q1341 : (Jvm.Cond.instanceMethod ({ cls := "Bumpward", name := "best", desc := "(I)I" } : Jvm.MethodName)) ∈ lw_all := lw_g (lw_at lw_m6 93 rfl) rfl
theorem q1342 : (Jvm.Cond.selects "Bumpward" ({ cls := "Bumpward", name := "best", desc := "(I)I" } : Jvm.MethodName) ({ cls := "Bumpward", name := "best", desc := "(I)I" } : Jvm.MethodName)) ∈ lw_all := lw_g (lw_at lw_m6 94 rfl) rfl
theorem q1343 : (Jvm.Cond.code ({ cls := "Bumpward", name := "best", desc := "(I)I" } : Jvm.MethodName) prog_1_method_55_code (2 : Nat) (Option.some Jvm.ClassFile.FieldType.int)) ∈ lw_all := lw_g (lw_at lw_m6 95 rfl) rfl
theorem q1348 : (Jvm.Cond.instanceMethod ({ cls := "Bumpward", name := "wouldFeel", desc := "(II)I" } : Jvm.MethodName)) ∈ lw_all := lw_g (lw_at lw_m6 100 rfl) rfl
theorem q1349 : (Jvm.Cond.selects "Bumpward" ({ cls := "Bumpward", name := "wouldFeel", desc := "(II)I" } : Jvm.MethodName) ({ cls := "Bumpward", name := "wouldFeel", desc := "(II)I" } : Jvm.MethodName)) ∈ lw_all := lw_g (lw_at lw_m6 101 rfl) rfl
theorem q1350 : (Jvm.Cond.code ({ cls := "Bumpward", name := "wouldFeel", desc := "(II)I" } : Jvm.MethodName) prog_1_method_56_code (4 : Nat) (Option.some Jvm.ClassFile.FieldType.int)) ∈ lw_all := lw_g (lw_at lw_m6 102 rfl) rfl
theorem q1351 : (Jvm.Cond.stringRef "Bumpward" (439 : Nat) "answer") ∈ lw_tbl := lw_at lw_m6 103 rfl
theorem q1356 : (Jvm.Cond.instanceMethod ({ cls := "Bumpward", name := "wouldBe", desc := "(II)I" } : Jvm.MethodName)) ∈ lw_all := lw_g (lw_at lw_m6 108 rfl) rfl
theorem q1357 : (Jvm.Cond.selects "Bumpward" ({ cls := "Bumpward", name := "wouldBe", desc := "(II)I" } : Jvm.MethodName) ({ cls := "Bumpward", name := "wouldBe", desc := "(II)I" } : Jvm.MethodName)) ∈ lw_all := lw_g (lw_at lw_m6 109 rfl) rfl
theorem q1358 : (Jvm.Cond.code ({ cls := "Bumpward", name := "wouldBe", desc := "(II)I" } : Jvm.MethodName) prog_1_method_57_code (3 : Nat) (Option.some Jvm.ClassFile.FieldType.int)) ∈ lw_all := lw_g (lw_at lw_m6 110 rfl) rfl
theorem q1794 : (Jvm.Cond.castable "Bumpward" "java/lang/Object") ∈ lw_tbl := lw_at lw_m8 66 rfl
theorem q1828 : (Jvm.Cond.fieldLink "Bumpward" (386 : Nat) "Bumpward$Kind" "sign" "C") ∈ lw_all := lw_g (lw_at lw_m8 100 rfl) rfl
theorem in_X1 : ∀ w ∈ wsX10, w ∈ lw_all := lw_in wsX10 [176, 178, 180, 182, 184, 186, 188, 190, 192, 194] (by decide +kernel) (by decide +kernel)
